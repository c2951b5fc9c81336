set_option maxRecDepth 100000
abbrev cX16_remember : ByteArray := prog_28_method_14_code
def yX16_remember : MethodName := ⟨RX16, "remember", "(I)V"⟩
def dkwX16_remember_2 : List UInt8 := [42, 180, 0, 11, 7, 46, 16, 8, 162, 0, 7, 4, 167, 0, 4, 3, 96, 79, 177]
abbrev dktX16_remember_2 : List UInt8 := dkwX16_remember_2 ++ []
def dkwX16_remember_1 : List UInt8 := [100, 46, 79, 132, 2, 255, 167, 255, 229, 42, 180, 0, 11, 16, 60, 27, 79, 42, 180, 0, 11, 7, 92, 46]
abbrev dktX16_remember_1 : List UInt8 := dkwX16_remember_1 ++ dktX16_remember_2
def dkwX16_remember_0 : List UInt8 := [16, 7, 61, 28, 158, 0, 29, 42, 180, 0, 11, 16, 60, 28, 96, 42, 180, 0, 11, 16, 60, 28, 96, 4]
abbrev dktX16_remember_0 : List UInt8 := dkwX16_remember_0 ++ dktX16_remember_1
theorem dksX16_remember_0 : cX16_remember.data.toList.drop 0 = dktX16_remember_0 := by decide +kernel
theorem dksX16_remember_1 : cX16_remember.data.toList.drop 24 = dktX16_remember_1 := dk_seg dksX16_remember_0 24 rfl rfl
theorem dksX16_remember_2 : cX16_remember.data.toList.drop 48 = dktX16_remember_2 := dk_seg dksX16_remember_1 24 rfl rfl
theorem dX16_remember_0 : decode cX16_remember 0 = .ok (.bipush 7, 2) := dk_16 7 (dk_at dksX16_remember_0 0 rfl rfl)
theorem dX16_remember_2 : decode cX16_remember 2 = .ok (.istore_n 2, 1) := dk_61 (dk_at dksX16_remember_0 2 rfl rfl)
theorem dX16_remember_3 : decode cX16_remember 3 = .ok (.iload_n 2, 1) := dk_28 (dk_at dksX16_remember_0 3 rfl rfl)
theorem dX16_remember_4 : decode cX16_remember 4 = .ok (.ifCond .le 29, 3) := dk_158 0 29 (dk_at dksX16_remember_0 4 rfl rfl)
theorem dX16_remember_7 : decode cX16_remember 7 = .ok (.aload_n 0, 1) := dk_42 (dk_at dksX16_remember_0 7 rfl rfl)
theorem dX16_remember_8 : decode cX16_remember 8 = .ok (.getfield 11, 3) := dk_180 0 11 (dk_at dksX16_remember_0 8 rfl rfl)
theorem dX16_remember_11 : decode cX16_remember 11 = .ok (.bipush 60, 2) := dk_16 60 (dk_at dksX16_remember_0 11 rfl rfl)
theorem dX16_remember_13 : decode cX16_remember 13 = .ok (.iload_n 2, 1) := dk_28 (dk_at dksX16_remember_0 13 rfl rfl)
theorem dX16_remember_14 : decode cX16_remember 14 = .ok (.iadd, 1) := dk_96 (dk_at dksX16_remember_0 14 rfl rfl)
theorem dX16_remember_15 : decode cX16_remember 15 = .ok (.aload_n 0, 1) := dk_42 (dk_at dksX16_remember_0 15 rfl rfl)
theorem dX16_remember_16 : decode cX16_remember 16 = .ok (.getfield 11, 3) := dk_180 0 11 (dk_at dksX16_remember_0 16 rfl rfl)
theorem dX16_remember_19 : decode cX16_remember 19 = .ok (.bipush 60, 2) := dk_16 60 (dk_at dksX16_remember_0 19 rfl rfl)
theorem dX16_remember_21 : decode cX16_remember 21 = .ok (.iload_n 2, 1) := dk_28 (dk_at dksX16_remember_0 21 rfl rfl)
theorem dX16_remember_22 : decode cX16_remember 22 = .ok (.iadd, 1) := dk_96 (dk_at dksX16_remember_0 22 rfl rfl)
theorem dX16_remember_23 : decode cX16_remember 23 = .ok (.iconst 1, 1) := dk_4 (dk_at dksX16_remember_0 23 rfl rfl)
theorem dX16_remember_24 : decode cX16_remember 24 = .ok (.isub, 1) := dk_100 (dk_at dksX16_remember_1 0 rfl rfl)
theorem dX16_remember_25 : decode cX16_remember 25 = .ok (.iaload, 1) := dk_46 (dk_at dksX16_remember_1 1 rfl rfl)
theorem dX16_remember_26 : decode cX16_remember 26 = .ok (.iastore, 1) := dk_79 (dk_at dksX16_remember_1 2 rfl rfl)
theorem dX16_remember_27 : decode cX16_remember 27 = .ok (.iinc 2 (-1), 3) := dk_132 2 255 (dk_at dksX16_remember_1 3 rfl rfl)
theorem dX16_remember_30 : decode cX16_remember 30 = .ok (.goto (-27), 3) := dk_167 255 229 (dk_at dksX16_remember_1 6 rfl rfl)
theorem dX16_remember_33 : decode cX16_remember 33 = .ok (.aload_n 0, 1) := dk_42 (dk_at dksX16_remember_1 9 rfl rfl)
theorem dX16_remember_34 : decode cX16_remember 34 = .ok (.getfield 11, 3) := dk_180 0 11 (dk_at dksX16_remember_1 10 rfl rfl)
theorem dX16_remember_37 : decode cX16_remember 37 = .ok (.bipush 60, 2) := dk_16 60 (dk_at dksX16_remember_1 13 rfl rfl)
theorem dX16_remember_39 : decode cX16_remember 39 = .ok (.iload_n 1, 1) := dk_27 (dk_at dksX16_remember_1 15 rfl rfl)
theorem dX16_remember_40 : decode cX16_remember 40 = .ok (.iastore, 1) := dk_79 (dk_at dksX16_remember_1 16 rfl rfl)
theorem dX16_remember_41 : decode cX16_remember 41 = .ok (.aload_n 0, 1) := dk_42 (dk_at dksX16_remember_1 17 rfl rfl)
theorem dX16_remember_42 : decode cX16_remember 42 = .ok (.getfield 11, 3) := dk_180 0 11 (dk_at dksX16_remember_1 18 rfl rfl)
theorem dX16_remember_45 : decode cX16_remember 45 = .ok (.iconst 4, 1) := dk_7 (dk_at dksX16_remember_1 21 rfl rfl)
theorem dX16_remember_46 : decode cX16_remember 46 = .ok (.dup2, 1) := dk_92 (dk_at dksX16_remember_1 22 rfl rfl)
theorem dX16_remember_47 : decode cX16_remember 47 = .ok (.iaload, 1) := dk_46 (dk_at dksX16_remember_1 23 rfl rfl)
theorem dX16_remember_48 : decode cX16_remember 48 = .ok (.aload_n 0, 1) := dk_42 (dk_at dksX16_remember_2 0 rfl rfl)
theorem dX16_remember_49 : decode cX16_remember 49 = .ok (.getfield 11, 3) := dk_180 0 11 (dk_at dksX16_remember_2 1 rfl rfl)
theorem dX16_remember_52 : decode cX16_remember 52 = .ok (.iconst 4, 1) := dk_7 (dk_at dksX16_remember_2 4 rfl rfl)
theorem dX16_remember_53 : decode cX16_remember 53 = .ok (.iaload, 1) := dk_46 (dk_at dksX16_remember_2 5 rfl rfl)
theorem dX16_remember_54 : decode cX16_remember 54 = .ok (.bipush 8, 2) := dk_16 8 (dk_at dksX16_remember_2 6 rfl rfl)
theorem dX16_remember_56 : decode cX16_remember 56 = .ok (.if_icmp .ge 7, 3) := dk_162 0 7 (dk_at dksX16_remember_2 8 rfl rfl)
theorem dX16_remember_59 : decode cX16_remember 59 = .ok (.iconst 1, 1) := dk_4 (dk_at dksX16_remember_2 11 rfl rfl)
theorem dX16_remember_60 : decode cX16_remember 60 = .ok (.goto 4, 3) := dk_167 0 4 (dk_at dksX16_remember_2 12 rfl rfl)
theorem dX16_remember_63 : decode cX16_remember 63 = .ok (.iconst 0, 1) := dk_3 (dk_at dksX16_remember_2 15 rfl rfl)
theorem dX16_remember_64 : decode cX16_remember 64 = .ok (.iadd, 1) := dk_96 (dk_at dksX16_remember_2 16 rfl rfl)
theorem dX16_remember_65 : decode cX16_remember 65 = .ok (.iastore, 1) := dk_79 (dk_at dksX16_remember_2 17 rfl rfl)
theorem dX16_remember_66 : decode cX16_remember 66 = .ok (.return_, 1) := dk_177 (dk_at dksX16_remember_2 18 rfl rfl)
abbrev cX16_sort : ByteArray := prog_28_method_27_code
def yX16_sort : MethodName := ⟨RX16, "sort", "(II)I"⟩
def dkwX16_sort_1 : List UInt8 := [16, 254, 182, 0, 21, 167, 0, 9, 42, 27, 28, 182, 0, 69, 172]
abbrev dktX16_sort_1 : List UInt8 := dkwX16_sort_1 ++ []
def dkwX16_sort_0 : List UInt8 := [42, 27, 182, 0, 142, 153, 0, 9, 42, 2, 182, 0, 21, 172, 28, 155, 0, 8, 28, 8, 164, 0, 12, 42]
abbrev dktX16_sort_0 : List UInt8 := dkwX16_sort_0 ++ dktX16_sort_1
theorem dksX16_sort_0 : cX16_sort.data.toList.drop 0 = dktX16_sort_0 := by decide +kernel
theorem dksX16_sort_1 : cX16_sort.data.toList.drop 24 = dktX16_sort_1 := dk_seg dksX16_sort_0 24 rfl rfl
theorem dX16_sort_0 : decode cX16_sort 0 = .ok (.aload_n 0, 1) := dk_42 (dk_at dksX16_sort_0 0 rfl rfl)
theorem dX16_sort_1 : decode cX16_sort 1 = .ok (.iload_n 1, 1) := dk_27 (dk_at dksX16_sort_0 1 rfl rfl)
theorem dX16_sort_2 : decode cX16_sort 2 = .ok (.invokevirtual 142, 3) := dk_182 0 142 (dk_at dksX16_sort_0 2 rfl rfl)
theorem dX16_sort_5 : decode cX16_sort 5 = .ok (.ifCond .eq 9, 3) := dk_153 0 9 (dk_at dksX16_sort_0 5 rfl rfl)
theorem dX16_sort_8 : decode cX16_sort 8 = .ok (.aload_n 0, 1) := dk_42 (dk_at dksX16_sort_0 8 rfl rfl)
theorem dX16_sort_9 : decode cX16_sort 9 = .ok (.iconst (-1), 1) := dk_2 (dk_at dksX16_sort_0 9 rfl rfl)
theorem dX16_sort_10 : decode cX16_sort 10 = .ok (.invokevirtual 21, 3) := dk_182 0 21 (dk_at dksX16_sort_0 10 rfl rfl)
theorem dX16_sort_13 : decode cX16_sort 13 = .ok (.ireturn, 1) := dk_172 (dk_at dksX16_sort_0 13 rfl rfl)
theorem dX16_sort_14 : decode cX16_sort 14 = .ok (.iload_n 2, 1) := dk_28 (dk_at dksX16_sort_0 14 rfl rfl)
theorem dX16_sort_15 : decode cX16_sort 15 = .ok (.ifCond .lt 8, 3) := dk_155 0 8 (dk_at dksX16_sort_0 15 rfl rfl)
theorem dX16_sort_18 : decode cX16_sort 18 = .ok (.iload_n 2, 1) := dk_28 (dk_at dksX16_sort_0 18 rfl rfl)
theorem dX16_sort_19 : decode cX16_sort 19 = .ok (.iconst 5, 1) := dk_8 (dk_at dksX16_sort_0 19 rfl rfl)
theorem dX16_sort_20 : decode cX16_sort 20 = .ok (.if_icmp .le 12, 3) := dk_164 0 12 (dk_at dksX16_sort_0 20 rfl rfl)
theorem dX16_sort_23 : decode cX16_sort 23 = .ok (.aload_n 0, 1) := dk_42 (dk_at dksX16_sort_0 23 rfl rfl)
theorem dX16_sort_24 : decode cX16_sort 24 = .ok (.bipush (-2), 2) := dk_16 254 (dk_at dksX16_sort_1 0 rfl rfl)
theorem dX16_sort_26 : decode cX16_sort 26 = .ok (.invokevirtual 21, 3) := dk_182 0 21 (dk_at dksX16_sort_1 2 rfl rfl)
theorem dX16_sort_29 : decode cX16_sort 29 = .ok (.goto 9, 3) := dk_167 0 9 (dk_at dksX16_sort_1 5 rfl rfl)
theorem dX16_sort_32 : decode cX16_sort 32 = .ok (.aload_n 0, 1) := dk_42 (dk_at dksX16_sort_1 8 rfl rfl)
theorem dX16_sort_33 : decode cX16_sort 33 = .ok (.iload_n 1, 1) := dk_27 (dk_at dksX16_sort_1 9 rfl rfl)
theorem dX16_sort_34 : decode cX16_sort 34 = .ok (.iload_n 2, 1) := dk_28 (dk_at dksX16_sort_1 10 rfl rfl)
theorem dX16_sort_35 : decode cX16_sort 35 = .ok (.invokevirtual 69, 3) := dk_182 0 69 (dk_at dksX16_sort_1 11 rfl rfl)
theorem dX16_sort_38 : decode cX16_sort 38 = .ok (.ireturn, 1) := dk_172 (dk_at dksX16_sort_1 14 rfl rfl)
abbrev cX16_isNoSort : ByteArray := prog_28_method_26_code
def yX16_isNoSort : MethodName := ⟨RX16, "isNoSort", "(I)Z"⟩
def dkwX16_isNoSort_0 : List UInt8 := [27, 155, 0, 13, 27, 42, 180, 0, 11, 3, 46, 161, 0, 7, 4, 167, 0, 4, 3, 172]
abbrev dktX16_isNoSort_0 : List UInt8 := dkwX16_isNoSort_0 ++ []
theorem dksX16_isNoSort_0 : cX16_isNoSort.data.toList.drop 0 = dktX16_isNoSort_0 := by decide +kernel
theorem dX16_isNoSort_0 : decode cX16_isNoSort 0 = .ok (.iload_n 1, 1) := dk_27 (dk_at dksX16_isNoSort_0 0 rfl rfl)
theorem dX16_isNoSort_1 : decode cX16_isNoSort 1 = .ok (.ifCond .lt 13, 3) := dk_155 0 13 (dk_at dksX16_isNoSort_0 1 rfl rfl)
theorem dX16_isNoSort_4 : decode cX16_isNoSort 4 = .ok (.iload_n 1, 1) := dk_27 (dk_at dksX16_isNoSort_0 4 rfl rfl)
theorem dX16_isNoSort_5 : decode cX16_isNoSort 5 = .ok (.aload_n 0, 1) := dk_42 (dk_at dksX16_isNoSort_0 5 rfl rfl)
theorem dX16_isNoSort_6 : decode cX16_isNoSort 6 = .ok (.getfield 11, 3) := dk_180 0 11 (dk_at dksX16_isNoSort_0 6 rfl rfl)
theorem dX16_isNoSort_9 : decode cX16_isNoSort 9 = .ok (.iconst 0, 1) := dk_3 (dk_at dksX16_isNoSort_0 9 rfl rfl)
theorem dX16_isNoSort_10 : decode cX16_isNoSort 10 = .ok (.iaload, 1) := dk_46 (dk_at dksX16_isNoSort_0 10 rfl rfl)
theorem dX16_isNoSort_11 : decode cX16_isNoSort 11 = .ok (.if_icmp .lt 7, 3) := dk_161 0 7 (dk_at dksX16_isNoSort_0 11 rfl rfl)
theorem dX16_isNoSort_14 : decode cX16_isNoSort 14 = .ok (.iconst 1, 1) := dk_4 (dk_at dksX16_isNoSort_0 14 rfl rfl)
theorem dX16_isNoSort_15 : decode cX16_isNoSort 15 = .ok (.goto 4, 3) := dk_167 0 4 (dk_at dksX16_isNoSort_0 15 rfl rfl)
theorem dX16_isNoSort_18 : decode cX16_isNoSort 18 = .ok (.iconst 0, 1) := dk_3 (dk_at dksX16_isNoSort_0 18 rfl rfl)
theorem dX16_isNoSort_19 : decode cX16_isNoSort 19 = .ok (.ireturn, 1) := dk_172 (dk_at dksX16_isNoSort_0 19 rfl rfl)
abbrev cX16_of : ByteArray := prog_28_method_6_code
def yX16_of : MethodName := ⟨RX16, "of", "(II)I"⟩
def dkwX16_of_0 : List UInt8 := [42, 180, 0, 11, 16, 10, 16, 6, 27, 104, 96, 28, 96, 46, 172]
abbrev dktX16_of_0 : List UInt8 := dkwX16_of_0 ++ []
theorem dksX16_of_0 : cX16_of.data.toList.drop 0 = dktX16_of_0 := by decide +kernel
theorem dX16_of_0 : decode cX16_of 0 = .ok (.aload_n 0, 1) := dk_42 (dk_at dksX16_of_0 0 rfl rfl)
theorem dX16_of_1 : decode cX16_of 1 = .ok (.getfield 11, 3) := dk_180 0 11 (dk_at dksX16_of_0 1 rfl rfl)
theorem dX16_of_4 : decode cX16_of 4 = .ok (.bipush 10, 2) := dk_16 10 (dk_at dksX16_of_0 4 rfl rfl)
theorem dX16_of_6 : decode cX16_of 6 = .ok (.bipush 6, 2) := dk_16 6 (dk_at dksX16_of_0 6 rfl rfl)
theorem dX16_of_8 : decode cX16_of 8 = .ok (.iload_n 1, 1) := dk_27 (dk_at dksX16_of_0 8 rfl rfl)
theorem dX16_of_9 : decode cX16_of 9 = .ok (.imul, 1) := dk_104 (dk_at dksX16_of_0 9 rfl rfl)
theorem dX16_of_10 : decode cX16_of 10 = .ok (.iadd, 1) := dk_96 (dk_at dksX16_of_0 10 rfl rfl)
theorem dX16_of_11 : decode cX16_of 11 = .ok (.iload_n 2, 1) := dk_28 (dk_at dksX16_of_0 11 rfl rfl)
theorem dX16_of_12 : decode cX16_of 12 = .ok (.iadd, 1) := dk_96 (dk_at dksX16_of_0 12 rfl rfl)
theorem dX16_of_13 : decode cX16_of 13 = .ok (.iaload, 1) := dk_46 (dk_at dksX16_of_0 13 rfl rfl)
theorem dX16_of_14 : decode cX16_of 14 = .ok (.ireturn, 1) := dk_172 (dk_at dksX16_of_0 14 rfl rfl)
abbrev cX16_rule : ByteArray := prog_28_method_28_code
def yX16_rule : MethodName := ⟨RX16, "rule", "(II)I"⟩
def dkwX16_rule_3 : List UInt8 := [42, 180, 0, 11, 16, 40, 6, 27, 104, 96, 28, 96, 46, 172]
abbrev dktX16_rule_3 : List UInt8 := dkwX16_rule_3 ++ []
def dkwX16_rule_2 : List UInt8 := [6, 27, 104, 96, 46, 42, 180, 0, 11, 16, 40, 6, 27, 104, 96, 4, 96, 46, 182, 0, 126, 167, 0, 16]
abbrev dktX16_rule_2 : List UInt8 := dkwX16_rule_2 ++ dktX16_rule_3
def dkwX16_rule_1 : List UInt8 := [28, 6, 164, 0, 10, 42, 16, 254, 182, 0, 21, 172, 28, 6, 160, 0, 34, 42, 42, 180, 0, 11, 16, 40]
abbrev dktX16_rule_1 : List UInt8 := dkwX16_rule_1 ++ dktX16_rule_2
def dkwX16_rule_0 : List UInt8 := [27, 155, 0, 13, 27, 42, 180, 0, 11, 4, 46, 161, 0, 9, 42, 2, 182, 0, 21, 172, 28, 155, 0, 8]
abbrev dktX16_rule_0 : List UInt8 := dkwX16_rule_0 ++ dktX16_rule_1
theorem dksX16_rule_0 : cX16_rule.data.toList.drop 0 = dktX16_rule_0 := by decide +kernel
theorem dksX16_rule_1 : cX16_rule.data.toList.drop 24 = dktX16_rule_1 := dk_seg dksX16_rule_0 24 rfl rfl
theorem dksX16_rule_2 : cX16_rule.data.toList.drop 48 = dktX16_rule_2 := dk_seg dksX16_rule_1 24 rfl rfl
theorem dksX16_rule_3 : cX16_rule.data.toList.drop 72 = dktX16_rule_3 := dk_seg dksX16_rule_2 24 rfl rfl
theorem dX16_rule_0 : decode cX16_rule 0 = .ok (.iload_n 1, 1) := dk_27 (dk_at dksX16_rule_0 0 rfl rfl)
theorem dX16_rule_1 : decode cX16_rule 1 = .ok (.ifCond .lt 13, 3) := dk_155 0 13 (dk_at dksX16_rule_0 1 rfl rfl)
theorem dX16_rule_4 : decode cX16_rule 4 = .ok (.iload_n 1, 1) := dk_27 (dk_at dksX16_rule_0 4 rfl rfl)
theorem dX16_rule_5 : decode cX16_rule 5 = .ok (.aload_n 0, 1) := dk_42 (dk_at dksX16_rule_0 5 rfl rfl)
theorem dX16_rule_6 : decode cX16_rule 6 = .ok (.getfield 11, 3) := dk_180 0 11 (dk_at dksX16_rule_0 6 rfl rfl)
theorem dX16_rule_9 : decode cX16_rule 9 = .ok (.iconst 1, 1) := dk_4 (dk_at dksX16_rule_0 9 rfl rfl)
theorem dX16_rule_10 : decode cX16_rule 10 = .ok (.iaload, 1) := dk_46 (dk_at dksX16_rule_0 10 rfl rfl)
theorem dX16_rule_11 : decode cX16_rule 11 = .ok (.if_icmp .lt 9, 3) := dk_161 0 9 (dk_at dksX16_rule_0 11 rfl rfl)
theorem dX16_rule_14 : decode cX16_rule 14 = .ok (.aload_n 0, 1) := dk_42 (dk_at dksX16_rule_0 14 rfl rfl)
theorem dX16_rule_15 : decode cX16_rule 15 = .ok (.iconst (-1), 1) := dk_2 (dk_at dksX16_rule_0 15 rfl rfl)
theorem dX16_rule_16 : decode cX16_rule 16 = .ok (.invokevirtual 21, 3) := dk_182 0 21 (dk_at dksX16_rule_0 16 rfl rfl)
theorem dX16_rule_19 : decode cX16_rule 19 = .ok (.ireturn, 1) := dk_172 (dk_at dksX16_rule_0 19 rfl rfl)
theorem dX16_rule_20 : decode cX16_rule 20 = .ok (.iload_n 2, 1) := dk_28 (dk_at dksX16_rule_0 20 rfl rfl)
theorem dX16_rule_21 : decode cX16_rule 21 = .ok (.ifCond .lt 8, 3) := dk_155 0 8 (dk_at dksX16_rule_0 21 rfl rfl)
theorem dX16_rule_24 : decode cX16_rule 24 = .ok (.iload_n 2, 1) := dk_28 (dk_at dksX16_rule_1 0 rfl rfl)
theorem dX16_rule_25 : decode cX16_rule 25 = .ok (.iconst 3, 1) := dk_6 (dk_at dksX16_rule_1 1 rfl rfl)
theorem dX16_rule_26 : decode cX16_rule 26 = .ok (.if_icmp .le 10, 3) := dk_164 0 10 (dk_at dksX16_rule_1 2 rfl rfl)
theorem dX16_rule_29 : decode cX16_rule 29 = .ok (.aload_n 0, 1) := dk_42 (dk_at dksX16_rule_1 5 rfl rfl)
theorem dX16_rule_30 : decode cX16_rule 30 = .ok (.bipush (-2), 2) := dk_16 254 (dk_at dksX16_rule_1 6 rfl rfl)
theorem dX16_rule_32 : decode cX16_rule 32 = .ok (.invokevirtual 21, 3) := dk_182 0 21 (dk_at dksX16_rule_1 8 rfl rfl)
theorem dX16_rule_35 : decode cX16_rule 35 = .ok (.ireturn, 1) := dk_172 (dk_at dksX16_rule_1 11 rfl rfl)
theorem dX16_rule_36 : decode cX16_rule 36 = .ok (.iload_n 2, 1) := dk_28 (dk_at dksX16_rule_1 12 rfl rfl)
theorem dX16_rule_37 : decode cX16_rule 37 = .ok (.iconst 3, 1) := dk_6 (dk_at dksX16_rule_1 13 rfl rfl)
theorem dX16_rule_38 : decode cX16_rule 38 = .ok (.if_icmp .ne 34, 3) := dk_160 0 34 (dk_at dksX16_rule_1 14 rfl rfl)
theorem dX16_rule_41 : decode cX16_rule 41 = .ok (.aload_n 0, 1) := dk_42 (dk_at dksX16_rule_1 17 rfl rfl)
theorem dX16_rule_42 : decode cX16_rule 42 = .ok (.aload_n 0, 1) := dk_42 (dk_at dksX16_rule_1 18 rfl rfl)
theorem dX16_rule_43 : decode cX16_rule 43 = .ok (.getfield 11, 3) := dk_180 0 11 (dk_at dksX16_rule_1 19 rfl rfl)
theorem dX16_rule_46 : decode cX16_rule 46 = .ok (.bipush 40, 2) := dk_16 40 (dk_at dksX16_rule_1 22 rfl rfl)
theorem dX16_rule_48 : decode cX16_rule 48 = .ok (.iconst 3, 1) := dk_6 (dk_at dksX16_rule_2 0 rfl rfl)
theorem dX16_rule_49 : decode cX16_rule 49 = .ok (.iload_n 1, 1) := dk_27 (dk_at dksX16_rule_2 1 rfl rfl)
theorem dX16_rule_50 : decode cX16_rule 50 = .ok (.imul, 1) := dk_104 (dk_at dksX16_rule_2 2 rfl rfl)
theorem dX16_rule_51 : decode cX16_rule 51 = .ok (.iadd, 1) := dk_96 (dk_at dksX16_rule_2 3 rfl rfl)
theorem dX16_rule_52 : decode cX16_rule 52 = .ok (.iaload, 1) := dk_46 (dk_at dksX16_rule_2 4 rfl rfl)
theorem dX16_rule_53 : decode cX16_rule 53 = .ok (.aload_n 0, 1) := dk_42 (dk_at dksX16_rule_2 5 rfl rfl)
theorem dX16_rule_54 : decode cX16_rule 54 = .ok (.getfield 11, 3) := dk_180 0 11 (dk_at dksX16_rule_2 6 rfl rfl)
theorem dX16_rule_57 : decode cX16_rule 57 = .ok (.bipush 40, 2) := dk_16 40 (dk_at dksX16_rule_2 9 rfl rfl)
theorem dX16_rule_59 : decode cX16_rule 59 = .ok (.iconst 3, 1) := dk_6 (dk_at dksX16_rule_2 11 rfl rfl)
theorem dX16_rule_60 : decode cX16_rule 60 = .ok (.iload_n 1, 1) := dk_27 (dk_at dksX16_rule_2 12 rfl rfl)
theorem dX16_rule_61 : decode cX16_rule 61 = .ok (.imul, 1) := dk_104 (dk_at dksX16_rule_2 13 rfl rfl)
theorem dX16_rule_62 : decode cX16_rule 62 = .ok (.iadd, 1) := dk_96 (dk_at dksX16_rule_2 14 rfl rfl)
theorem dX16_rule_63 : decode cX16_rule 63 = .ok (.iconst 1, 1) := dk_4 (dk_at dksX16_rule_2 15 rfl rfl)
theorem dX16_rule_64 : decode cX16_rule 64 = .ok (.iadd, 1) := dk_96 (dk_at dksX16_rule_2 16 rfl rfl)
theorem dX16_rule_65 : decode cX16_rule 65 = .ok (.iaload, 1) := dk_46 (dk_at dksX16_rule_2 17 rfl rfl)
theorem dX16_rule_66 : decode cX16_rule 66 = .ok (.invokevirtual 126, 3) := dk_182 0 126 (dk_at dksX16_rule_2 18 rfl rfl)
theorem dX16_rule_69 : decode cX16_rule 69 = .ok (.goto 16, 3) := dk_167 0 16 (dk_at dksX16_rule_2 21 rfl rfl)
theorem dX16_rule_72 : decode cX16_rule 72 = .ok (.aload_n 0, 1) := dk_42 (dk_at dksX16_rule_3 0 rfl rfl)
theorem dX16_rule_73 : decode cX16_rule 73 = .ok (.getfield 11, 3) := dk_180 0 11 (dk_at dksX16_rule_3 1 rfl rfl)
theorem dX16_rule_76 : decode cX16_rule 76 = .ok (.bipush 40, 2) := dk_16 40 (dk_at dksX16_rule_3 4 rfl rfl)
theorem dX16_rule_78 : decode cX16_rule 78 = .ok (.iconst 3, 1) := dk_6 (dk_at dksX16_rule_3 6 rfl rfl)
theorem dX16_rule_79 : decode cX16_rule 79 = .ok (.iload_n 1, 1) := dk_27 (dk_at dksX16_rule_3 7 rfl rfl)
theorem dX16_rule_80 : decode cX16_rule 80 = .ok (.imul, 1) := dk_104 (dk_at dksX16_rule_3 8 rfl rfl)
theorem dX16_rule_81 : decode cX16_rule 81 = .ok (.iadd, 1) := dk_96 (dk_at dksX16_rule_3 9 rfl rfl)
theorem dX16_rule_82 : decode cX16_rule 82 = .ok (.iload_n 2, 1) := dk_28 (dk_at dksX16_rule_3 10 rfl rfl)
theorem dX16_rule_83 : decode cX16_rule 83 = .ok (.iadd, 1) := dk_96 (dk_at dksX16_rule_3 11 rfl rfl)
theorem dX16_rule_84 : decode cX16_rule 84 = .ok (.iaload, 1) := dk_46 (dk_at dksX16_rule_3 12 rfl rfl)
theorem dX16_rule_85 : decode cX16_rule 85 = .ok (.ireturn, 1) := dk_172 (dk_at dksX16_rule_3 13 rfl rfl)
abbrev cX16_foretold : ByteArray := prog_28_method_19_code
def yX16_foretold : MethodName := ⟨RX16, "foretold", "(II)I"⟩
def dkwX16_foretold_5 : List UInt8 := [160, 0, 9, 29, 28, 108, 167, 0, 12, 3, 29, 28, 108, 28, 100, 184, 0, 121, 172]
abbrev dktX16_foretold_5 : List UInt8 := dkwX16_foretold_5 ++ []
def dkwX16_foretold_4 : List UInt8 := [21, 4, 28, 163, 0, 18, 29, 42, 21, 4, 182, 0, 115, 96, 62, 132, 4, 1, 167, 255, 238, 27, 5]
abbrev dktX16_foretold_4 : List UInt8 := dkwX16_foretold_4 ++ dktX16_foretold_5
def dkwX16_foretold_3 : List UInt8 := [4, 182, 0, 115, 104, 42, 28, 182, 0, 115, 100, 184, 0, 121, 172, 16, 10, 28, 104, 172, 4, 54, 4]
abbrev dktX16_foretold_3 : List UInt8 := dkwX16_foretold_3 ++ dktX16_foretold_4
def dkwX16_foretold_2 : List UInt8 := [42, 28, 182, 0, 115, 172, 3, 42, 182, 0, 118, 42, 28, 182, 0, 115, 100, 184, 0, 121, 172, 3, 5, 42]
abbrev dktX16_foretold_2 : List UInt8 := dkwX16_foretold_2 ++ dktX16_foretold_3
def dkwX16_foretold_1 : List UInt8 := [170, 0, 0, 0, 81, 0, 0, 0, 0, 0, 0, 0, 5, 0, 0, 0, 37, 0, 0, 0, 43, 0, 0, 0, 81, 0, 0, 0, 58, 0, 0, 0, 81, 0, 0, 0, 76]
abbrev dktX16_foretold_1 : List UInt8 := dkwX16_foretold_1 ++ dktX16_foretold_2
def dkwX16_foretold_0 : List UInt8 := [3, 62, 27]
abbrev dktX16_foretold_0 : List UInt8 := dkwX16_foretold_0 ++ dktX16_foretold_1
theorem dksX16_foretold_0 : cX16_foretold.data.toList.drop 0 = dktX16_foretold_0 := by decide +kernel
theorem dksX16_foretold_1 : cX16_foretold.data.toList.drop 3 = dktX16_foretold_1 := dk_seg dksX16_foretold_0 3 rfl rfl
theorem dksX16_foretold_2 : cX16_foretold.data.toList.drop 40 = dktX16_foretold_2 := dk_seg dksX16_foretold_1 37 rfl rfl
theorem dksX16_foretold_3 : cX16_foretold.data.toList.drop 64 = dktX16_foretold_3 := dk_seg dksX16_foretold_2 24 rfl rfl
theorem dksX16_foretold_4 : cX16_foretold.data.toList.drop 87 = dktX16_foretold_4 := dk_seg dksX16_foretold_3 23 rfl rfl
theorem dksX16_foretold_5 : cX16_foretold.data.toList.drop 110 = dktX16_foretold_5 := dk_seg dksX16_foretold_4 23 rfl rfl
theorem dX16_foretold_0 : decode cX16_foretold 0 = .ok (.iconst 0, 1) := dk_3 (dk_at dksX16_foretold_0 0 rfl rfl)
theorem dX16_foretold_1 : decode cX16_foretold 1 = .ok (.istore_n 3, 1) := dk_62 (dk_at dksX16_foretold_0 1 rfl rfl)
theorem dX16_foretold_2 : decode cX16_foretold 2 = .ok (.iload_n 1, 1) := dk_27 (dk_at dksX16_foretold_0 2 rfl rfl)
theorem dX16_foretold_3 : decode cX16_foretold 3 = .ok (.tableswitch 81 0 5 #[37, 43, 81, 58, 81, 76], 37) := by decide +kernel
theorem dX16_foretold_40 : decode cX16_foretold 40 = .ok (.aload_n 0, 1) := dk_42 (dk_at dksX16_foretold_2 0 rfl rfl)
theorem dX16_foretold_41 : decode cX16_foretold 41 = .ok (.iload_n 2, 1) := dk_28 (dk_at dksX16_foretold_2 1 rfl rfl)
theorem dX16_foretold_42 : decode cX16_foretold 42 = .ok (.invokevirtual 115, 3) := dk_182 0 115 (dk_at dksX16_foretold_2 2 rfl rfl)
theorem dX16_foretold_45 : decode cX16_foretold 45 = .ok (.ireturn, 1) := dk_172 (dk_at dksX16_foretold_2 5 rfl rfl)
theorem dX16_foretold_46 : decode cX16_foretold 46 = .ok (.iconst 0, 1) := dk_3 (dk_at dksX16_foretold_2 6 rfl rfl)
theorem dX16_foretold_47 : decode cX16_foretold 47 = .ok (.aload_n 0, 1) := dk_42 (dk_at dksX16_foretold_2 7 rfl rfl)
theorem dX16_foretold_48 : decode cX16_foretold 48 = .ok (.invokevirtual 118, 3) := dk_182 0 118 (dk_at dksX16_foretold_2 8 rfl rfl)
theorem dX16_foretold_51 : decode cX16_foretold 51 = .ok (.aload_n 0, 1) := dk_42 (dk_at dksX16_foretold_2 11 rfl rfl)
theorem dX16_foretold_52 : decode cX16_foretold 52 = .ok (.iload_n 2, 1) := dk_28 (dk_at dksX16_foretold_2 12 rfl rfl)
theorem dX16_foretold_53 : decode cX16_foretold 53 = .ok (.invokevirtual 115, 3) := dk_182 0 115 (dk_at dksX16_foretold_2 13 rfl rfl)
theorem dX16_foretold_56 : decode cX16_foretold 56 = .ok (.isub, 1) := dk_100 (dk_at dksX16_foretold_2 16 rfl rfl)
theorem dX16_foretold_57 : decode cX16_foretold 57 = .ok (.invokestatic 121, 3) := dk_184 0 121 (dk_at dksX16_foretold_2 17 rfl rfl)
theorem dX16_foretold_60 : decode cX16_foretold 60 = .ok (.ireturn, 1) := dk_172 (dk_at dksX16_foretold_2 20 rfl rfl)
theorem dX16_foretold_61 : decode cX16_foretold 61 = .ok (.iconst 0, 1) := dk_3 (dk_at dksX16_foretold_2 21 rfl rfl)
theorem dX16_foretold_62 : decode cX16_foretold 62 = .ok (.iconst 2, 1) := dk_5 (dk_at dksX16_foretold_2 22 rfl rfl)
theorem dX16_foretold_63 : decode cX16_foretold 63 = .ok (.aload_n 0, 1) := dk_42 (dk_at dksX16_foretold_2 23 rfl rfl)
theorem dX16_foretold_64 : decode cX16_foretold 64 = .ok (.iconst 1, 1) := dk_4 (dk_at dksX16_foretold_3 0 rfl rfl)
theorem dX16_foretold_65 : decode cX16_foretold 65 = .ok (.invokevirtual 115, 3) := dk_182 0 115 (dk_at dksX16_foretold_3 1 rfl rfl)
theorem dX16_foretold_68 : decode cX16_foretold 68 = .ok (.imul, 1) := dk_104 (dk_at dksX16_foretold_3 4 rfl rfl)
theorem dX16_foretold_69 : decode cX16_foretold 69 = .ok (.aload_n 0, 1) := dk_42 (dk_at dksX16_foretold_3 5 rfl rfl)
theorem dX16_foretold_70 : decode cX16_foretold 70 = .ok (.iload_n 2, 1) := dk_28 (dk_at dksX16_foretold_3 6 rfl rfl)
theorem dX16_foretold_71 : decode cX16_foretold 71 = .ok (.invokevirtual 115, 3) := dk_182 0 115 (dk_at dksX16_foretold_3 7 rfl rfl)
theorem dX16_foretold_74 : decode cX16_foretold 74 = .ok (.isub, 1) := dk_100 (dk_at dksX16_foretold_3 10 rfl rfl)
theorem dX16_foretold_75 : decode cX16_foretold 75 = .ok (.invokestatic 121, 3) := dk_184 0 121 (dk_at dksX16_foretold_3 11 rfl rfl)
theorem dX16_foretold_78 : decode cX16_foretold 78 = .ok (.ireturn, 1) := dk_172 (dk_at dksX16_foretold_3 14 rfl rfl)
theorem dX16_foretold_79 : decode cX16_foretold 79 = .ok (.bipush 10, 2) := dk_16 10 (dk_at dksX16_foretold_3 15 rfl rfl)
theorem dX16_foretold_81 : decode cX16_foretold 81 = .ok (.iload_n 2, 1) := dk_28 (dk_at dksX16_foretold_3 17 rfl rfl)
theorem dX16_foretold_82 : decode cX16_foretold 82 = .ok (.imul, 1) := dk_104 (dk_at dksX16_foretold_3 18 rfl rfl)
theorem dX16_foretold_83 : decode cX16_foretold 83 = .ok (.ireturn, 1) := dk_172 (dk_at dksX16_foretold_3 19 rfl rfl)
theorem dX16_foretold_84 : decode cX16_foretold 84 = .ok (.iconst 1, 1) := dk_4 (dk_at dksX16_foretold_3 20 rfl rfl)
theorem dX16_foretold_85 : decode cX16_foretold 85 = .ok (.istore 4, 2) := dk_54 4 (dk_at dksX16_foretold_3 21 rfl rfl)
theorem dX16_foretold_87 : decode cX16_foretold 87 = .ok (.iload 4, 2) := dk_21 4 (dk_at dksX16_foretold_4 0 rfl rfl)
theorem dX16_foretold_89 : decode cX16_foretold 89 = .ok (.iload_n 2, 1) := dk_28 (dk_at dksX16_foretold_4 2 rfl rfl)
theorem dX16_foretold_90 : decode cX16_foretold 90 = .ok (.if_icmp .gt 18, 3) := dk_163 0 18 (dk_at dksX16_foretold_4 3 rfl rfl)
theorem dX16_foretold_93 : decode cX16_foretold 93 = .ok (.iload_n 3, 1) := dk_29 (dk_at dksX16_foretold_4 6 rfl rfl)
theorem dX16_foretold_94 : decode cX16_foretold 94 = .ok (.aload_n 0, 1) := dk_42 (dk_at dksX16_foretold_4 7 rfl rfl)
theorem dX16_foretold_95 : decode cX16_foretold 95 = .ok (.iload 4, 2) := dk_21 4 (dk_at dksX16_foretold_4 8 rfl rfl)
theorem dX16_foretold_97 : decode cX16_foretold 97 = .ok (.invokevirtual 115, 3) := dk_182 0 115 (dk_at dksX16_foretold_4 10 rfl rfl)
theorem dX16_foretold_100 : decode cX16_foretold 100 = .ok (.iadd, 1) := dk_96 (dk_at dksX16_foretold_4 13 rfl rfl)
theorem dX16_foretold_101 : decode cX16_foretold 101 = .ok (.istore_n 3, 1) := dk_62 (dk_at dksX16_foretold_4 14 rfl rfl)
theorem dX16_foretold_102 : decode cX16_foretold 102 = .ok (.iinc 4 1, 3) := dk_132 4 1 (dk_at dksX16_foretold_4 15 rfl rfl)
theorem dX16_foretold_105 : decode cX16_foretold 105 = .ok (.goto (-18), 3) := dk_167 255 238 (dk_at dksX16_foretold_4 18 rfl rfl)
theorem dX16_foretold_108 : decode cX16_foretold 108 = .ok (.iload_n 1, 1) := dk_27 (dk_at dksX16_foretold_4 21 rfl rfl)
theorem dX16_foretold_109 : decode cX16_foretold 109 = .ok (.iconst 2, 1) := dk_5 (dk_at dksX16_foretold_4 22 rfl rfl)
theorem dX16_foretold_110 : decode cX16_foretold 110 = .ok (.if_icmp .ne 9, 3) := dk_160 0 9 (dk_at dksX16_foretold_5 0 rfl rfl)
theorem dX16_foretold_113 : decode cX16_foretold 113 = .ok (.iload_n 3, 1) := dk_29 (dk_at dksX16_foretold_5 3 rfl rfl)
theorem dX16_foretold_114 : decode cX16_foretold 114 = .ok (.iload_n 2, 1) := dk_28 (dk_at dksX16_foretold_5 4 rfl rfl)
theorem dX16_foretold_115 : decode cX16_foretold 115 = .ok (.idiv, 1) := dk_108 (dk_at dksX16_foretold_5 5 rfl rfl)
theorem dX16_foretold_116 : decode cX16_foretold 116 = .ok (.goto 12, 3) := dk_167 0 12 (dk_at dksX16_foretold_5 6 rfl rfl)
theorem dX16_foretold_119 : decode cX16_foretold 119 = .ok (.iconst 0, 1) := dk_3 (dk_at dksX16_foretold_5 9 rfl rfl)
theorem dX16_foretold_120 : decode cX16_foretold 120 = .ok (.iload_n 3, 1) := dk_29 (dk_at dksX16_foretold_5 10 rfl rfl)
theorem dX16_foretold_121 : decode cX16_foretold 121 = .ok (.iload_n 2, 1) := dk_28 (dk_at dksX16_foretold_5 11 rfl rfl)
theorem dX16_foretold_122 : decode cX16_foretold 122 = .ok (.idiv, 1) := dk_108 (dk_at dksX16_foretold_5 12 rfl rfl)
theorem dX16_foretold_123 : decode cX16_foretold 123 = .ok (.iload_n 2, 1) := dk_28 (dk_at dksX16_foretold_5 13 rfl rfl)
theorem dX16_foretold_124 : decode cX16_foretold 124 = .ok (.isub, 1) := dk_100 (dk_at dksX16_foretold_5 14 rfl rfl)
theorem dX16_foretold_125 : decode cX16_foretold 125 = .ok (.invokestatic 121, 3) := dk_184 0 121 (dk_at dksX16_foretold_5 15 rfl rfl)
theorem dX16_foretold_128 : decode cX16_foretold 128 = .ok (.ireturn, 1) := dk_172 (dk_at dksX16_foretold_5 18 rfl rfl)
abbrev cX16_ago : ByteArray := prog_28_method_18_code
def yX16_ago : MethodName := ⟨RX16, "ago", "(I)I"⟩
def dkwX16_ago_1 : List UInt8 := [42, 180, 0, 11, 5, 46, 172]
abbrev dktX16_ago_1 : List UInt8 := dkwX16_ago_1 ++ []
def dkwX16_ago_0 : List UInt8 := [27, 42, 180, 0, 11, 7, 46, 163, 0, 17, 42, 180, 0, 11, 16, 60, 27, 96, 4, 100, 46, 167, 0, 9]
abbrev dktX16_ago_0 : List UInt8 := dkwX16_ago_0 ++ dktX16_ago_1
theorem dksX16_ago_0 : cX16_ago.data.toList.drop 0 = dktX16_ago_0 := by decide +kernel
theorem dksX16_ago_1 : cX16_ago.data.toList.drop 24 = dktX16_ago_1 := dk_seg dksX16_ago_0 24 rfl rfl
theorem dX16_ago_0 : decode cX16_ago 0 = .ok (.iload_n 1, 1) := dk_27 (dk_at dksX16_ago_0 0 rfl rfl)
theorem dX16_ago_1 : decode cX16_ago 1 = .ok (.aload_n 0, 1) := dk_42 (dk_at dksX16_ago_0 1 rfl rfl)
theorem dX16_ago_2 : decode cX16_ago 2 = .ok (.getfield 11, 3) := dk_180 0 11 (dk_at dksX16_ago_0 2 rfl rfl)
theorem dX16_ago_5 : decode cX16_ago 5 = .ok (.iconst 4, 1) := dk_7 (dk_at dksX16_ago_0 5 rfl rfl)
theorem dX16_ago_6 : decode cX16_ago 6 = .ok (.iaload, 1) := dk_46 (dk_at dksX16_ago_0 6 rfl rfl)
theorem dX16_ago_7 : decode cX16_ago 7 = .ok (.if_icmp .gt 17, 3) := dk_163 0 17 (dk_at dksX16_ago_0 7 rfl rfl)
theorem dX16_ago_10 : decode cX16_ago 10 = .ok (.aload_n 0, 1) := dk_42 (dk_at dksX16_ago_0 10 rfl rfl)
theorem dX16_ago_11 : decode cX16_ago 11 = .ok (.getfield 11, 3) := dk_180 0 11 (dk_at dksX16_ago_0 11 rfl rfl)
theorem dX16_ago_14 : decode cX16_ago 14 = .ok (.bipush 60, 2) := dk_16 60 (dk_at dksX16_ago_0 14 rfl rfl)
theorem dX16_ago_16 : decode cX16_ago 16 = .ok (.iload_n 1, 1) := dk_27 (dk_at dksX16_ago_0 16 rfl rfl)
theorem dX16_ago_17 : decode cX16_ago 17 = .ok (.iadd, 1) := dk_96 (dk_at dksX16_ago_0 17 rfl rfl)
theorem dX16_ago_18 : decode cX16_ago 18 = .ok (.iconst 1, 1) := dk_4 (dk_at dksX16_ago_0 18 rfl rfl)
theorem dX16_ago_19 : decode cX16_ago 19 = .ok (.isub, 1) := dk_100 (dk_at dksX16_ago_0 19 rfl rfl)
theorem dX16_ago_20 : decode cX16_ago 20 = .ok (.iaload, 1) := dk_46 (dk_at dksX16_ago_0 20 rfl rfl)
theorem dX16_ago_21 : decode cX16_ago 21 = .ok (.goto 9, 3) := dk_167 0 9 (dk_at dksX16_ago_0 21 rfl rfl)
theorem dX16_ago_24 : decode cX16_ago 24 = .ok (.aload_n 0, 1) := dk_42 (dk_at dksX16_ago_1 0 rfl rfl)
theorem dX16_ago_25 : decode cX16_ago 25 = .ok (.getfield 11, 3) := dk_180 0 11 (dk_at dksX16_ago_1 1 rfl rfl)
theorem dX16_ago_28 : decode cX16_ago 28 = .ok (.iconst 2, 1) := dk_5 (dk_at dksX16_ago_1 4 rfl rfl)
theorem dX16_ago_29 : decode cX16_ago 29 = .ok (.iaload, 1) := dk_46 (dk_at dksX16_ago_1 5 rfl rfl)
theorem dX16_ago_30 : decode cX16_ago 30 = .ok (.ireturn, 1) := dk_172 (dk_at dksX16_ago_1 6 rfl rfl)
abbrev cX16_people : ByteArray := prog_28_method_7_code
def yX16_people : MethodName := ⟨RX16, "people", "()I"⟩
def dkwX16_people_1 : List UInt8 := [132, 2, 1, 167, 255, 234, 27, 172]
abbrev dktX16_people_1 : List UInt8 := dkwX16_people_1 ++ []
def dkwX16_people_0 : List UInt8 := [3, 60, 3, 61, 28, 42, 180, 0, 11, 3, 46, 162, 0, 18, 27, 42, 28, 3, 182, 0, 69, 96, 60]
abbrev dktX16_people_0 : List UInt8 := dkwX16_people_0 ++ dktX16_people_1
theorem dksX16_people_0 : cX16_people.data.toList.drop 0 = dktX16_people_0 := by decide +kernel
theorem dksX16_people_1 : cX16_people.data.toList.drop 23 = dktX16_people_1 := dk_seg dksX16_people_0 23 rfl rfl
theorem dX16_people_0 : decode cX16_people 0 = .ok (.iconst 0, 1) := dk_3 (dk_at dksX16_people_0 0 rfl rfl)
theorem dX16_people_1 : decode cX16_people 1 = .ok (.istore_n 1, 1) := dk_60 (dk_at dksX16_people_0 1 rfl rfl)
theorem dX16_people_2 : decode cX16_people 2 = .ok (.iconst 0, 1) := dk_3 (dk_at dksX16_people_0 2 rfl rfl)
theorem dX16_people_3 : decode cX16_people 3 = .ok (.istore_n 2, 1) := dk_61 (dk_at dksX16_people_0 3 rfl rfl)
theorem dX16_people_4 : decode cX16_people 4 = .ok (.iload_n 2, 1) := dk_28 (dk_at dksX16_people_0 4 rfl rfl)
theorem dX16_people_5 : decode cX16_people 5 = .ok (.aload_n 0, 1) := dk_42 (dk_at dksX16_people_0 5 rfl rfl)
theorem dX16_people_6 : decode cX16_people 6 = .ok (.getfield 11, 3) := dk_180 0 11 (dk_at dksX16_people_0 6 rfl rfl)
theorem dX16_people_9 : decode cX16_people 9 = .ok (.iconst 0, 1) := dk_3 (dk_at dksX16_people_0 9 rfl rfl)
theorem dX16_people_10 : decode cX16_people 10 = .ok (.iaload, 1) := dk_46 (dk_at dksX16_people_0 10 rfl rfl)
theorem dX16_people_11 : decode cX16_people 11 = .ok (.if_icmp .ge 18, 3) := dk_162 0 18 (dk_at dksX16_people_0 11 rfl rfl)
theorem dX16_people_14 : decode cX16_people 14 = .ok (.iload_n 1, 1) := dk_27 (dk_at dksX16_people_0 14 rfl rfl)
theorem dX16_people_15 : decode cX16_people 15 = .ok (.aload_n 0, 1) := dk_42 (dk_at dksX16_people_0 15 rfl rfl)
theorem dX16_people_16 : decode cX16_people 16 = .ok (.iload_n 2, 1) := dk_28 (dk_at dksX16_people_0 16 rfl rfl)
theorem dX16_people_17 : decode cX16_people 17 = .ok (.iconst 0, 1) := dk_3 (dk_at dksX16_people_0 17 rfl rfl)
theorem dX16_people_18 : decode cX16_people 18 = .ok (.invokevirtual 69, 3) := dk_182 0 69 (dk_at dksX16_people_0 18 rfl rfl)
theorem dX16_people_21 : decode cX16_people 21 = .ok (.iadd, 1) := dk_96 (dk_at dksX16_people_0 21 rfl rfl)
theorem dX16_people_22 : decode cX16_people 22 = .ok (.istore_n 1, 1) := dk_60 (dk_at dksX16_people_0 22 rfl rfl)
theorem dX16_people_23 : decode cX16_people 23 = .ok (.iinc 2 1, 3) := dk_132 2 1 (dk_at dksX16_people_1 0 rfl rfl)
theorem dX16_people_26 : decode cX16_people 26 = .ok (.goto (-22), 3) := dk_167 255 234 (dk_at dksX16_people_1 3 rfl rfl)
theorem dX16_people_29 : decode cX16_people 29 = .ok (.iload_n 1, 1) := dk_27 (dk_at dksX16_people_1 6 rfl rfl)
theorem dX16_people_30 : decode cX16_people 30 = .ok (.ireturn, 1) := dk_172 (dk_at dksX16_people_1 7 rfl rfl)
abbrev cX16_remembered : ByteArray := prog_28_method_29_code
def yX16_remembered : MethodName := ⟨RX16, "remembered", "(I)I"⟩
def dkwX16_remembered_1 : List UInt8 := [167, 0, 8, 42, 27, 182, 0, 115, 172]
abbrev dktX16_remembered_1 : List UInt8 := dkwX16_remembered_1 ++ []
def dkwX16_remembered_0 : List UInt8 := [27, 4, 162, 0, 10, 42, 16, 252, 182, 0, 21, 172, 27, 16, 8, 164, 0, 12, 42, 16, 250, 182, 0, 21]
abbrev dktX16_remembered_0 : List UInt8 := dkwX16_remembered_0 ++ dktX16_remembered_1
theorem dksX16_remembered_0 : cX16_remembered.data.toList.drop 0 = dktX16_remembered_0 := by decide +kernel
theorem dksX16_remembered_1 : cX16_remembered.data.toList.drop 24 = dktX16_remembered_1 := dk_seg dksX16_remembered_0 24 rfl rfl
theorem dX16_remembered_0 : decode cX16_remembered 0 = .ok (.iload_n 1, 1) := dk_27 (dk_at dksX16_remembered_0 0 rfl rfl)
theorem dX16_remembered_1 : decode cX16_remembered 1 = .ok (.iconst 1, 1) := dk_4 (dk_at dksX16_remembered_0 1 rfl rfl)
theorem dX16_remembered_2 : decode cX16_remembered 2 = .ok (.if_icmp .ge 10, 3) := dk_162 0 10 (dk_at dksX16_remembered_0 2 rfl rfl)
theorem dX16_remembered_5 : decode cX16_remembered 5 = .ok (.aload_n 0, 1) := dk_42 (dk_at dksX16_remembered_0 5 rfl rfl)
theorem dX16_remembered_6 : decode cX16_remembered 6 = .ok (.bipush (-4), 2) := dk_16 252 (dk_at dksX16_remembered_0 6 rfl rfl)
theorem dX16_remembered_8 : decode cX16_remembered 8 = .ok (.invokevirtual 21, 3) := dk_182 0 21 (dk_at dksX16_remembered_0 8 rfl rfl)
theorem dX16_remembered_11 : decode cX16_remembered 11 = .ok (.ireturn, 1) := dk_172 (dk_at dksX16_remembered_0 11 rfl rfl)
theorem dX16_remembered_12 : decode cX16_remembered 12 = .ok (.iload_n 1, 1) := dk_27 (dk_at dksX16_remembered_0 12 rfl rfl)
theorem dX16_remembered_13 : decode cX16_remembered 13 = .ok (.bipush 8, 2) := dk_16 8 (dk_at dksX16_remembered_0 13 rfl rfl)
theorem dX16_remembered_15 : decode cX16_remembered 15 = .ok (.if_icmp .le 12, 3) := dk_164 0 12 (dk_at dksX16_remembered_0 15 rfl rfl)
theorem dX16_remembered_18 : decode cX16_remembered 18 = .ok (.aload_n 0, 1) := dk_42 (dk_at dksX16_remembered_0 18 rfl rfl)
theorem dX16_remembered_19 : decode cX16_remembered 19 = .ok (.bipush (-6), 2) := dk_16 250 (dk_at dksX16_remembered_0 19 rfl rfl)
theorem dX16_remembered_21 : decode cX16_remembered 21 = .ok (.invokevirtual 21, 3) := dk_182 0 21 (dk_at dksX16_remembered_0 21 rfl rfl)
theorem dX16_remembered_24 : decode cX16_remembered 24 = .ok (.goto 8, 3) := dk_167 0 8 (dk_at dksX16_remembered_1 0 rfl rfl)
theorem dX16_remembered_27 : decode cX16_remembered 27 = .ok (.aload_n 0, 1) := dk_42 (dk_at dksX16_remembered_1 3 rfl rfl)
theorem dX16_remembered_28 : decode cX16_remembered 28 = .ok (.iload_n 1, 1) := dk_27 (dk_at dksX16_remembered_1 4 rfl rfl)
theorem dX16_remembered_29 : decode cX16_remembered 29 = .ok (.invokevirtual 115, 3) := dk_182 0 115 (dk_at dksX16_remembered_1 5 rfl rfl)
theorem dX16_remembered_32 : decode cX16_remembered 32 = .ok (.ireturn, 1) := dk_172 (dk_at dksX16_remembered_1 8 rfl rfl)
abbrev cX16_penny : ByteArray := prog_28_method_30_code
def yX16_penny : MethodName := ⟨RX16, "penny", "(I)I"⟩
def dkwX16_penny_1 : List UInt8 := [42, 180, 0, 11, 8, 46, 61, 42, 180, 0, 11, 8, 27, 79, 28, 172]
abbrev dktX16_penny_1 : List UInt8 := dkwX16_penny_1 ++ []
def dkwX16_penny_0 : List UInt8 := [27, 156, 0, 10, 42, 16, 252, 182, 0, 21, 172, 27, 16, 9, 164, 0, 10, 42, 16, 250, 182, 0, 21, 172]
abbrev dktX16_penny_0 : List UInt8 := dkwX16_penny_0 ++ dktX16_penny_1
theorem dksX16_penny_0 : cX16_penny.data.toList.drop 0 = dktX16_penny_0 := by decide +kernel
theorem dksX16_penny_1 : cX16_penny.data.toList.drop 24 = dktX16_penny_1 := dk_seg dksX16_penny_0 24 rfl rfl
theorem dX16_penny_0 : decode cX16_penny 0 = .ok (.iload_n 1, 1) := dk_27 (dk_at dksX16_penny_0 0 rfl rfl)
theorem dX16_penny_1 : decode cX16_penny 1 = .ok (.ifCond .ge 10, 3) := dk_156 0 10 (dk_at dksX16_penny_0 1 rfl rfl)
theorem dX16_penny_4 : decode cX16_penny 4 = .ok (.aload_n 0, 1) := dk_42 (dk_at dksX16_penny_0 4 rfl rfl)
theorem dX16_penny_5 : decode cX16_penny 5 = .ok (.bipush (-4), 2) := dk_16 252 (dk_at dksX16_penny_0 5 rfl rfl)
theorem dX16_penny_7 : decode cX16_penny 7 = .ok (.invokevirtual 21, 3) := dk_182 0 21 (dk_at dksX16_penny_0 7 rfl rfl)
theorem dX16_penny_10 : decode cX16_penny 10 = .ok (.ireturn, 1) := dk_172 (dk_at dksX16_penny_0 10 rfl rfl)
theorem dX16_penny_11 : decode cX16_penny 11 = .ok (.iload_n 1, 1) := dk_27 (dk_at dksX16_penny_0 11 rfl rfl)
theorem dX16_penny_12 : decode cX16_penny 12 = .ok (.bipush 9, 2) := dk_16 9 (dk_at dksX16_penny_0 12 rfl rfl)
theorem dX16_penny_14 : decode cX16_penny 14 = .ok (.if_icmp .le 10, 3) := dk_164 0 10 (dk_at dksX16_penny_0 14 rfl rfl)
theorem dX16_penny_17 : decode cX16_penny 17 = .ok (.aload_n 0, 1) := dk_42 (dk_at dksX16_penny_0 17 rfl rfl)
theorem dX16_penny_18 : decode cX16_penny 18 = .ok (.bipush (-6), 2) := dk_16 250 (dk_at dksX16_penny_0 18 rfl rfl)
theorem dX16_penny_20 : decode cX16_penny 20 = .ok (.invokevirtual 21, 3) := dk_182 0 21 (dk_at dksX16_penny_0 20 rfl rfl)
theorem dX16_penny_23 : decode cX16_penny 23 = .ok (.ireturn, 1) := dk_172 (dk_at dksX16_penny_0 23 rfl rfl)
theorem dX16_penny_24 : decode cX16_penny 24 = .ok (.aload_n 0, 1) := dk_42 (dk_at dksX16_penny_1 0 rfl rfl)
theorem dX16_penny_25 : decode cX16_penny 25 = .ok (.getfield 11, 3) := dk_180 0 11 (dk_at dksX16_penny_1 1 rfl rfl)
theorem dX16_penny_28 : decode cX16_penny 28 = .ok (.iconst 5, 1) := dk_8 (dk_at dksX16_penny_1 4 rfl rfl)
theorem dX16_penny_29 : decode cX16_penny 29 = .ok (.iaload, 1) := dk_46 (dk_at dksX16_penny_1 5 rfl rfl)
theorem dX16_penny_30 : decode cX16_penny 30 = .ok (.istore_n 2, 1) := dk_61 (dk_at dksX16_penny_1 6 rfl rfl)
theorem dX16_penny_31 : decode cX16_penny 31 = .ok (.aload_n 0, 1) := dk_42 (dk_at dksX16_penny_1 7 rfl rfl)
theorem dX16_penny_32 : decode cX16_penny 32 = .ok (.getfield 11, 3) := dk_180 0 11 (dk_at dksX16_penny_1 8 rfl rfl)
theorem dX16_penny_35 : decode cX16_penny 35 = .ok (.iconst 5, 1) := dk_8 (dk_at dksX16_penny_1 11 rfl rfl)
theorem dX16_penny_36 : decode cX16_penny 36 = .ok (.iload_n 1, 1) := dk_27 (dk_at dksX16_penny_1 12 rfl rfl)
theorem dX16_penny_37 : decode cX16_penny 37 = .ok (.iastore, 1) := dk_79 (dk_at dksX16_penny_1 13 rfl rfl)
theorem dX16_penny_38 : decode cX16_penny 38 = .ok (.iload_n 2, 1) := dk_28 (dk_at dksX16_penny_1 14 rfl rfl)
theorem dX16_penny_39 : decode cX16_penny 39 = .ok (.ireturn, 1) := dk_172 (dk_at dksX16_penny_1 15 rfl rfl)
abbrev cX16_week : ByteArray := prog_28_method_31_code
def yX16_week : MethodName := ⟨RX16, "week", "()I"⟩
theorem dX16_week_0 : decode cX16_week 0 = .ok (.aload_n 0, 1) := by decide +kernel
theorem dX16_week_1 : decode cX16_week 1 = .ok (.invokevirtual 145, 3) := by decide +kernel
theorem dX16_week_4 : decode cX16_week 4 = .ok (.ireturn, 1) := by decide +kernel
abbrev cX16_goOn : ByteArray := prog_28_method_25_code
def yX16_goOn : MethodName := ⟨RX16, "goOn", "()I"⟩
def dkwX16_goOn_3 : List UInt8 := [182, 0, 97, 42, 180, 0, 11, 6, 92, 46, 4, 96, 79, 27, 172]
abbrev dktX16_goOn_3 : List UInt8 := dkwX16_goOn_3 ++ []
def dkwX16_goOn_2 : List UInt8 := [167, 0, 4, 3, 160, 0, 7, 4, 167, 0, 4, 3, 96, 79, 132, 2, 1, 167, 255, 199, 42, 27]
abbrev dktX16_goOn_2 : List UInt8 := dkwX16_goOn_2 ++ dktX16_goOn_3
def dkwX16_goOn_1 : List UInt8 := [28, 104, 96, 5, 96, 92, 46, 42, 28, 182, 0, 129, 27, 42, 180, 0, 11, 5, 46, 163, 0, 7, 4]
abbrev dktX16_goOn_1 : List UInt8 := dkwX16_goOn_1 ++ dktX16_goOn_2
def dkwX16_goOn_0 : List UInt8 := [42, 182, 0, 139, 60, 3, 61, 28, 42, 180, 0, 11, 4, 46, 162, 0, 53, 42, 180, 0, 11, 16, 40, 6]
abbrev dktX16_goOn_0 : List UInt8 := dkwX16_goOn_0 ++ dktX16_goOn_1
theorem dksX16_goOn_0 : cX16_goOn.data.toList.drop 0 = dktX16_goOn_0 := by decide +kernel
theorem dksX16_goOn_1 : cX16_goOn.data.toList.drop 24 = dktX16_goOn_1 := dk_seg dksX16_goOn_0 24 rfl rfl
theorem dksX16_goOn_2 : cX16_goOn.data.toList.drop 47 = dktX16_goOn_2 := dk_seg dksX16_goOn_1 23 rfl rfl
theorem dksX16_goOn_3 : cX16_goOn.data.toList.drop 69 = dktX16_goOn_3 := dk_seg dksX16_goOn_2 22 rfl rfl
theorem dX16_goOn_0 : decode cX16_goOn 0 = .ok (.aload_n 0, 1) := dk_42 (dk_at dksX16_goOn_0 0 rfl rfl)
theorem dX16_goOn_1 : decode cX16_goOn 1 = .ok (.invokevirtual 139, 3) := dk_182 0 139 (dk_at dksX16_goOn_0 1 rfl rfl)
theorem dX16_goOn_4 : decode cX16_goOn 4 = .ok (.istore_n 1, 1) := dk_60 (dk_at dksX16_goOn_0 4 rfl rfl)
theorem dX16_goOn_5 : decode cX16_goOn 5 = .ok (.iconst 0, 1) := dk_3 (dk_at dksX16_goOn_0 5 rfl rfl)
theorem dX16_goOn_6 : decode cX16_goOn 6 = .ok (.istore_n 2, 1) := dk_61 (dk_at dksX16_goOn_0 6 rfl rfl)
theorem dX16_goOn_7 : decode cX16_goOn 7 = .ok (.iload_n 2, 1) := dk_28 (dk_at dksX16_goOn_0 7 rfl rfl)
theorem dX16_goOn_8 : decode cX16_goOn 8 = .ok (.aload_n 0, 1) := dk_42 (dk_at dksX16_goOn_0 8 rfl rfl)
theorem dX16_goOn_9 : decode cX16_goOn 9 = .ok (.getfield 11, 3) := dk_180 0 11 (dk_at dksX16_goOn_0 9 rfl rfl)
theorem dX16_goOn_12 : decode cX16_goOn 12 = .ok (.iconst 1, 1) := dk_4 (dk_at dksX16_goOn_0 12 rfl rfl)
theorem dX16_goOn_13 : decode cX16_goOn 13 = .ok (.iaload, 1) := dk_46 (dk_at dksX16_goOn_0 13 rfl rfl)
theorem dX16_goOn_14 : decode cX16_goOn 14 = .ok (.if_icmp .ge 53, 3) := dk_162 0 53 (dk_at dksX16_goOn_0 14 rfl rfl)
theorem dX16_goOn_17 : decode cX16_goOn 17 = .ok (.aload_n 0, 1) := dk_42 (dk_at dksX16_goOn_0 17 rfl rfl)
theorem dX16_goOn_18 : decode cX16_goOn 18 = .ok (.getfield 11, 3) := dk_180 0 11 (dk_at dksX16_goOn_0 18 rfl rfl)
theorem dX16_goOn_21 : decode cX16_goOn 21 = .ok (.bipush 40, 2) := dk_16 40 (dk_at dksX16_goOn_0 21 rfl rfl)
theorem dX16_goOn_23 : decode cX16_goOn 23 = .ok (.iconst 3, 1) := dk_6 (dk_at dksX16_goOn_0 23 rfl rfl)
theorem dX16_goOn_24 : decode cX16_goOn 24 = .ok (.iload_n 2, 1) := dk_28 (dk_at dksX16_goOn_1 0 rfl rfl)
theorem dX16_goOn_25 : decode cX16_goOn 25 = .ok (.imul, 1) := dk_104 (dk_at dksX16_goOn_1 1 rfl rfl)
theorem dX16_goOn_26 : decode cX16_goOn 26 = .ok (.iadd, 1) := dk_96 (dk_at dksX16_goOn_1 2 rfl rfl)
theorem dX16_goOn_27 : decode cX16_goOn 27 = .ok (.iconst 2, 1) := dk_5 (dk_at dksX16_goOn_1 3 rfl rfl)
theorem dX16_goOn_28 : decode cX16_goOn 28 = .ok (.iadd, 1) := dk_96 (dk_at dksX16_goOn_1 4 rfl rfl)
theorem dX16_goOn_29 : decode cX16_goOn 29 = .ok (.dup2, 1) := dk_92 (dk_at dksX16_goOn_1 5 rfl rfl)
theorem dX16_goOn_30 : decode cX16_goOn 30 = .ok (.iaload, 1) := dk_46 (dk_at dksX16_goOn_1 6 rfl rfl)
theorem dX16_goOn_31 : decode cX16_goOn 31 = .ok (.aload_n 0, 1) := dk_42 (dk_at dksX16_goOn_1 7 rfl rfl)
theorem dX16_goOn_32 : decode cX16_goOn 32 = .ok (.iload_n 2, 1) := dk_28 (dk_at dksX16_goOn_1 8 rfl rfl)
theorem dX16_goOn_33 : decode cX16_goOn 33 = .ok (.invokevirtual 129, 3) := dk_182 0 129 (dk_at dksX16_goOn_1 9 rfl rfl)
theorem dX16_goOn_36 : decode cX16_goOn 36 = .ok (.iload_n 1, 1) := dk_27 (dk_at dksX16_goOn_1 12 rfl rfl)
theorem dX16_goOn_37 : decode cX16_goOn 37 = .ok (.aload_n 0, 1) := dk_42 (dk_at dksX16_goOn_1 13 rfl rfl)
theorem dX16_goOn_38 : decode cX16_goOn 38 = .ok (.getfield 11, 3) := dk_180 0 11 (dk_at dksX16_goOn_1 14 rfl rfl)
theorem dX16_goOn_41 : decode cX16_goOn 41 = .ok (.iconst 2, 1) := dk_5 (dk_at dksX16_goOn_1 17 rfl rfl)
theorem dX16_goOn_42 : decode cX16_goOn 42 = .ok (.iaload, 1) := dk_46 (dk_at dksX16_goOn_1 18 rfl rfl)
theorem dX16_goOn_43 : decode cX16_goOn 43 = .ok (.if_icmp .gt 7, 3) := dk_163 0 7 (dk_at dksX16_goOn_1 19 rfl rfl)
theorem dX16_goOn_46 : decode cX16_goOn 46 = .ok (.iconst 1, 1) := dk_4 (dk_at dksX16_goOn_1 22 rfl rfl)
theorem dX16_goOn_47 : decode cX16_goOn 47 = .ok (.goto 4, 3) := dk_167 0 4 (dk_at dksX16_goOn_2 0 rfl rfl)
theorem dX16_goOn_50 : decode cX16_goOn 50 = .ok (.iconst 0, 1) := dk_3 (dk_at dksX16_goOn_2 3 rfl rfl)
theorem dX16_goOn_51 : decode cX16_goOn 51 = .ok (.if_icmp .ne 7, 3) := dk_160 0 7 (dk_at dksX16_goOn_2 4 rfl rfl)
theorem dX16_goOn_54 : decode cX16_goOn 54 = .ok (.iconst 1, 1) := dk_4 (dk_at dksX16_goOn_2 7 rfl rfl)
theorem dX16_goOn_55 : decode cX16_goOn 55 = .ok (.goto 4, 3) := dk_167 0 4 (dk_at dksX16_goOn_2 8 rfl rfl)
theorem dX16_goOn_58 : decode cX16_goOn 58 = .ok (.iconst 0, 1) := dk_3 (dk_at dksX16_goOn_2 11 rfl rfl)
theorem dX16_goOn_59 : decode cX16_goOn 59 = .ok (.iadd, 1) := dk_96 (dk_at dksX16_goOn_2 12 rfl rfl)
theorem dX16_goOn_60 : decode cX16_goOn 60 = .ok (.iastore, 1) := dk_79 (dk_at dksX16_goOn_2 13 rfl rfl)
theorem dX16_goOn_61 : decode cX16_goOn 61 = .ok (.iinc 2 1, 3) := dk_132 2 1 (dk_at dksX16_goOn_2 14 rfl rfl)
theorem dX16_goOn_64 : decode cX16_goOn 64 = .ok (.goto (-57), 3) := dk_167 255 199 (dk_at dksX16_goOn_2 17 rfl rfl)
theorem dX16_goOn_67 : decode cX16_goOn 67 = .ok (.aload_n 0, 1) := dk_42 (dk_at dksX16_goOn_2 20 rfl rfl)
theorem dX16_goOn_68 : decode cX16_goOn 68 = .ok (.iload_n 1, 1) := dk_27 (dk_at dksX16_goOn_2 21 rfl rfl)
theorem dX16_goOn_69 : decode cX16_goOn 69 = .ok (.invokevirtual 97, 3) := dk_182 0 97 (dk_at dksX16_goOn_3 0 rfl rfl)
theorem dX16_goOn_72 : decode cX16_goOn 72 = .ok (.aload_n 0, 1) := dk_42 (dk_at dksX16_goOn_3 3 rfl rfl)
theorem dX16_goOn_73 : decode cX16_goOn 73 = .ok (.getfield 11, 3) := dk_180 0 11 (dk_at dksX16_goOn_3 4 rfl rfl)
theorem dX16_goOn_76 : decode cX16_goOn 76 = .ok (.iconst 3, 1) := dk_6 (dk_at dksX16_goOn_3 7 rfl rfl)
theorem dX16_goOn_77 : decode cX16_goOn 77 = .ok (.dup2, 1) := dk_92 (dk_at dksX16_goOn_3 8 rfl rfl)
theorem dX16_goOn_78 : decode cX16_goOn 78 = .ok (.iaload, 1) := dk_46 (dk_at dksX16_goOn_3 9 rfl rfl)
theorem dX16_goOn_79 : decode cX16_goOn 79 = .ok (.iconst 1, 1) := dk_4 (dk_at dksX16_goOn_3 10 rfl rfl)
theorem dX16_goOn_80 : decode cX16_goOn 80 = .ok (.iadd, 1) := dk_96 (dk_at dksX16_goOn_3 11 rfl rfl)
theorem dX16_goOn_81 : decode cX16_goOn 81 = .ok (.iastore, 1) := dk_79 (dk_at dksX16_goOn_3 12 rfl rfl)
theorem dX16_goOn_82 : decode cX16_goOn 82 = .ok (.iload_n 1, 1) := dk_27 (dk_at dksX16_goOn_3 13 rfl rfl)
theorem dX16_goOn_83 : decode cX16_goOn 83 = .ok (.ireturn, 1) := dk_172 (dk_at dksX16_goOn_3 14 rfl rfl)
abbrev cX16_present : ByteArray := prog_28_method_22_code
def yX16_present : MethodName := ⟨RX16, "present", "()I"⟩
def dkwX16_present_10 : List UInt8 := [42, 28, 3, 182, 0, 69, 167, 0, 4, 3, 96, 60, 132, 2, 1, 167, 255, 183, 27, 172]
abbrev dktX16_present_10 : List UInt8 := dkwX16_present_10 ++ []
def dkwX16_present_9 : List UInt8 := [180, 0, 11, 5, 46, 163, 0, 7, 4, 167, 0, 4, 3, 84, 27, 42, 180, 0, 50, 28, 51, 153, 0, 12]
abbrev dktX16_present_9 : List UInt8 := dkwX16_present_9 ++ dktX16_present_10
def dkwX16_present_8 : List UInt8 := [42, 28, 4, 182, 0, 69, 8, 160, 0, 53, 42, 180, 0, 50, 28, 27, 42, 28, 3, 182, 0, 69, 96, 42]
abbrev dktX16_present_8 : List UInt8 := dkwX16_present_8 ++ dktX16_present_9
def dkwX16_present_7 : List UInt8 := [167, 0, 4, 3, 96, 60, 132, 2, 1, 167, 255, 99, 3, 61, 28, 42, 180, 0, 11, 3, 46, 162, 0, 69]
abbrev dktX16_present_7 : List UInt8 := dkwX16_present_7 ++ dktX16_present_8
def dkwX16_present_6 : List UInt8 := [180, 0, 50, 28, 3, 84, 27, 42, 180, 0, 50, 28, 51, 153, 0, 12, 42, 28, 3, 182, 0, 69]
abbrev dktX16_present_6 : List UInt8 := dkwX16_present_6 ++ dktX16_present_7
def dkwX16_present_5 : List UInt8 := [180, 0, 11, 6, 46, 29, 4, 96, 112, 154, 0, 7, 4, 167, 0, 4, 3, 84, 167, 0, 10, 42]
abbrev dktX16_present_5 : List UInt8 := dkwX16_present_5 ++ dktX16_present_6
def dkwX16_present_4 : List UInt8 := [42, 180, 0, 50, 28, 42, 42, 29, 182, 0, 133, 182, 0, 129, 84, 167, 0, 37, 42, 180, 0, 50, 28, 42]
abbrev dktX16_present_4 : List UInt8 := dkwX16_present_4 ++ dktX16_present_5
def dkwX16_present_3 : List UInt8 := [42, 180, 0, 50, 28, 4, 84, 167, 0, 69, 42, 180, 0, 50, 28, 42, 29, 182, 0, 129, 84, 167, 0, 55]
abbrev dktX16_present_3 : List UInt8 := dkwX16_present_3 ++ dktX16_present_4
def dkwX16_present_2 : List UInt8 := [170, 0, 0, 0, 102, 0, 0, 0, 0, 0, 0, 0, 4, 0, 0, 0, 33, 0, 0, 0, 102, 0, 0, 0, 43, 0, 0, 0, 57, 0, 0, 0, 75]
abbrev dktX16_present_2 : List UInt8 := dkwX16_present_2 ++ dktX16_present_3
def dkwX16_present_1 : List UInt8 := [182, 0, 69]
abbrev dktX16_present_1 : List UInt8 := dkwX16_present_1 ++ dktX16_present_2
def dkwX16_present_0 : List UInt8 := [3, 60, 3, 61, 28, 42, 180, 0, 11, 3, 46, 162, 0, 153, 42, 28, 5, 182, 0, 69, 62, 42, 28, 4]
abbrev dktX16_present_0 : List UInt8 := dkwX16_present_0 ++ dktX16_present_1
theorem dksX16_present_0 : cX16_present.data.toList.drop 0 = dktX16_present_0 := by decide +kernel
theorem dksX16_present_1 : cX16_present.data.toList.drop 24 = dktX16_present_1 := dk_seg dksX16_present_0 24 rfl rfl
theorem dksX16_present_2 : cX16_present.data.toList.drop 27 = dktX16_present_2 := dk_seg dksX16_present_1 3 rfl rfl
theorem dksX16_present_3 : cX16_present.data.toList.drop 60 = dktX16_present_3 := dk_seg dksX16_present_2 33 rfl rfl
theorem dksX16_present_4 : cX16_present.data.toList.drop 84 = dktX16_present_4 := dk_seg dksX16_present_3 24 rfl rfl
theorem dksX16_present_5 : cX16_present.data.toList.drop 108 = dktX16_present_5 := dk_seg dksX16_present_4 24 rfl rfl
theorem dksX16_present_6 : cX16_present.data.toList.drop 130 = dktX16_present_6 := dk_seg dksX16_present_5 22 rfl rfl
theorem dksX16_present_7 : cX16_present.data.toList.drop 152 = dktX16_present_7 := dk_seg dksX16_present_6 22 rfl rfl
theorem dksX16_present_8 : cX16_present.data.toList.drop 176 = dktX16_present_8 := dk_seg dksX16_present_7 24 rfl rfl
theorem dksX16_present_9 : cX16_present.data.toList.drop 200 = dktX16_present_9 := dk_seg dksX16_present_8 24 rfl rfl
theorem dksX16_present_10 : cX16_present.data.toList.drop 224 = dktX16_present_10 := dk_seg dksX16_present_9 24 rfl rfl
theorem dX16_present_0 : decode cX16_present 0 = .ok (.iconst 0, 1) := dk_3 (dk_at dksX16_present_0 0 rfl rfl)
theorem dX16_present_1 : decode cX16_present 1 = .ok (.istore_n 1, 1) := dk_60 (dk_at dksX16_present_0 1 rfl rfl)
theorem dX16_present_2 : decode cX16_present 2 = .ok (.iconst 0, 1) := dk_3 (dk_at dksX16_present_0 2 rfl rfl)
theorem dX16_present_3 : decode cX16_present 3 = .ok (.istore_n 2, 1) := dk_61 (dk_at dksX16_present_0 3 rfl rfl)
theorem dX16_present_4 : decode cX16_present 4 = .ok (.iload_n 2, 1) := dk_28 (dk_at dksX16_present_0 4 rfl rfl)
theorem dX16_present_5 : decode cX16_present 5 = .ok (.aload_n 0, 1) := dk_42 (dk_at dksX16_present_0 5 rfl rfl)
theorem dX16_present_6 : decode cX16_present 6 = .ok (.getfield 11, 3) := dk_180 0 11 (dk_at dksX16_present_0 6 rfl rfl)
theorem dX16_present_9 : decode cX16_present 9 = .ok (.iconst 0, 1) := dk_3 (dk_at dksX16_present_0 9 rfl rfl)
theorem dX16_present_10 : decode cX16_present 10 = .ok (.iaload, 1) := dk_46 (dk_at dksX16_present_0 10 rfl rfl)
theorem dX16_present_11 : decode cX16_present 11 = .ok (.if_icmp .ge 153, 3) := dk_162 0 153 (dk_at dksX16_present_0 11 rfl rfl)
theorem dX16_present_14 : decode cX16_present 14 = .ok (.aload_n 0, 1) := dk_42 (dk_at dksX16_present_0 14 rfl rfl)
theorem dX16_present_15 : decode cX16_present 15 = .ok (.iload_n 2, 1) := dk_28 (dk_at dksX16_present_0 15 rfl rfl)
theorem dX16_present_16 : decode cX16_present 16 = .ok (.iconst 2, 1) := dk_5 (dk_at dksX16_present_0 16 rfl rfl)
theorem dX16_present_17 : decode cX16_present 17 = .ok (.invokevirtual 69, 3) := dk_182 0 69 (dk_at dksX16_present_0 17 rfl rfl)
theorem dX16_present_20 : decode cX16_present 20 = .ok (.istore_n 3, 1) := dk_62 (dk_at dksX16_present_0 20 rfl rfl)
theorem dX16_present_21 : decode cX16_present 21 = .ok (.aload_n 0, 1) := dk_42 (dk_at dksX16_present_0 21 rfl rfl)
theorem dX16_present_22 : decode cX16_present 22 = .ok (.iload_n 2, 1) := dk_28 (dk_at dksX16_present_0 22 rfl rfl)
theorem dX16_present_23 : decode cX16_present 23 = .ok (.iconst 1, 1) := dk_4 (dk_at dksX16_present_0 23 rfl rfl)
theorem dX16_present_24 : decode cX16_present 24 = .ok (.invokevirtual 69, 3) := dk_182 0 69 (dk_at dksX16_present_1 0 rfl rfl)
theorem dX16_present_27 : decode cX16_present 27 = .ok (.tableswitch 102 0 4 #[33, 102, 43, 57, 75], 33) := by decide +kernel
theorem dX16_present_60 : decode cX16_present 60 = .ok (.aload_n 0, 1) := dk_42 (dk_at dksX16_present_3 0 rfl rfl)
theorem dX16_present_61 : decode cX16_present 61 = .ok (.getfield 50, 3) := dk_180 0 50 (dk_at dksX16_present_3 1 rfl rfl)
theorem dX16_present_64 : decode cX16_present 64 = .ok (.iload_n 2, 1) := dk_28 (dk_at dksX16_present_3 4 rfl rfl)
theorem dX16_present_65 : decode cX16_present 65 = .ok (.iconst 1, 1) := dk_4 (dk_at dksX16_present_3 5 rfl rfl)
theorem dX16_present_66 : decode cX16_present 66 = .ok (.bastore, 1) := dk_84 (dk_at dksX16_present_3 6 rfl rfl)
theorem dX16_present_67 : decode cX16_present 67 = .ok (.goto 69, 3) := dk_167 0 69 (dk_at dksX16_present_3 7 rfl rfl)
theorem dX16_present_70 : decode cX16_present 70 = .ok (.aload_n 0, 1) := dk_42 (dk_at dksX16_present_3 10 rfl rfl)
theorem dX16_present_71 : decode cX16_present 71 = .ok (.getfield 50, 3) := dk_180 0 50 (dk_at dksX16_present_3 11 rfl rfl)
theorem dX16_present_74 : decode cX16_present 74 = .ok (.iload_n 2, 1) := dk_28 (dk_at dksX16_present_3 14 rfl rfl)
theorem dX16_present_75 : decode cX16_present 75 = .ok (.aload_n 0, 1) := dk_42 (dk_at dksX16_present_3 15 rfl rfl)
theorem dX16_present_76 : decode cX16_present 76 = .ok (.iload_n 3, 1) := dk_29 (dk_at dksX16_present_3 16 rfl rfl)
theorem dX16_present_77 : decode cX16_present 77 = .ok (.invokevirtual 129, 3) := dk_182 0 129 (dk_at dksX16_present_3 17 rfl rfl)
theorem dX16_present_80 : decode cX16_present 80 = .ok (.bastore, 1) := dk_84 (dk_at dksX16_present_3 20 rfl rfl)
theorem dX16_present_81 : decode cX16_present 81 = .ok (.goto 55, 3) := dk_167 0 55 (dk_at dksX16_present_3 21 rfl rfl)
theorem dX16_present_84 : decode cX16_present 84 = .ok (.aload_n 0, 1) := dk_42 (dk_at dksX16_present_4 0 rfl rfl)
theorem dX16_present_85 : decode cX16_present 85 = .ok (.getfield 50, 3) := dk_180 0 50 (dk_at dksX16_present_4 1 rfl rfl)
theorem dX16_present_88 : decode cX16_present 88 = .ok (.iload_n 2, 1) := dk_28 (dk_at dksX16_present_4 4 rfl rfl)
theorem dX16_present_89 : decode cX16_present 89 = .ok (.aload_n 0, 1) := dk_42 (dk_at dksX16_present_4 5 rfl rfl)
theorem dX16_present_90 : decode cX16_present 90 = .ok (.aload_n 0, 1) := dk_42 (dk_at dksX16_present_4 6 rfl rfl)
theorem dX16_present_91 : decode cX16_present 91 = .ok (.iload_n 3, 1) := dk_29 (dk_at dksX16_present_4 7 rfl rfl)
theorem dX16_present_92 : decode cX16_present 92 = .ok (.invokevirtual 133, 3) := dk_182 0 133 (dk_at dksX16_present_4 8 rfl rfl)
theorem dX16_present_95 : decode cX16_present 95 = .ok (.invokevirtual 129, 3) := dk_182 0 129 (dk_at dksX16_present_4 11 rfl rfl)
theorem dX16_present_98 : decode cX16_present 98 = .ok (.bastore, 1) := dk_84 (dk_at dksX16_present_4 14 rfl rfl)
theorem dX16_present_99 : decode cX16_present 99 = .ok (.goto 37, 3) := dk_167 0 37 (dk_at dksX16_present_4 15 rfl rfl)
theorem dX16_present_102 : decode cX16_present 102 = .ok (.aload_n 0, 1) := dk_42 (dk_at dksX16_present_4 18 rfl rfl)
theorem dX16_present_103 : decode cX16_present 103 = .ok (.getfield 50, 3) := dk_180 0 50 (dk_at dksX16_present_4 19 rfl rfl)
theorem dX16_present_106 : decode cX16_present 106 = .ok (.iload_n 2, 1) := dk_28 (dk_at dksX16_present_4 22 rfl rfl)
theorem dX16_present_107 : decode cX16_present 107 = .ok (.aload_n 0, 1) := dk_42 (dk_at dksX16_present_4 23 rfl rfl)
theorem dX16_present_108 : decode cX16_present 108 = .ok (.getfield 11, 3) := dk_180 0 11 (dk_at dksX16_present_5 0 rfl rfl)
theorem dX16_present_111 : decode cX16_present 111 = .ok (.iconst 3, 1) := dk_6 (dk_at dksX16_present_5 3 rfl rfl)
theorem dX16_present_112 : decode cX16_present 112 = .ok (.iaload, 1) := dk_46 (dk_at dksX16_present_5 4 rfl rfl)
theorem dX16_present_113 : decode cX16_present 113 = .ok (.iload_n 3, 1) := dk_29 (dk_at dksX16_present_5 5 rfl rfl)
theorem dX16_present_114 : decode cX16_present 114 = .ok (.iconst 1, 1) := dk_4 (dk_at dksX16_present_5 6 rfl rfl)
theorem dX16_present_115 : decode cX16_present 115 = .ok (.iadd, 1) := dk_96 (dk_at dksX16_present_5 7 rfl rfl)
theorem dX16_present_116 : decode cX16_present 116 = .ok (.irem, 1) := dk_112 (dk_at dksX16_present_5 8 rfl rfl)
theorem dX16_present_117 : decode cX16_present 117 = .ok (.ifCond .ne 7, 3) := dk_154 0 7 (dk_at dksX16_present_5 9 rfl rfl)
theorem dX16_present_120 : decode cX16_present 120 = .ok (.iconst 1, 1) := dk_4 (dk_at dksX16_present_5 12 rfl rfl)
theorem dX16_present_121 : decode cX16_present 121 = .ok (.goto 4, 3) := dk_167 0 4 (dk_at dksX16_present_5 13 rfl rfl)
theorem dX16_present_124 : decode cX16_present 124 = .ok (.iconst 0, 1) := dk_3 (dk_at dksX16_present_5 16 rfl rfl)
theorem dX16_present_125 : decode cX16_present 125 = .ok (.bastore, 1) := dk_84 (dk_at dksX16_present_5 17 rfl rfl)
theorem dX16_present_126 : decode cX16_present 126 = .ok (.goto 10, 3) := dk_167 0 10 (dk_at dksX16_present_5 18 rfl rfl)
theorem dX16_present_129 : decode cX16_present 129 = .ok (.aload_n 0, 1) := dk_42 (dk_at dksX16_present_5 21 rfl rfl)
theorem dX16_present_130 : decode cX16_present 130 = .ok (.getfield 50, 3) := dk_180 0 50 (dk_at dksX16_present_6 0 rfl rfl)
theorem dX16_present_133 : decode cX16_present 133 = .ok (.iload_n 2, 1) := dk_28 (dk_at dksX16_present_6 3 rfl rfl)
theorem dX16_present_134 : decode cX16_present 134 = .ok (.iconst 0, 1) := dk_3 (dk_at dksX16_present_6 4 rfl rfl)
theorem dX16_present_135 : decode cX16_present 135 = .ok (.bastore, 1) := dk_84 (dk_at dksX16_present_6 5 rfl rfl)
theorem dX16_present_136 : decode cX16_present 136 = .ok (.iload_n 1, 1) := dk_27 (dk_at dksX16_present_6 6 rfl rfl)
theorem dX16_present_137 : decode cX16_present 137 = .ok (.aload_n 0, 1) := dk_42 (dk_at dksX16_present_6 7 rfl rfl)
theorem dX16_present_138 : decode cX16_present 138 = .ok (.getfield 50, 3) := dk_180 0 50 (dk_at dksX16_present_6 8 rfl rfl)
theorem dX16_present_141 : decode cX16_present 141 = .ok (.iload_n 2, 1) := dk_28 (dk_at dksX16_present_6 11 rfl rfl)
theorem dX16_present_142 : decode cX16_present 142 = .ok (.baload, 1) := dk_51 (dk_at dksX16_present_6 12 rfl rfl)
theorem dX16_present_143 : decode cX16_present 143 = .ok (.ifCond .eq 12, 3) := dk_153 0 12 (dk_at dksX16_present_6 13 rfl rfl)
theorem dX16_present_146 : decode cX16_present 146 = .ok (.aload_n 0, 1) := dk_42 (dk_at dksX16_present_6 16 rfl rfl)
theorem dX16_present_147 : decode cX16_present 147 = .ok (.iload_n 2, 1) := dk_28 (dk_at dksX16_present_6 17 rfl rfl)
theorem dX16_present_148 : decode cX16_present 148 = .ok (.iconst 0, 1) := dk_3 (dk_at dksX16_present_6 18 rfl rfl)
theorem dX16_present_149 : decode cX16_present 149 = .ok (.invokevirtual 69, 3) := dk_182 0 69 (dk_at dksX16_present_6 19 rfl rfl)
theorem dX16_present_152 : decode cX16_present 152 = .ok (.goto 4, 3) := dk_167 0 4 (dk_at dksX16_present_7 0 rfl rfl)
theorem dX16_present_155 : decode cX16_present 155 = .ok (.iconst 0, 1) := dk_3 (dk_at dksX16_present_7 3 rfl rfl)
theorem dX16_present_156 : decode cX16_present 156 = .ok (.iadd, 1) := dk_96 (dk_at dksX16_present_7 4 rfl rfl)
theorem dX16_present_157 : decode cX16_present 157 = .ok (.istore_n 1, 1) := dk_60 (dk_at dksX16_present_7 5 rfl rfl)
theorem dX16_present_158 : decode cX16_present 158 = .ok (.iinc 2 1, 3) := dk_132 2 1 (dk_at dksX16_present_7 6 rfl rfl)
theorem dX16_present_161 : decode cX16_present 161 = .ok (.goto (-157), 3) := dk_167 255 99 (dk_at dksX16_present_7 9 rfl rfl)
theorem dX16_present_164 : decode cX16_present 164 = .ok (.iconst 0, 1) := dk_3 (dk_at dksX16_present_7 12 rfl rfl)
theorem dX16_present_165 : decode cX16_present 165 = .ok (.istore_n 2, 1) := dk_61 (dk_at dksX16_present_7 13 rfl rfl)
theorem dX16_present_166 : decode cX16_present 166 = .ok (.iload_n 2, 1) := dk_28 (dk_at dksX16_present_7 14 rfl rfl)
theorem dX16_present_167 : decode cX16_present 167 = .ok (.aload_n 0, 1) := dk_42 (dk_at dksX16_present_7 15 rfl rfl)
theorem dX16_present_168 : decode cX16_present 168 = .ok (.getfield 11, 3) := dk_180 0 11 (dk_at dksX16_present_7 16 rfl rfl)
theorem dX16_present_171 : decode cX16_present 171 = .ok (.iconst 0, 1) := dk_3 (dk_at dksX16_present_7 19 rfl rfl)
theorem dX16_present_172 : decode cX16_present 172 = .ok (.iaload, 1) := dk_46 (dk_at dksX16_present_7 20 rfl rfl)
theorem dX16_present_173 : decode cX16_present 173 = .ok (.if_icmp .ge 69, 3) := dk_162 0 69 (dk_at dksX16_present_7 21 rfl rfl)
theorem dX16_present_176 : decode cX16_present 176 = .ok (.aload_n 0, 1) := dk_42 (dk_at dksX16_present_8 0 rfl rfl)
theorem dX16_present_177 : decode cX16_present 177 = .ok (.iload_n 2, 1) := dk_28 (dk_at dksX16_present_8 1 rfl rfl)
theorem dX16_present_178 : decode cX16_present 178 = .ok (.iconst 1, 1) := dk_4 (dk_at dksX16_present_8 2 rfl rfl)
theorem dX16_present_179 : decode cX16_present 179 = .ok (.invokevirtual 69, 3) := dk_182 0 69 (dk_at dksX16_present_8 3 rfl rfl)
theorem dX16_present_182 : decode cX16_present 182 = .ok (.iconst 5, 1) := dk_8 (dk_at dksX16_present_8 6 rfl rfl)
theorem dX16_present_183 : decode cX16_present 183 = .ok (.if_icmp .ne 53, 3) := dk_160 0 53 (dk_at dksX16_present_8 7 rfl rfl)
theorem dX16_present_186 : decode cX16_present 186 = .ok (.aload_n 0, 1) := dk_42 (dk_at dksX16_present_8 10 rfl rfl)
theorem dX16_present_187 : decode cX16_present 187 = .ok (.getfield 50, 3) := dk_180 0 50 (dk_at dksX16_present_8 11 rfl rfl)
theorem dX16_present_190 : decode cX16_present 190 = .ok (.iload_n 2, 1) := dk_28 (dk_at dksX16_present_8 14 rfl rfl)
theorem dX16_present_191 : decode cX16_present 191 = .ok (.iload_n 1, 1) := dk_27 (dk_at dksX16_present_8 15 rfl rfl)
theorem dX16_present_192 : decode cX16_present 192 = .ok (.aload_n 0, 1) := dk_42 (dk_at dksX16_present_8 16 rfl rfl)
theorem dX16_present_193 : decode cX16_present 193 = .ok (.iload_n 2, 1) := dk_28 (dk_at dksX16_present_8 17 rfl rfl)
theorem dX16_present_194 : decode cX16_present 194 = .ok (.iconst 0, 1) := dk_3 (dk_at dksX16_present_8 18 rfl rfl)
theorem dX16_present_195 : decode cX16_present 195 = .ok (.invokevirtual 69, 3) := dk_182 0 69 (dk_at dksX16_present_8 19 rfl rfl)
theorem dX16_present_198 : decode cX16_present 198 = .ok (.iadd, 1) := dk_96 (dk_at dksX16_present_8 22 rfl rfl)
theorem dX16_present_199 : decode cX16_present 199 = .ok (.aload_n 0, 1) := dk_42 (dk_at dksX16_present_8 23 rfl rfl)
theorem dX16_present_200 : decode cX16_present 200 = .ok (.getfield 11, 3) := dk_180 0 11 (dk_at dksX16_present_9 0 rfl rfl)
theorem dX16_present_203 : decode cX16_present 203 = .ok (.iconst 2, 1) := dk_5 (dk_at dksX16_present_9 3 rfl rfl)
theorem dX16_present_204 : decode cX16_present 204 = .ok (.iaload, 1) := dk_46 (dk_at dksX16_present_9 4 rfl rfl)
theorem dX16_present_205 : decode cX16_present 205 = .ok (.if_icmp .gt 7, 3) := dk_163 0 7 (dk_at dksX16_present_9 5 rfl rfl)
theorem dX16_present_208 : decode cX16_present 208 = .ok (.iconst 1, 1) := dk_4 (dk_at dksX16_present_9 8 rfl rfl)
theorem dX16_present_209 : decode cX16_present 209 = .ok (.goto 4, 3) := dk_167 0 4 (dk_at dksX16_present_9 9 rfl rfl)
theorem dX16_present_212 : decode cX16_present 212 = .ok (.iconst 0, 1) := dk_3 (dk_at dksX16_present_9 12 rfl rfl)
theorem dX16_present_213 : decode cX16_present 213 = .ok (.bastore, 1) := dk_84 (dk_at dksX16_present_9 13 rfl rfl)
theorem dX16_present_214 : decode cX16_present 214 = .ok (.iload_n 1, 1) := dk_27 (dk_at dksX16_present_9 14 rfl rfl)
theorem dX16_present_215 : decode cX16_present 215 = .ok (.aload_n 0, 1) := dk_42 (dk_at dksX16_present_9 15 rfl rfl)
theorem dX16_present_216 : decode cX16_present 216 = .ok (.getfield 50, 3) := dk_180 0 50 (dk_at dksX16_present_9 16 rfl rfl)
theorem dX16_present_219 : decode cX16_present 219 = .ok (.iload_n 2, 1) := dk_28 (dk_at dksX16_present_9 19 rfl rfl)
theorem dX16_present_220 : decode cX16_present 220 = .ok (.baload, 1) := dk_51 (dk_at dksX16_present_9 20 rfl rfl)
theorem dX16_present_221 : decode cX16_present 221 = .ok (.ifCond .eq 12, 3) := dk_153 0 12 (dk_at dksX16_present_9 21 rfl rfl)
theorem dX16_present_224 : decode cX16_present 224 = .ok (.aload_n 0, 1) := dk_42 (dk_at dksX16_present_10 0 rfl rfl)
theorem dX16_present_225 : decode cX16_present 225 = .ok (.iload_n 2, 1) := dk_28 (dk_at dksX16_present_10 1 rfl rfl)
theorem dX16_present_226 : decode cX16_present 226 = .ok (.iconst 0, 1) := dk_3 (dk_at dksX16_present_10 2 rfl rfl)
theorem dX16_present_227 : decode cX16_present 227 = .ok (.invokevirtual 69, 3) := dk_182 0 69 (dk_at dksX16_present_10 3 rfl rfl)
theorem dX16_present_230 : decode cX16_present 230 = .ok (.goto 4, 3) := dk_167 0 4 (dk_at dksX16_present_10 6 rfl rfl)
theorem dX16_present_233 : decode cX16_present 233 = .ok (.iconst 0, 1) := dk_3 (dk_at dksX16_present_10 9 rfl rfl)
theorem dX16_present_234 : decode cX16_present 234 = .ok (.iadd, 1) := dk_96 (dk_at dksX16_present_10 10 rfl rfl)
theorem dX16_present_235 : decode cX16_present 235 = .ok (.istore_n 1, 1) := dk_60 (dk_at dksX16_present_10 11 rfl rfl)
theorem dX16_present_236 : decode cX16_present 236 = .ok (.iinc 2 1, 3) := dk_132 2 1 (dk_at dksX16_present_10 12 rfl rfl)
theorem dX16_present_239 : decode cX16_present 239 = .ok (.goto (-73), 3) := dk_167 255 183 (dk_at dksX16_present_10 15 rfl rfl)
theorem dX16_present_242 : decode cX16_present 242 = .ok (.iload_n 1, 1) := dk_27 (dk_at dksX16_present_10 18 rfl rfl)
theorem dX16_present_243 : decode cX16_present 243 = .ok (.ireturn, 1) := dk_172 (dk_at dksX16_present_10 19 rfl rfl)
abbrev cX16_isRoom : ByteArray := prog_28_method_20_code
def yX16_isRoom : MethodName := ⟨RX16, "isRoom", "(I)Z"⟩
def dkwX16_isRoom_1 : List UInt8 := [46, 182, 0, 126, 42, 180, 0, 11, 5, 46, 163, 0, 7, 4, 167, 0, 4, 3, 172]
abbrev dktX16_isRoom_1 : List UInt8 := dkwX16_isRoom_1 ++ []
def dkwX16_isRoom_0 : List UInt8 := [42, 42, 180, 0, 11, 16, 40, 6, 27, 104, 96, 46, 42, 180, 0, 11, 16, 40, 6, 27, 104, 96, 4, 96]
abbrev dktX16_isRoom_0 : List UInt8 := dkwX16_isRoom_0 ++ dktX16_isRoom_1
theorem dksX16_isRoom_0 : cX16_isRoom.data.toList.drop 0 = dktX16_isRoom_0 := by decide +kernel
theorem dksX16_isRoom_1 : cX16_isRoom.data.toList.drop 24 = dktX16_isRoom_1 := dk_seg dksX16_isRoom_0 24 rfl rfl
theorem dX16_isRoom_0 : decode cX16_isRoom 0 = .ok (.aload_n 0, 1) := dk_42 (dk_at dksX16_isRoom_0 0 rfl rfl)
theorem dX16_isRoom_1 : decode cX16_isRoom 1 = .ok (.aload_n 0, 1) := dk_42 (dk_at dksX16_isRoom_0 1 rfl rfl)
theorem dX16_isRoom_2 : decode cX16_isRoom 2 = .ok (.getfield 11, 3) := dk_180 0 11 (dk_at dksX16_isRoom_0 2 rfl rfl)
theorem dX16_isRoom_5 : decode cX16_isRoom 5 = .ok (.bipush 40, 2) := dk_16 40 (dk_at dksX16_isRoom_0 5 rfl rfl)
theorem dX16_isRoom_7 : decode cX16_isRoom 7 = .ok (.iconst 3, 1) := dk_6 (dk_at dksX16_isRoom_0 7 rfl rfl)
theorem dX16_isRoom_8 : decode cX16_isRoom 8 = .ok (.iload_n 1, 1) := dk_27 (dk_at dksX16_isRoom_0 8 rfl rfl)
theorem dX16_isRoom_9 : decode cX16_isRoom 9 = .ok (.imul, 1) := dk_104 (dk_at dksX16_isRoom_0 9 rfl rfl)
theorem dX16_isRoom_10 : decode cX16_isRoom 10 = .ok (.iadd, 1) := dk_96 (dk_at dksX16_isRoom_0 10 rfl rfl)
theorem dX16_isRoom_11 : decode cX16_isRoom 11 = .ok (.iaload, 1) := dk_46 (dk_at dksX16_isRoom_0 11 rfl rfl)
theorem dX16_isRoom_12 : decode cX16_isRoom 12 = .ok (.aload_n 0, 1) := dk_42 (dk_at dksX16_isRoom_0 12 rfl rfl)
theorem dX16_isRoom_13 : decode cX16_isRoom 13 = .ok (.getfield 11, 3) := dk_180 0 11 (dk_at dksX16_isRoom_0 13 rfl rfl)
theorem dX16_isRoom_16 : decode cX16_isRoom 16 = .ok (.bipush 40, 2) := dk_16 40 (dk_at dksX16_isRoom_0 16 rfl rfl)
theorem dX16_isRoom_18 : decode cX16_isRoom 18 = .ok (.iconst 3, 1) := dk_6 (dk_at dksX16_isRoom_0 18 rfl rfl)
theorem dX16_isRoom_19 : decode cX16_isRoom 19 = .ok (.iload_n 1, 1) := dk_27 (dk_at dksX16_isRoom_0 19 rfl rfl)
theorem dX16_isRoom_20 : decode cX16_isRoom 20 = .ok (.imul, 1) := dk_104 (dk_at dksX16_isRoom_0 20 rfl rfl)
theorem dX16_isRoom_21 : decode cX16_isRoom 21 = .ok (.iadd, 1) := dk_96 (dk_at dksX16_isRoom_0 21 rfl rfl)
theorem dX16_isRoom_22 : decode cX16_isRoom 22 = .ok (.iconst 1, 1) := dk_4 (dk_at dksX16_isRoom_0 22 rfl rfl)
theorem dX16_isRoom_23 : decode cX16_isRoom 23 = .ok (.iadd, 1) := dk_96 (dk_at dksX16_isRoom_0 23 rfl rfl)
theorem dX16_isRoom_24 : decode cX16_isRoom 24 = .ok (.iaload, 1) := dk_46 (dk_at dksX16_isRoom_1 0 rfl rfl)
theorem dX16_isRoom_25 : decode cX16_isRoom 25 = .ok (.invokevirtual 126, 3) := dk_182 0 126 (dk_at dksX16_isRoom_1 1 rfl rfl)
theorem dX16_isRoom_28 : decode cX16_isRoom 28 = .ok (.aload_n 0, 1) := dk_42 (dk_at dksX16_isRoom_1 4 rfl rfl)
theorem dX16_isRoom_29 : decode cX16_isRoom 29 = .ok (.getfield 11, 3) := dk_180 0 11 (dk_at dksX16_isRoom_1 5 rfl rfl)
theorem dX16_isRoom_32 : decode cX16_isRoom 32 = .ok (.iconst 2, 1) := dk_5 (dk_at dksX16_isRoom_1 8 rfl rfl)
theorem dX16_isRoom_33 : decode cX16_isRoom 33 = .ok (.iaload, 1) := dk_46 (dk_at dksX16_isRoom_1 9 rfl rfl)
theorem dX16_isRoom_34 : decode cX16_isRoom 34 = .ok (.if_icmp .gt 7, 3) := dk_163 0 7 (dk_at dksX16_isRoom_1 10 rfl rfl)
theorem dX16_isRoom_37 : decode cX16_isRoom 37 = .ok (.iconst 1, 1) := dk_4 (dk_at dksX16_isRoom_1 13 rfl rfl)
theorem dX16_isRoom_38 : decode cX16_isRoom 38 = .ok (.goto 4, 3) := dk_167 0 4 (dk_at dksX16_isRoom_1 14 rfl rfl)
theorem dX16_isRoom_41 : decode cX16_isRoom 41 = .ok (.iconst 0, 1) := dk_3 (dk_at dksX16_isRoom_1 17 rfl rfl)
theorem dX16_isRoom_42 : decode cX16_isRoom 42 = .ok (.ireturn, 1) := dk_172 (dk_at dksX16_isRoom_1 18 rfl rfl)
abbrev cX16_hat : ByteArray := prog_28_method_21_code
def yX16_hat : MethodName := ⟨RX16, "hat", "(I)I"⟩
def dkwX16_hat_2 : List UInt8 := [167, 0, 4, 28, 61, 132, 3, 1, 167, 255, 208, 28, 172]
abbrev dktX16_hat_2 : List UInt8 := dkwX16_hat_2 ++ []
def dkwX16_hat_1 : List UInt8 := [104, 96, 5, 96, 46, 42, 180, 0, 11, 16, 40, 6, 28, 104, 96, 5, 96, 46, 164, 0, 7, 29]
abbrev dktX16_hat_1 : List UInt8 := dkwX16_hat_1 ++ dktX16_hat_2
def dkwX16_hat_0 : List UInt8 := [27, 61, 27, 4, 96, 62, 29, 42, 180, 0, 11, 4, 46, 162, 0, 44, 42, 180, 0, 11, 16, 40, 6, 29]
abbrev dktX16_hat_0 : List UInt8 := dkwX16_hat_0 ++ dktX16_hat_1
theorem dksX16_hat_0 : cX16_hat.data.toList.drop 0 = dktX16_hat_0 := by decide +kernel
theorem dksX16_hat_1 : cX16_hat.data.toList.drop 24 = dktX16_hat_1 := dk_seg dksX16_hat_0 24 rfl rfl
theorem dksX16_hat_2 : cX16_hat.data.toList.drop 46 = dktX16_hat_2 := dk_seg dksX16_hat_1 22 rfl rfl
theorem dX16_hat_0 : decode cX16_hat 0 = .ok (.iload_n 1, 1) := dk_27 (dk_at dksX16_hat_0 0 rfl rfl)
theorem dX16_hat_1 : decode cX16_hat 1 = .ok (.istore_n 2, 1) := dk_61 (dk_at dksX16_hat_0 1 rfl rfl)
theorem dX16_hat_2 : decode cX16_hat 2 = .ok (.iload_n 1, 1) := dk_27 (dk_at dksX16_hat_0 2 rfl rfl)
theorem dX16_hat_3 : decode cX16_hat 3 = .ok (.iconst 1, 1) := dk_4 (dk_at dksX16_hat_0 3 rfl rfl)
theorem dX16_hat_4 : decode cX16_hat 4 = .ok (.iadd, 1) := dk_96 (dk_at dksX16_hat_0 4 rfl rfl)
theorem dX16_hat_5 : decode cX16_hat 5 = .ok (.istore_n 3, 1) := dk_62 (dk_at dksX16_hat_0 5 rfl rfl)
theorem dX16_hat_6 : decode cX16_hat 6 = .ok (.iload_n 3, 1) := dk_29 (dk_at dksX16_hat_0 6 rfl rfl)
theorem dX16_hat_7 : decode cX16_hat 7 = .ok (.aload_n 0, 1) := dk_42 (dk_at dksX16_hat_0 7 rfl rfl)
theorem dX16_hat_8 : decode cX16_hat 8 = .ok (.getfield 11, 3) := dk_180 0 11 (dk_at dksX16_hat_0 8 rfl rfl)
theorem dX16_hat_11 : decode cX16_hat 11 = .ok (.iconst 1, 1) := dk_4 (dk_at dksX16_hat_0 11 rfl rfl)
theorem dX16_hat_12 : decode cX16_hat 12 = .ok (.iaload, 1) := dk_46 (dk_at dksX16_hat_0 12 rfl rfl)
theorem dX16_hat_13 : decode cX16_hat 13 = .ok (.if_icmp .ge 44, 3) := dk_162 0 44 (dk_at dksX16_hat_0 13 rfl rfl)
theorem dX16_hat_16 : decode cX16_hat 16 = .ok (.aload_n 0, 1) := dk_42 (dk_at dksX16_hat_0 16 rfl rfl)
theorem dX16_hat_17 : decode cX16_hat 17 = .ok (.getfield 11, 3) := dk_180 0 11 (dk_at dksX16_hat_0 17 rfl rfl)
theorem dX16_hat_20 : decode cX16_hat 20 = .ok (.bipush 40, 2) := dk_16 40 (dk_at dksX16_hat_0 20 rfl rfl)
theorem dX16_hat_22 : decode cX16_hat 22 = .ok (.iconst 3, 1) := dk_6 (dk_at dksX16_hat_0 22 rfl rfl)
theorem dX16_hat_23 : decode cX16_hat 23 = .ok (.iload_n 3, 1) := dk_29 (dk_at dksX16_hat_0 23 rfl rfl)
theorem dX16_hat_24 : decode cX16_hat 24 = .ok (.imul, 1) := dk_104 (dk_at dksX16_hat_1 0 rfl rfl)
theorem dX16_hat_25 : decode cX16_hat 25 = .ok (.iadd, 1) := dk_96 (dk_at dksX16_hat_1 1 rfl rfl)
theorem dX16_hat_26 : decode cX16_hat 26 = .ok (.iconst 2, 1) := dk_5 (dk_at dksX16_hat_1 2 rfl rfl)
theorem dX16_hat_27 : decode cX16_hat 27 = .ok (.iadd, 1) := dk_96 (dk_at dksX16_hat_1 3 rfl rfl)
theorem dX16_hat_28 : decode cX16_hat 28 = .ok (.iaload, 1) := dk_46 (dk_at dksX16_hat_1 4 rfl rfl)
theorem dX16_hat_29 : decode cX16_hat 29 = .ok (.aload_n 0, 1) := dk_42 (dk_at dksX16_hat_1 5 rfl rfl)
theorem dX16_hat_30 : decode cX16_hat 30 = .ok (.getfield 11, 3) := dk_180 0 11 (dk_at dksX16_hat_1 6 rfl rfl)
theorem dX16_hat_33 : decode cX16_hat 33 = .ok (.bipush 40, 2) := dk_16 40 (dk_at dksX16_hat_1 9 rfl rfl)
theorem dX16_hat_35 : decode cX16_hat 35 = .ok (.iconst 3, 1) := dk_6 (dk_at dksX16_hat_1 11 rfl rfl)
theorem dX16_hat_36 : decode cX16_hat 36 = .ok (.iload_n 2, 1) := dk_28 (dk_at dksX16_hat_1 12 rfl rfl)
theorem dX16_hat_37 : decode cX16_hat 37 = .ok (.imul, 1) := dk_104 (dk_at dksX16_hat_1 13 rfl rfl)
theorem dX16_hat_38 : decode cX16_hat 38 = .ok (.iadd, 1) := dk_96 (dk_at dksX16_hat_1 14 rfl rfl)
theorem dX16_hat_39 : decode cX16_hat 39 = .ok (.iconst 2, 1) := dk_5 (dk_at dksX16_hat_1 15 rfl rfl)
theorem dX16_hat_40 : decode cX16_hat 40 = .ok (.iadd, 1) := dk_96 (dk_at dksX16_hat_1 16 rfl rfl)
theorem dX16_hat_41 : decode cX16_hat 41 = .ok (.iaload, 1) := dk_46 (dk_at dksX16_hat_1 17 rfl rfl)
theorem dX16_hat_42 : decode cX16_hat 42 = .ok (.if_icmp .le 7, 3) := dk_164 0 7 (dk_at dksX16_hat_1 18 rfl rfl)
theorem dX16_hat_45 : decode cX16_hat 45 = .ok (.iload_n 3, 1) := dk_29 (dk_at dksX16_hat_1 21 rfl rfl)
theorem dX16_hat_46 : decode cX16_hat 46 = .ok (.goto 4, 3) := dk_167 0 4 (dk_at dksX16_hat_2 0 rfl rfl)
theorem dX16_hat_49 : decode cX16_hat 49 = .ok (.iload_n 2, 1) := dk_28 (dk_at dksX16_hat_2 3 rfl rfl)
theorem dX16_hat_50 : decode cX16_hat 50 = .ok (.istore_n 2, 1) := dk_61 (dk_at dksX16_hat_2 4 rfl rfl)
theorem dX16_hat_51 : decode cX16_hat 51 = .ok (.iinc 3 1, 3) := dk_132 3 1 (dk_at dksX16_hat_2 5 rfl rfl)
theorem dX16_hat_54 : decode cX16_hat 54 = .ok (.goto (-48), 3) := dk_167 255 208 (dk_at dksX16_hat_2 8 rfl rfl)
theorem dX16_hat_57 : decode cX16_hat 57 = .ok (.iload_n 2, 1) := dk_28 (dk_at dksX16_hat_2 11 rfl rfl)
theorem dX16_hat_58 : decode cX16_hat 58 = .ok (.ireturn, 1) := dk_172 (dk_at dksX16_hat_2 12 rfl rfl)
abbrev cX16_next : ByteArray := prog_28_method_32_code
def yX16_next : MethodName := ⟨RX16, "next", "()I"⟩
theorem dX16_next_0 : decode cX16_next 0 = .ok (.aload_n 0, 1) := by decide +kernel
theorem dX16_next_1 : decode cX16_next 1 = .ok (.invokevirtual 139, 3) := by decide +kernel
theorem dX16_next_4 : decode cX16_next 4 = .ok (.ireturn, 1) := by decide +kernel
abbrev cX16_goes : ByteArray := prog_28_method_33_code
def yX16_goes : MethodName := ⟨RX16, "goes", "(I)I"⟩
def dkwX16_goes_1 : List UInt8 := [51, 153, 0, 7, 4, 167, 0, 4, 3, 172]
abbrev dktX16_goes_1 : List UInt8 := dkwX16_goes_1 ++ []
def dkwX16_goes_0 : List UInt8 := [42, 27, 182, 0, 142, 153, 0, 9, 42, 2, 182, 0, 21, 172, 42, 182, 0, 139, 87, 42, 180, 0, 50, 27]
abbrev dktX16_goes_0 : List UInt8 := dkwX16_goes_0 ++ dktX16_goes_1
theorem dksX16_goes_0 : cX16_goes.data.toList.drop 0 = dktX16_goes_0 := by decide +kernel
theorem dksX16_goes_1 : cX16_goes.data.toList.drop 24 = dktX16_goes_1 := dk_seg dksX16_goes_0 24 rfl rfl
theorem dX16_goes_0 : decode cX16_goes 0 = .ok (.aload_n 0, 1) := dk_42 (dk_at dksX16_goes_0 0 rfl rfl)
theorem dX16_goes_1 : decode cX16_goes 1 = .ok (.iload_n 1, 1) := dk_27 (dk_at dksX16_goes_0 1 rfl rfl)
theorem dX16_goes_2 : decode cX16_goes 2 = .ok (.invokevirtual 142, 3) := dk_182 0 142 (dk_at dksX16_goes_0 2 rfl rfl)
theorem dX16_goes_5 : decode cX16_goes 5 = .ok (.ifCond .eq 9, 3) := dk_153 0 9 (dk_at dksX16_goes_0 5 rfl rfl)
theorem dX16_goes_8 : decode cX16_goes 8 = .ok (.aload_n 0, 1) := dk_42 (dk_at dksX16_goes_0 8 rfl rfl)
theorem dX16_goes_9 : decode cX16_goes 9 = .ok (.iconst (-1), 1) := dk_2 (dk_at dksX16_goes_0 9 rfl rfl)
theorem dX16_goes_10 : decode cX16_goes 10 = .ok (.invokevirtual 21, 3) := dk_182 0 21 (dk_at dksX16_goes_0 10 rfl rfl)
theorem dX16_goes_13 : decode cX16_goes 13 = .ok (.ireturn, 1) := dk_172 (dk_at dksX16_goes_0 13 rfl rfl)
theorem dX16_goes_14 : decode cX16_goes 14 = .ok (.aload_n 0, 1) := dk_42 (dk_at dksX16_goes_0 14 rfl rfl)
theorem dX16_goes_15 : decode cX16_goes 15 = .ok (.invokevirtual 139, 3) := dk_182 0 139 (dk_at dksX16_goes_0 15 rfl rfl)
theorem dX16_goes_18 : decode cX16_goes 18 = .ok (.pop, 1) := dk_87 (dk_at dksX16_goes_0 18 rfl rfl)
theorem dX16_goes_19 : decode cX16_goes 19 = .ok (.aload_n 0, 1) := dk_42 (dk_at dksX16_goes_0 19 rfl rfl)
theorem dX16_goes_20 : decode cX16_goes 20 = .ok (.getfield 50, 3) := dk_180 0 50 (dk_at dksX16_goes_0 20 rfl rfl)
theorem dX16_goes_23 : decode cX16_goes 23 = .ok (.iload_n 1, 1) := dk_27 (dk_at dksX16_goes_0 23 rfl rfl)
theorem dX16_goes_24 : decode cX16_goes 24 = .ok (.baload, 1) := dk_51 (dk_at dksX16_goes_1 0 rfl rfl)
theorem dX16_goes_25 : decode cX16_goes 25 = .ok (.ifCond .eq 7, 3) := dk_153 0 7 (dk_at dksX16_goes_1 1 rfl rfl)
theorem dX16_goes_28 : decode cX16_goes 28 = .ok (.iconst 1, 1) := dk_4 (dk_at dksX16_goes_1 4 rfl rfl)
theorem dX16_goes_29 : decode cX16_goes 29 = .ok (.goto 4, 3) := dk_167 0 4 (dk_at dksX16_goes_1 5 rfl rfl)
theorem dX16_goes_32 : decode cX16_goes 32 = .ok (.iconst 0, 1) := dk_3 (dk_at dksX16_goes_1 8 rfl rfl)
theorem dX16_goes_33 : decode cX16_goes 33 = .ok (.ireturn, 1) := dk_172 (dk_at dksX16_goes_1 9 rfl rfl)
abbrev cX16_worth : ByteArray := prog_28_method_34_code
def yX16_worth : MethodName := ⟨RX16, "worth", "(I)I"⟩
def dkwX16_worth_3 : List UInt8 := [96, 62, 132, 4, 1, 167, 255, 224, 29, 172]
abbrev dktX16_worth_3 : List UInt8 := dkwX16_worth_3 ++ []
def dkwX16_worth_2 : List UInt8 := [180, 0, 11, 3, 46, 162, 0, 27, 29, 42, 21, 4, 3, 182, 0, 69, 42, 21, 4, 28, 182, 0, 149, 104]
abbrev dktX16_worth_2 : List UInt8 := dkwX16_worth_2 ++ dktX16_worth_3
def dkwX16_worth_1 : List UInt8 := [42, 182, 0, 139, 61, 27, 155, 0, 10, 42, 27, 28, 182, 0, 149, 172, 3, 62, 3, 54, 4, 21, 4, 42]
abbrev dktX16_worth_1 : List UInt8 := dkwX16_worth_1 ++ dktX16_worth_2
def dkwX16_worth_0 : List UInt8 := [27, 2, 161, 0, 13, 27, 42, 180, 0, 11, 3, 46, 161, 0, 12, 18, 148, 42, 2, 182, 0, 21, 100, 172]
abbrev dktX16_worth_0 : List UInt8 := dkwX16_worth_0 ++ dktX16_worth_1
theorem dksX16_worth_0 : cX16_worth.data.toList.drop 0 = dktX16_worth_0 := by decide +kernel
theorem dksX16_worth_1 : cX16_worth.data.toList.drop 24 = dktX16_worth_1 := dk_seg dksX16_worth_0 24 rfl rfl
theorem dksX16_worth_2 : cX16_worth.data.toList.drop 48 = dktX16_worth_2 := dk_seg dksX16_worth_1 24 rfl rfl
theorem dksX16_worth_3 : cX16_worth.data.toList.drop 72 = dktX16_worth_3 := dk_seg dksX16_worth_2 24 rfl rfl
theorem dX16_worth_0 : decode cX16_worth 0 = .ok (.iload_n 1, 1) := dk_27 (dk_at dksX16_worth_0 0 rfl rfl)
theorem dX16_worth_1 : decode cX16_worth 1 = .ok (.iconst (-1), 1) := dk_2 (dk_at dksX16_worth_0 1 rfl rfl)
theorem dX16_worth_2 : decode cX16_worth 2 = .ok (.if_icmp .lt 13, 3) := dk_161 0 13 (dk_at dksX16_worth_0 2 rfl rfl)
theorem dX16_worth_5 : decode cX16_worth 5 = .ok (.iload_n 1, 1) := dk_27 (dk_at dksX16_worth_0 5 rfl rfl)
theorem dX16_worth_6 : decode cX16_worth 6 = .ok (.aload_n 0, 1) := dk_42 (dk_at dksX16_worth_0 6 rfl rfl)
theorem dX16_worth_7 : decode cX16_worth 7 = .ok (.getfield 11, 3) := dk_180 0 11 (dk_at dksX16_worth_0 7 rfl rfl)
theorem dX16_worth_10 : decode cX16_worth 10 = .ok (.iconst 0, 1) := dk_3 (dk_at dksX16_worth_0 10 rfl rfl)
theorem dX16_worth_11 : decode cX16_worth 11 = .ok (.iaload, 1) := dk_46 (dk_at dksX16_worth_0 11 rfl rfl)
theorem dX16_worth_12 : decode cX16_worth 12 = .ok (.if_icmp .lt 12, 3) := dk_161 0 12 (dk_at dksX16_worth_0 12 rfl rfl)
theorem dX16_worth_15 : decode cX16_worth 15 = .ok (.ldc 148, 2) := dk_18 148 (dk_at dksX16_worth_0 15 rfl rfl)
theorem dX16_worth_17 : decode cX16_worth 17 = .ok (.aload_n 0, 1) := dk_42 (dk_at dksX16_worth_0 17 rfl rfl)
theorem dX16_worth_18 : decode cX16_worth 18 = .ok (.iconst (-1), 1) := dk_2 (dk_at dksX16_worth_0 18 rfl rfl)
theorem dX16_worth_19 : decode cX16_worth 19 = .ok (.invokevirtual 21, 3) := dk_182 0 21 (dk_at dksX16_worth_0 19 rfl rfl)
theorem dX16_worth_22 : decode cX16_worth 22 = .ok (.isub, 1) := dk_100 (dk_at dksX16_worth_0 22 rfl rfl)
theorem dX16_worth_23 : decode cX16_worth 23 = .ok (.ireturn, 1) := dk_172 (dk_at dksX16_worth_0 23 rfl rfl)
theorem dX16_worth_24 : decode cX16_worth 24 = .ok (.aload_n 0, 1) := dk_42 (dk_at dksX16_worth_1 0 rfl rfl)
theorem dX16_worth_25 : decode cX16_worth 25 = .ok (.invokevirtual 139, 3) := dk_182 0 139 (dk_at dksX16_worth_1 1 rfl rfl)
theorem dX16_worth_28 : decode cX16_worth 28 = .ok (.istore_n 2, 1) := dk_61 (dk_at dksX16_worth_1 4 rfl rfl)
theorem dX16_worth_29 : decode cX16_worth 29 = .ok (.iload_n 1, 1) := dk_27 (dk_at dksX16_worth_1 5 rfl rfl)
theorem dX16_worth_30 : decode cX16_worth 30 = .ok (.ifCond .lt 10, 3) := dk_155 0 10 (dk_at dksX16_worth_1 6 rfl rfl)
theorem dX16_worth_33 : decode cX16_worth 33 = .ok (.aload_n 0, 1) := dk_42 (dk_at dksX16_worth_1 9 rfl rfl)
theorem dX16_worth_34 : decode cX16_worth 34 = .ok (.iload_n 1, 1) := dk_27 (dk_at dksX16_worth_1 10 rfl rfl)
theorem dX16_worth_35 : decode cX16_worth 35 = .ok (.iload_n 2, 1) := dk_28 (dk_at dksX16_worth_1 11 rfl rfl)
theorem dX16_worth_36 : decode cX16_worth 36 = .ok (.invokevirtual 149, 3) := dk_182 0 149 (dk_at dksX16_worth_1 12 rfl rfl)
theorem dX16_worth_39 : decode cX16_worth 39 = .ok (.ireturn, 1) := dk_172 (dk_at dksX16_worth_1 15 rfl rfl)
theorem dX16_worth_40 : decode cX16_worth 40 = .ok (.iconst 0, 1) := dk_3 (dk_at dksX16_worth_1 16 rfl rfl)
theorem dX16_worth_41 : decode cX16_worth 41 = .ok (.istore_n 3, 1) := dk_62 (dk_at dksX16_worth_1 17 rfl rfl)
theorem dX16_worth_42 : decode cX16_worth 42 = .ok (.iconst 0, 1) := dk_3 (dk_at dksX16_worth_1 18 rfl rfl)
theorem dX16_worth_43 : decode cX16_worth 43 = .ok (.istore 4, 2) := dk_54 4 (dk_at dksX16_worth_1 19 rfl rfl)
theorem dX16_worth_45 : decode cX16_worth 45 = .ok (.iload 4, 2) := dk_21 4 (dk_at dksX16_worth_1 21 rfl rfl)
theorem dX16_worth_47 : decode cX16_worth 47 = .ok (.aload_n 0, 1) := dk_42 (dk_at dksX16_worth_1 23 rfl rfl)
theorem dX16_worth_48 : decode cX16_worth 48 = .ok (.getfield 11, 3) := dk_180 0 11 (dk_at dksX16_worth_2 0 rfl rfl)
theorem dX16_worth_51 : decode cX16_worth 51 = .ok (.iconst 0, 1) := dk_3 (dk_at dksX16_worth_2 3 rfl rfl)
theorem dX16_worth_52 : decode cX16_worth 52 = .ok (.iaload, 1) := dk_46 (dk_at dksX16_worth_2 4 rfl rfl)
theorem dX16_worth_53 : decode cX16_worth 53 = .ok (.if_icmp .ge 27, 3) := dk_162 0 27 (dk_at dksX16_worth_2 5 rfl rfl)
theorem dX16_worth_56 : decode cX16_worth 56 = .ok (.iload_n 3, 1) := dk_29 (dk_at dksX16_worth_2 8 rfl rfl)
theorem dX16_worth_57 : decode cX16_worth 57 = .ok (.aload_n 0, 1) := dk_42 (dk_at dksX16_worth_2 9 rfl rfl)
theorem dX16_worth_58 : decode cX16_worth 58 = .ok (.iload 4, 2) := dk_21 4 (dk_at dksX16_worth_2 10 rfl rfl)
theorem dX16_worth_60 : decode cX16_worth 60 = .ok (.iconst 0, 1) := dk_3 (dk_at dksX16_worth_2 12 rfl rfl)
theorem dX16_worth_61 : decode cX16_worth 61 = .ok (.invokevirtual 69, 3) := dk_182 0 69 (dk_at dksX16_worth_2 13 rfl rfl)
theorem dX16_worth_64 : decode cX16_worth 64 = .ok (.aload_n 0, 1) := dk_42 (dk_at dksX16_worth_2 16 rfl rfl)
theorem dX16_worth_65 : decode cX16_worth 65 = .ok (.iload 4, 2) := dk_21 4 (dk_at dksX16_worth_2 17 rfl rfl)
theorem dX16_worth_67 : decode cX16_worth 67 = .ok (.iload_n 2, 1) := dk_28 (dk_at dksX16_worth_2 19 rfl rfl)
theorem dX16_worth_68 : decode cX16_worth 68 = .ok (.invokevirtual 149, 3) := dk_182 0 149 (dk_at dksX16_worth_2 20 rfl rfl)
theorem dX16_worth_71 : decode cX16_worth 71 = .ok (.imul, 1) := dk_104 (dk_at dksX16_worth_2 23 rfl rfl)
theorem dX16_worth_72 : decode cX16_worth 72 = .ok (.iadd, 1) := dk_96 (dk_at dksX16_worth_3 0 rfl rfl)
theorem dX16_worth_73 : decode cX16_worth 73 = .ok (.istore_n 3, 1) := dk_62 (dk_at dksX16_worth_3 1 rfl rfl)
theorem dX16_worth_74 : decode cX16_worth 74 = .ok (.iinc 4 1, 3) := dk_132 4 1 (dk_at dksX16_worth_3 2 rfl rfl)
theorem dX16_worth_77 : decode cX16_worth 77 = .ok (.goto (-32), 3) := dk_167 255 224 (dk_at dksX16_worth_3 5 rfl rfl)
theorem dX16_worth_80 : decode cX16_worth 80 = .ok (.iload_n 3, 1) := dk_29 (dk_at dksX16_worth_3 8 rfl rfl)
theorem dX16_worth_81 : decode cX16_worth 81 = .ok (.ireturn, 1) := dk_172 (dk_at dksX16_worth_3 9 rfl rfl)
abbrev cX16_worthNext : ByteArray := prog_28_method_24_code
def yX16_worthNext : MethodName := ⟨RX16, "worthNext", "(II)I"⟩
def dkwX16_worthNext_1 : List UInt8 := [172]
abbrev dktX16_worthNext_1 : List UInt8 := dkwX16_worthNext_1 ++ []
def dkwX16_worthNext_0 : List UInt8 := [42, 180, 0, 50, 27, 51, 153, 0, 12, 42, 27, 28, 182, 0, 136, 167, 0, 9, 42, 27, 8, 182, 0, 69]
abbrev dktX16_worthNext_0 : List UInt8 := dkwX16_worthNext_0 ++ dktX16_worthNext_1
theorem dksX16_worthNext_0 : cX16_worthNext.data.toList.drop 0 = dktX16_worthNext_0 := by decide +kernel
theorem dksX16_worthNext_1 : cX16_worthNext.data.toList.drop 24 = dktX16_worthNext_1 := dk_seg dksX16_worthNext_0 24 rfl rfl
theorem dX16_worthNext_0 : decode cX16_worthNext 0 = .ok (.aload_n 0, 1) := dk_42 (dk_at dksX16_worthNext_0 0 rfl rfl)
theorem dX16_worthNext_1 : decode cX16_worthNext 1 = .ok (.getfield 50, 3) := dk_180 0 50 (dk_at dksX16_worthNext_0 1 rfl rfl)
theorem dX16_worthNext_4 : decode cX16_worthNext 4 = .ok (.iload_n 1, 1) := dk_27 (dk_at dksX16_worthNext_0 4 rfl rfl)
theorem dX16_worthNext_5 : decode cX16_worthNext 5 = .ok (.baload, 1) := dk_51 (dk_at dksX16_worthNext_0 5 rfl rfl)
theorem dX16_worthNext_6 : decode cX16_worthNext 6 = .ok (.ifCond .eq 12, 3) := dk_153 0 12 (dk_at dksX16_worthNext_0 6 rfl rfl)
theorem dX16_worthNext_9 : decode cX16_worthNext 9 = .ok (.aload_n 0, 1) := dk_42 (dk_at dksX16_worthNext_0 9 rfl rfl)
theorem dX16_worthNext_10 : decode cX16_worthNext 10 = .ok (.iload_n 1, 1) := dk_27 (dk_at dksX16_worthNext_0 10 rfl rfl)
theorem dX16_worthNext_11 : decode cX16_worthNext 11 = .ok (.iload_n 2, 1) := dk_28 (dk_at dksX16_worthNext_0 11 rfl rfl)
theorem dX16_worthNext_12 : decode cX16_worthNext 12 = .ok (.invokevirtual 136, 3) := dk_182 0 136 (dk_at dksX16_worthNext_0 12 rfl rfl)
theorem dX16_worthNext_15 : decode cX16_worthNext 15 = .ok (.goto 9, 3) := dk_167 0 9 (dk_at dksX16_worthNext_0 15 rfl rfl)
theorem dX16_worthNext_18 : decode cX16_worthNext 18 = .ok (.aload_n 0, 1) := dk_42 (dk_at dksX16_worthNext_0 18 rfl rfl)
theorem dX16_worthNext_19 : decode cX16_worthNext 19 = .ok (.iload_n 1, 1) := dk_27 (dk_at dksX16_worthNext_0 19 rfl rfl)
theorem dX16_worthNext_20 : decode cX16_worthNext 20 = .ok (.iconst 5, 1) := dk_8 (dk_at dksX16_worthNext_0 20 rfl rfl)
theorem dX16_worthNext_21 : decode cX16_worthNext 21 = .ok (.invokevirtual 69, 3) := dk_182 0 69 (dk_at dksX16_worthNext_0 21 rfl rfl)
theorem dX16_worthNext_24 : decode cX16_worthNext 24 = .ok (.ireturn, 1) := dk_172 (dk_at dksX16_worthNext_1 0 rfl rfl)
abbrev cX16_worthGone : ByteArray := prog_28_method_23_code
def yX16_worthGone : MethodName := ⟨RX16, "worthGone", "(II)I"⟩
def dkwX16_worthGone_1 : List UInt8 := [182, 0, 69, 42, 180, 0, 11, 8, 46, 100, 172]
abbrev dktX16_worthGone_1 : List UInt8 := dkwX16_worthGone_1 ++ []
def dkwX16_worthGone_0 : List UInt8 := [28, 42, 180, 0, 11, 5, 46, 163, 0, 12, 42, 27, 6, 182, 0, 69, 167, 0, 9, 42, 27, 7]
abbrev dktX16_worthGone_0 : List UInt8 := dkwX16_worthGone_0 ++ dktX16_worthGone_1
theorem dksX16_worthGone_0 : cX16_worthGone.data.toList.drop 0 = dktX16_worthGone_0 := by decide +kernel
theorem dksX16_worthGone_1 : cX16_worthGone.data.toList.drop 22 = dktX16_worthGone_1 := dk_seg dksX16_worthGone_0 22 rfl rfl
theorem dX16_worthGone_0 : decode cX16_worthGone 0 = .ok (.iload_n 2, 1) := dk_28 (dk_at dksX16_worthGone_0 0 rfl rfl)
theorem dX16_worthGone_1 : decode cX16_worthGone 1 = .ok (.aload_n 0, 1) := dk_42 (dk_at dksX16_worthGone_0 1 rfl rfl)
theorem dX16_worthGone_2 : decode cX16_worthGone 2 = .ok (.getfield 11, 3) := dk_180 0 11 (dk_at dksX16_worthGone_0 2 rfl rfl)
theorem dX16_worthGone_5 : decode cX16_worthGone 5 = .ok (.iconst 2, 1) := dk_5 (dk_at dksX16_worthGone_0 5 rfl rfl)
theorem dX16_worthGone_6 : decode cX16_worthGone 6 = .ok (.iaload, 1) := dk_46 (dk_at dksX16_worthGone_0 6 rfl rfl)
theorem dX16_worthGone_7 : decode cX16_worthGone 7 = .ok (.if_icmp .gt 12, 3) := dk_163 0 12 (dk_at dksX16_worthGone_0 7 rfl rfl)
theorem dX16_worthGone_10 : decode cX16_worthGone 10 = .ok (.aload_n 0, 1) := dk_42 (dk_at dksX16_worthGone_0 10 rfl rfl)
theorem dX16_worthGone_11 : decode cX16_worthGone 11 = .ok (.iload_n 1, 1) := dk_27 (dk_at dksX16_worthGone_0 11 rfl rfl)
theorem dX16_worthGone_12 : decode cX16_worthGone 12 = .ok (.iconst 3, 1) := dk_6 (dk_at dksX16_worthGone_0 12 rfl rfl)
theorem dX16_worthGone_13 : decode cX16_worthGone 13 = .ok (.invokevirtual 69, 3) := dk_182 0 69 (dk_at dksX16_worthGone_0 13 rfl rfl)
theorem dX16_worthGone_16 : decode cX16_worthGone 16 = .ok (.goto 9, 3) := dk_167 0 9 (dk_at dksX16_worthGone_0 16 rfl rfl)
theorem dX16_worthGone_19 : decode cX16_worthGone 19 = .ok (.aload_n 0, 1) := dk_42 (dk_at dksX16_worthGone_0 19 rfl rfl)
theorem dX16_worthGone_20 : decode cX16_worthGone 20 = .ok (.iload_n 1, 1) := dk_27 (dk_at dksX16_worthGone_0 20 rfl rfl)
theorem dX16_worthGone_21 : decode cX16_worthGone 21 = .ok (.iconst 4, 1) := dk_7 (dk_at dksX16_worthGone_0 21 rfl rfl)
theorem dX16_worthGone_22 : decode cX16_worthGone 22 = .ok (.invokevirtual 69, 3) := dk_182 0 69 (dk_at dksX16_worthGone_1 0 rfl rfl)
theorem dX16_worthGone_25 : decode cX16_worthGone 25 = .ok (.aload_n 0, 1) := dk_42 (dk_at dksX16_worthGone_1 3 rfl rfl)
theorem dX16_worthGone_26 : decode cX16_worthGone 26 = .ok (.getfield 11, 3) := dk_180 0 11 (dk_at dksX16_worthGone_1 4 rfl rfl)
theorem dX16_worthGone_29 : decode cX16_worthGone 29 = .ok (.iconst 5, 1) := dk_8 (dk_at dksX16_worthGone_1 7 rfl rfl)
theorem dX16_worthGone_30 : decode cX16_worthGone 30 = .ok (.iaload, 1) := dk_46 (dk_at dksX16_worthGone_1 8 rfl rfl)
theorem dX16_worthGone_31 : decode cX16_worthGone 31 = .ok (.isub, 1) := dk_100 (dk_at dksX16_worthGone_1 9 rfl rfl)
theorem dX16_worthGone_32 : decode cX16_worthGone 32 = .ok (.ireturn, 1) := dk_172 (dk_at dksX16_worthGone_1 10 rfl rfl)
abbrev cX16_after : ByteArray := prog_28_method_38_code
def yX16_after : MethodName := ⟨RX16, "after", "(I)I"⟩
def dkwX16_after_1 : List UInt8 := [2, 182, 0, 158, 87, 42, 180, 0, 54, 27, 46, 172]
abbrev dktX16_after_1 : List UInt8 := dkwX16_after_1 ++ []
def dkwX16_after_0 : List UInt8 := [42, 27, 16, 60, 182, 0, 155, 153, 0, 15, 42, 42, 27, 16, 60, 182, 0, 155, 182, 0, 21, 172, 42, 27]
abbrev dktX16_after_0 : List UInt8 := dkwX16_after_0 ++ dktX16_after_1
theorem dksX16_after_0 : cX16_after.data.toList.drop 0 = dktX16_after_0 := by decide +kernel
theorem dksX16_after_1 : cX16_after.data.toList.drop 24 = dktX16_after_1 := dk_seg dksX16_after_0 24 rfl rfl
theorem dX16_after_0 : decode cX16_after 0 = .ok (.aload_n 0, 1) := dk_42 (dk_at dksX16_after_0 0 rfl rfl)
theorem dX16_after_1 : decode cX16_after 1 = .ok (.iload_n 1, 1) := dk_27 (dk_at dksX16_after_0 1 rfl rfl)
theorem dX16_after_2 : decode cX16_after 2 = .ok (.bipush 60, 2) := dk_16 60 (dk_at dksX16_after_0 2 rfl rfl)
theorem dX16_after_4 : decode cX16_after 4 = .ok (.invokevirtual 155, 3) := dk_182 0 155 (dk_at dksX16_after_0 4 rfl rfl)
theorem dX16_after_7 : decode cX16_after 7 = .ok (.ifCond .eq 15, 3) := dk_153 0 15 (dk_at dksX16_after_0 7 rfl rfl)
theorem dX16_after_10 : decode cX16_after 10 = .ok (.aload_n 0, 1) := dk_42 (dk_at dksX16_after_0 10 rfl rfl)
theorem dX16_after_11 : decode cX16_after 11 = .ok (.aload_n 0, 1) := dk_42 (dk_at dksX16_after_0 11 rfl rfl)
theorem dX16_after_12 : decode cX16_after 12 = .ok (.iload_n 1, 1) := dk_27 (dk_at dksX16_after_0 12 rfl rfl)
theorem dX16_after_13 : decode cX16_after 13 = .ok (.bipush 60, 2) := dk_16 60 (dk_at dksX16_after_0 13 rfl rfl)
theorem dX16_after_15 : decode cX16_after 15 = .ok (.invokevirtual 155, 3) := dk_182 0 155 (dk_at dksX16_after_0 15 rfl rfl)
theorem dX16_after_18 : decode cX16_after 18 = .ok (.invokevirtual 21, 3) := dk_182 0 21 (dk_at dksX16_after_0 18 rfl rfl)
theorem dX16_after_21 : decode cX16_after 21 = .ok (.ireturn, 1) := dk_172 (dk_at dksX16_after_0 21 rfl rfl)
theorem dX16_after_22 : decode cX16_after 22 = .ok (.aload_n 0, 1) := dk_42 (dk_at dksX16_after_0 22 rfl rfl)
theorem dX16_after_23 : decode cX16_after 23 = .ok (.iload_n 1, 1) := dk_27 (dk_at dksX16_after_0 23 rfl rfl)
theorem dX16_after_24 : decode cX16_after 24 = .ok (.iconst (-1), 1) := dk_2 (dk_at dksX16_after_1 0 rfl rfl)
theorem dX16_after_25 : decode cX16_after 25 = .ok (.invokevirtual 158, 3) := dk_182 0 158 (dk_at dksX16_after_1 1 rfl rfl)
theorem dX16_after_28 : decode cX16_after 28 = .ok (.pop, 1) := dk_87 (dk_at dksX16_after_1 4 rfl rfl)
theorem dX16_after_29 : decode cX16_after 29 = .ok (.aload_n 0, 1) := dk_42 (dk_at dksX16_after_1 5 rfl rfl)
theorem dX16_after_30 : decode cX16_after 30 = .ok (.getfield 54, 3) := dk_180 0 54 (dk_at dksX16_after_1 6 rfl rfl)
theorem dX16_after_33 : decode cX16_after 33 = .ok (.iload_n 1, 1) := dk_27 (dk_at dksX16_after_1 9 rfl rfl)
theorem dX16_after_34 : decode cX16_after 34 = .ok (.iaload, 1) := dk_46 (dk_at dksX16_after_1 10 rfl rfl)
theorem dX16_after_35 : decode cX16_after 35 = .ok (.ireturn, 1) := dk_172 (dk_at dksX16_after_1 11 rfl rfl)
abbrev cX16_isWrong : ByteArray := prog_28_method_35_code
def yX16_isWrong : MethodName := ⟨RX16, "isWrong", "(II)I"⟩
def dkwX16_isWrong_0 : List UInt8 := [27, 4, 162, 0, 8, 16, 252, 167, 0, 14, 27, 28, 164, 0, 8, 16, 250, 167, 0, 4, 3, 172]
abbrev dktX16_isWrong_0 : List UInt8 := dkwX16_isWrong_0 ++ []
theorem dksX16_isWrong_0 : cX16_isWrong.data.toList.drop 0 = dktX16_isWrong_0 := by decide +kernel
theorem dX16_isWrong_0 : decode cX16_isWrong 0 = .ok (.iload_n 1, 1) := dk_27 (dk_at dksX16_isWrong_0 0 rfl rfl)
theorem dX16_isWrong_1 : decode cX16_isWrong 1 = .ok (.iconst 1, 1) := dk_4 (dk_at dksX16_isWrong_0 1 rfl rfl)
theorem dX16_isWrong_2 : decode cX16_isWrong 2 = .ok (.if_icmp .ge 8, 3) := dk_162 0 8 (dk_at dksX16_isWrong_0 2 rfl rfl)
theorem dX16_isWrong_5 : decode cX16_isWrong 5 = .ok (.bipush (-4), 2) := dk_16 252 (dk_at dksX16_isWrong_0 5 rfl rfl)
theorem dX16_isWrong_7 : decode cX16_isWrong 7 = .ok (.goto 14, 3) := dk_167 0 14 (dk_at dksX16_isWrong_0 7 rfl rfl)
theorem dX16_isWrong_10 : decode cX16_isWrong 10 = .ok (.iload_n 1, 1) := dk_27 (dk_at dksX16_isWrong_0 10 rfl rfl)
theorem dX16_isWrong_11 : decode cX16_isWrong 11 = .ok (.iload_n 2, 1) := dk_28 (dk_at dksX16_isWrong_0 11 rfl rfl)
theorem dX16_isWrong_12 : decode cX16_isWrong 12 = .ok (.if_icmp .le 8, 3) := dk_164 0 8 (dk_at dksX16_isWrong_0 12 rfl rfl)
theorem dX16_isWrong_15 : decode cX16_isWrong 15 = .ok (.bipush (-6), 2) := dk_16 250 (dk_at dksX16_isWrong_0 15 rfl rfl)
theorem dX16_isWrong_17 : decode cX16_isWrong 17 = .ok (.goto 4, 3) := dk_167 0 4 (dk_at dksX16_isWrong_0 17 rfl rfl)
theorem dX16_isWrong_20 : decode cX16_isWrong 20 = .ok (.iconst 0, 1) := dk_3 (dk_at dksX16_isWrong_0 20 rfl rfl)
theorem dX16_isWrong_21 : decode cX16_isWrong 21 = .ok (.ireturn, 1) := dk_172 (dk_at dksX16_isWrong_0 21 rfl rfl)
