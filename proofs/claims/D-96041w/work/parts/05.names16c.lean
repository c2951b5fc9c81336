set_option maxRecDepth 100000
abbrev cX16_goAhead : ByteArray := prog_28_method_36_code
def yX16_goAhead : MethodName := ⟨RX16, "goAhead", "(II)I"⟩
def dkwX16_goAhead_3 : List UInt8 := [29, 172]
abbrev dktX16_goAhead_3 : List UInt8 := dkwX16_goAhead_3 ++ []
def dkwX16_goAhead_2 : List UInt8 := [21, 4, 42, 182, 0, 145, 79, 132, 4, 1, 167, 255, 216, 42, 180, 0, 31, 42, 180, 0, 11, 184, 0, 17]
abbrev dktX16_goAhead_2 : List UInt8 := dkwX16_goAhead_2 ++ dktX16_goAhead_3
def dkwX16_goAhead_1 : List UInt8 := [155, 0, 19, 42, 182, 0, 139, 54, 5, 29, 42, 28, 21, 5, 182, 0, 149, 96, 62, 42, 180, 0, 54]
abbrev dktX16_goAhead_1 : List UInt8 := dkwX16_goAhead_1 ++ dktX16_goAhead_2
def dkwX16_goAhead_0 : List UInt8 := [42, 180, 0, 11, 42, 180, 0, 31, 184, 0, 17, 3, 62, 4, 54, 4, 21, 4, 27, 163, 0, 40, 28]
abbrev dktX16_goAhead_0 : List UInt8 := dkwX16_goAhead_0 ++ dktX16_goAhead_1
theorem dksX16_goAhead_0 : cX16_goAhead.data.toList.drop 0 = dktX16_goAhead_0 := by decide +kernel
theorem dksX16_goAhead_1 : cX16_goAhead.data.toList.drop 23 = dktX16_goAhead_1 := dk_seg dksX16_goAhead_0 23 rfl rfl
theorem dksX16_goAhead_2 : cX16_goAhead.data.toList.drop 46 = dktX16_goAhead_2 := dk_seg dksX16_goAhead_1 23 rfl rfl
theorem dksX16_goAhead_3 : cX16_goAhead.data.toList.drop 70 = dktX16_goAhead_3 := dk_seg dksX16_goAhead_2 24 rfl rfl
theorem dX16_goAhead_0 : decode cX16_goAhead 0 = .ok (.aload_n 0, 1) := dk_42 (dk_at dksX16_goAhead_0 0 rfl rfl)
theorem dX16_goAhead_1 : decode cX16_goAhead 1 = .ok (.getfield 11, 3) := dk_180 0 11 (dk_at dksX16_goAhead_0 1 rfl rfl)
theorem dX16_goAhead_4 : decode cX16_goAhead 4 = .ok (.aload_n 0, 1) := dk_42 (dk_at dksX16_goAhead_0 4 rfl rfl)
theorem dX16_goAhead_5 : decode cX16_goAhead 5 = .ok (.getfield 31, 3) := dk_180 0 31 (dk_at dksX16_goAhead_0 5 rfl rfl)
theorem dX16_goAhead_8 : decode cX16_goAhead 8 = .ok (.invokestatic 17, 3) := dk_184 0 17 (dk_at dksX16_goAhead_0 8 rfl rfl)
theorem dX16_goAhead_11 : decode cX16_goAhead 11 = .ok (.iconst 0, 1) := dk_3 (dk_at dksX16_goAhead_0 11 rfl rfl)
theorem dX16_goAhead_12 : decode cX16_goAhead 12 = .ok (.istore_n 3, 1) := dk_62 (dk_at dksX16_goAhead_0 12 rfl rfl)
theorem dX16_goAhead_13 : decode cX16_goAhead 13 = .ok (.iconst 1, 1) := dk_4 (dk_at dksX16_goAhead_0 13 rfl rfl)
theorem dX16_goAhead_14 : decode cX16_goAhead 14 = .ok (.istore 4, 2) := dk_54 4 (dk_at dksX16_goAhead_0 14 rfl rfl)
theorem dX16_goAhead_16 : decode cX16_goAhead 16 = .ok (.iload 4, 2) := dk_21 4 (dk_at dksX16_goAhead_0 16 rfl rfl)
theorem dX16_goAhead_18 : decode cX16_goAhead 18 = .ok (.iload_n 1, 1) := dk_27 (dk_at dksX16_goAhead_0 18 rfl rfl)
theorem dX16_goAhead_19 : decode cX16_goAhead 19 = .ok (.if_icmp .gt 40, 3) := dk_163 0 40 (dk_at dksX16_goAhead_0 19 rfl rfl)
theorem dX16_goAhead_22 : decode cX16_goAhead 22 = .ok (.iload_n 2, 1) := dk_28 (dk_at dksX16_goAhead_0 22 rfl rfl)
theorem dX16_goAhead_23 : decode cX16_goAhead 23 = .ok (.ifCond .lt 19, 3) := dk_155 0 19 (dk_at dksX16_goAhead_1 0 rfl rfl)
theorem dX16_goAhead_26 : decode cX16_goAhead 26 = .ok (.aload_n 0, 1) := dk_42 (dk_at dksX16_goAhead_1 3 rfl rfl)
theorem dX16_goAhead_27 : decode cX16_goAhead 27 = .ok (.invokevirtual 139, 3) := dk_182 0 139 (dk_at dksX16_goAhead_1 4 rfl rfl)
theorem dX16_goAhead_30 : decode cX16_goAhead 30 = .ok (.istore 5, 2) := dk_54 5 (dk_at dksX16_goAhead_1 7 rfl rfl)
theorem dX16_goAhead_32 : decode cX16_goAhead 32 = .ok (.iload_n 3, 1) := dk_29 (dk_at dksX16_goAhead_1 9 rfl rfl)
theorem dX16_goAhead_33 : decode cX16_goAhead 33 = .ok (.aload_n 0, 1) := dk_42 (dk_at dksX16_goAhead_1 10 rfl rfl)
theorem dX16_goAhead_34 : decode cX16_goAhead 34 = .ok (.iload_n 2, 1) := dk_28 (dk_at dksX16_goAhead_1 11 rfl rfl)
theorem dX16_goAhead_35 : decode cX16_goAhead 35 = .ok (.iload 5, 2) := dk_21 5 (dk_at dksX16_goAhead_1 12 rfl rfl)
theorem dX16_goAhead_37 : decode cX16_goAhead 37 = .ok (.invokevirtual 149, 3) := dk_182 0 149 (dk_at dksX16_goAhead_1 14 rfl rfl)
theorem dX16_goAhead_40 : decode cX16_goAhead 40 = .ok (.iadd, 1) := dk_96 (dk_at dksX16_goAhead_1 17 rfl rfl)
theorem dX16_goAhead_41 : decode cX16_goAhead 41 = .ok (.istore_n 3, 1) := dk_62 (dk_at dksX16_goAhead_1 18 rfl rfl)
theorem dX16_goAhead_42 : decode cX16_goAhead 42 = .ok (.aload_n 0, 1) := dk_42 (dk_at dksX16_goAhead_1 19 rfl rfl)
theorem dX16_goAhead_43 : decode cX16_goAhead 43 = .ok (.getfield 54, 3) := dk_180 0 54 (dk_at dksX16_goAhead_1 20 rfl rfl)
theorem dX16_goAhead_46 : decode cX16_goAhead 46 = .ok (.iload 4, 2) := dk_21 4 (dk_at dksX16_goAhead_2 0 rfl rfl)
theorem dX16_goAhead_48 : decode cX16_goAhead 48 = .ok (.aload_n 0, 1) := dk_42 (dk_at dksX16_goAhead_2 2 rfl rfl)
theorem dX16_goAhead_49 : decode cX16_goAhead 49 = .ok (.invokevirtual 145, 3) := dk_182 0 145 (dk_at dksX16_goAhead_2 3 rfl rfl)
theorem dX16_goAhead_52 : decode cX16_goAhead 52 = .ok (.iastore, 1) := dk_79 (dk_at dksX16_goAhead_2 6 rfl rfl)
theorem dX16_goAhead_53 : decode cX16_goAhead 53 = .ok (.iinc 4 1, 3) := dk_132 4 1 (dk_at dksX16_goAhead_2 7 rfl rfl)
theorem dX16_goAhead_56 : decode cX16_goAhead 56 = .ok (.goto (-40), 3) := dk_167 255 216 (dk_at dksX16_goAhead_2 10 rfl rfl)
theorem dX16_goAhead_59 : decode cX16_goAhead 59 = .ok (.aload_n 0, 1) := dk_42 (dk_at dksX16_goAhead_2 13 rfl rfl)
theorem dX16_goAhead_60 : decode cX16_goAhead 60 = .ok (.getfield 31, 3) := dk_180 0 31 (dk_at dksX16_goAhead_2 14 rfl rfl)
theorem dX16_goAhead_63 : decode cX16_goAhead 63 = .ok (.aload_n 0, 1) := dk_42 (dk_at dksX16_goAhead_2 17 rfl rfl)
theorem dX16_goAhead_64 : decode cX16_goAhead 64 = .ok (.getfield 11, 3) := dk_180 0 11 (dk_at dksX16_goAhead_2 18 rfl rfl)
theorem dX16_goAhead_67 : decode cX16_goAhead 67 = .ok (.invokestatic 17, 3) := dk_184 0 17 (dk_at dksX16_goAhead_2 21 rfl rfl)
theorem dX16_goAhead_70 : decode cX16_goAhead 70 = .ok (.iload_n 3, 1) := dk_29 (dk_at dksX16_goAhead_3 0 rfl rfl)
theorem dX16_goAhead_71 : decode cX16_goAhead 71 = .ok (.ireturn, 1) := dk_172 (dk_at dksX16_goAhead_3 1 rfl rfl)
abbrev cX16_mean : ByteArray := prog_28_method_39_code
def yX16_mean : MethodName := ⟨RX16, "mean", "(I)I"⟩
def dkwX16_mean_2 : List UInt8 := [132, 3, 1, 167, 255, 239, 16, 100, 28, 104, 27, 108, 172]
abbrev dktX16_mean_2 : List UInt8 := dkwX16_mean_2 ++ []
def dkwX16_mean_1 : List UInt8 := [2, 182, 0, 158, 87, 3, 61, 4, 62, 29, 27, 163, 0, 18, 28, 42, 180, 0, 54, 29, 46, 96, 61]
abbrev dktX16_mean_1 : List UInt8 := dkwX16_mean_1 ++ dktX16_mean_2
def dkwX16_mean_0 : List UInt8 := [42, 27, 16, 60, 182, 0, 155, 153, 0, 15, 42, 42, 27, 16, 60, 182, 0, 155, 182, 0, 21, 172, 42, 27]
abbrev dktX16_mean_0 : List UInt8 := dkwX16_mean_0 ++ dktX16_mean_1
theorem dksX16_mean_0 : cX16_mean.data.toList.drop 0 = dktX16_mean_0 := by decide +kernel
theorem dksX16_mean_1 : cX16_mean.data.toList.drop 24 = dktX16_mean_1 := dk_seg dksX16_mean_0 24 rfl rfl
theorem dksX16_mean_2 : cX16_mean.data.toList.drop 47 = dktX16_mean_2 := dk_seg dksX16_mean_1 23 rfl rfl
theorem dX16_mean_0 : decode cX16_mean 0 = .ok (.aload_n 0, 1) := dk_42 (dk_at dksX16_mean_0 0 rfl rfl)
theorem dX16_mean_1 : decode cX16_mean 1 = .ok (.iload_n 1, 1) := dk_27 (dk_at dksX16_mean_0 1 rfl rfl)
theorem dX16_mean_2 : decode cX16_mean 2 = .ok (.bipush 60, 2) := dk_16 60 (dk_at dksX16_mean_0 2 rfl rfl)
theorem dX16_mean_4 : decode cX16_mean 4 = .ok (.invokevirtual 155, 3) := dk_182 0 155 (dk_at dksX16_mean_0 4 rfl rfl)
theorem dX16_mean_7 : decode cX16_mean 7 = .ok (.ifCond .eq 15, 3) := dk_153 0 15 (dk_at dksX16_mean_0 7 rfl rfl)
theorem dX16_mean_10 : decode cX16_mean 10 = .ok (.aload_n 0, 1) := dk_42 (dk_at dksX16_mean_0 10 rfl rfl)
theorem dX16_mean_11 : decode cX16_mean 11 = .ok (.aload_n 0, 1) := dk_42 (dk_at dksX16_mean_0 11 rfl rfl)
theorem dX16_mean_12 : decode cX16_mean 12 = .ok (.iload_n 1, 1) := dk_27 (dk_at dksX16_mean_0 12 rfl rfl)
theorem dX16_mean_13 : decode cX16_mean 13 = .ok (.bipush 60, 2) := dk_16 60 (dk_at dksX16_mean_0 13 rfl rfl)
theorem dX16_mean_15 : decode cX16_mean 15 = .ok (.invokevirtual 155, 3) := dk_182 0 155 (dk_at dksX16_mean_0 15 rfl rfl)
theorem dX16_mean_18 : decode cX16_mean 18 = .ok (.invokevirtual 21, 3) := dk_182 0 21 (dk_at dksX16_mean_0 18 rfl rfl)
theorem dX16_mean_21 : decode cX16_mean 21 = .ok (.ireturn, 1) := dk_172 (dk_at dksX16_mean_0 21 rfl rfl)
theorem dX16_mean_22 : decode cX16_mean 22 = .ok (.aload_n 0, 1) := dk_42 (dk_at dksX16_mean_0 22 rfl rfl)
theorem dX16_mean_23 : decode cX16_mean 23 = .ok (.iload_n 1, 1) := dk_27 (dk_at dksX16_mean_0 23 rfl rfl)
theorem dX16_mean_24 : decode cX16_mean 24 = .ok (.iconst (-1), 1) := dk_2 (dk_at dksX16_mean_1 0 rfl rfl)
theorem dX16_mean_25 : decode cX16_mean 25 = .ok (.invokevirtual 158, 3) := dk_182 0 158 (dk_at dksX16_mean_1 1 rfl rfl)
theorem dX16_mean_28 : decode cX16_mean 28 = .ok (.pop, 1) := dk_87 (dk_at dksX16_mean_1 4 rfl rfl)
theorem dX16_mean_29 : decode cX16_mean 29 = .ok (.iconst 0, 1) := dk_3 (dk_at dksX16_mean_1 5 rfl rfl)
theorem dX16_mean_30 : decode cX16_mean 30 = .ok (.istore_n 2, 1) := dk_61 (dk_at dksX16_mean_1 6 rfl rfl)
theorem dX16_mean_31 : decode cX16_mean 31 = .ok (.iconst 1, 1) := dk_4 (dk_at dksX16_mean_1 7 rfl rfl)
theorem dX16_mean_32 : decode cX16_mean 32 = .ok (.istore_n 3, 1) := dk_62 (dk_at dksX16_mean_1 8 rfl rfl)
theorem dX16_mean_33 : decode cX16_mean 33 = .ok (.iload_n 3, 1) := dk_29 (dk_at dksX16_mean_1 9 rfl rfl)
theorem dX16_mean_34 : decode cX16_mean 34 = .ok (.iload_n 1, 1) := dk_27 (dk_at dksX16_mean_1 10 rfl rfl)
theorem dX16_mean_35 : decode cX16_mean 35 = .ok (.if_icmp .gt 18, 3) := dk_163 0 18 (dk_at dksX16_mean_1 11 rfl rfl)
theorem dX16_mean_38 : decode cX16_mean 38 = .ok (.iload_n 2, 1) := dk_28 (dk_at dksX16_mean_1 14 rfl rfl)
theorem dX16_mean_39 : decode cX16_mean 39 = .ok (.aload_n 0, 1) := dk_42 (dk_at dksX16_mean_1 15 rfl rfl)
theorem dX16_mean_40 : decode cX16_mean 40 = .ok (.getfield 54, 3) := dk_180 0 54 (dk_at dksX16_mean_1 16 rfl rfl)
theorem dX16_mean_43 : decode cX16_mean 43 = .ok (.iload_n 3, 1) := dk_29 (dk_at dksX16_mean_1 19 rfl rfl)
theorem dX16_mean_44 : decode cX16_mean 44 = .ok (.iaload, 1) := dk_46 (dk_at dksX16_mean_1 20 rfl rfl)
theorem dX16_mean_45 : decode cX16_mean 45 = .ok (.iadd, 1) := dk_96 (dk_at dksX16_mean_1 21 rfl rfl)
theorem dX16_mean_46 : decode cX16_mean 46 = .ok (.istore_n 2, 1) := dk_61 (dk_at dksX16_mean_1 22 rfl rfl)
theorem dX16_mean_47 : decode cX16_mean 47 = .ok (.iinc 3 1, 3) := dk_132 3 1 (dk_at dksX16_mean_2 0 rfl rfl)
theorem dX16_mean_50 : decode cX16_mean 50 = .ok (.goto (-17), 3) := dk_167 255 239 (dk_at dksX16_mean_2 3 rfl rfl)
theorem dX16_mean_53 : decode cX16_mean 53 = .ok (.bipush 100, 2) := dk_16 100 (dk_at dksX16_mean_2 6 rfl rfl)
theorem dX16_mean_55 : decode cX16_mean 55 = .ok (.iload_n 2, 1) := dk_28 (dk_at dksX16_mean_2 8 rfl rfl)
theorem dX16_mean_56 : decode cX16_mean 56 = .ok (.imul, 1) := dk_104 (dk_at dksX16_mean_2 9 rfl rfl)
theorem dX16_mean_57 : decode cX16_mean 57 = .ok (.iload_n 1, 1) := dk_27 (dk_at dksX16_mean_2 10 rfl rfl)
theorem dX16_mean_58 : decode cX16_mean 58 = .ok (.idiv, 1) := dk_108 (dk_at dksX16_mean_2 11 rfl rfl)
theorem dX16_mean_59 : decode cX16_mean 59 = .ok (.ireturn, 1) := dk_172 (dk_at dksX16_mean_2 12 rfl rfl)
abbrev cX16_swing : ByteArray := prog_28_method_40_code
def yX16_swing : MethodName := ⟨RX16, "swing", "(I)I"⟩
def dkwX16_swing_1 : List UInt8 := [2, 182, 0, 158, 87, 42, 27, 182, 0, 161, 172]
abbrev dktX16_swing_1 : List UInt8 := dkwX16_swing_1 ++ []
def dkwX16_swing_0 : List UInt8 := [42, 27, 16, 60, 182, 0, 155, 153, 0, 15, 42, 42, 27, 16, 60, 182, 0, 155, 182, 0, 21, 172, 42, 27]
abbrev dktX16_swing_0 : List UInt8 := dkwX16_swing_0 ++ dktX16_swing_1
theorem dksX16_swing_0 : cX16_swing.data.toList.drop 0 = dktX16_swing_0 := by decide +kernel
theorem dksX16_swing_1 : cX16_swing.data.toList.drop 24 = dktX16_swing_1 := dk_seg dksX16_swing_0 24 rfl rfl
theorem dX16_swing_0 : decode cX16_swing 0 = .ok (.aload_n 0, 1) := dk_42 (dk_at dksX16_swing_0 0 rfl rfl)
theorem dX16_swing_1 : decode cX16_swing 1 = .ok (.iload_n 1, 1) := dk_27 (dk_at dksX16_swing_0 1 rfl rfl)
theorem dX16_swing_2 : decode cX16_swing 2 = .ok (.bipush 60, 2) := dk_16 60 (dk_at dksX16_swing_0 2 rfl rfl)
theorem dX16_swing_4 : decode cX16_swing 4 = .ok (.invokevirtual 155, 3) := dk_182 0 155 (dk_at dksX16_swing_0 4 rfl rfl)
theorem dX16_swing_7 : decode cX16_swing 7 = .ok (.ifCond .eq 15, 3) := dk_153 0 15 (dk_at dksX16_swing_0 7 rfl rfl)
theorem dX16_swing_10 : decode cX16_swing 10 = .ok (.aload_n 0, 1) := dk_42 (dk_at dksX16_swing_0 10 rfl rfl)
theorem dX16_swing_11 : decode cX16_swing 11 = .ok (.aload_n 0, 1) := dk_42 (dk_at dksX16_swing_0 11 rfl rfl)
theorem dX16_swing_12 : decode cX16_swing 12 = .ok (.iload_n 1, 1) := dk_27 (dk_at dksX16_swing_0 12 rfl rfl)
theorem dX16_swing_13 : decode cX16_swing 13 = .ok (.bipush 60, 2) := dk_16 60 (dk_at dksX16_swing_0 13 rfl rfl)
theorem dX16_swing_15 : decode cX16_swing 15 = .ok (.invokevirtual 155, 3) := dk_182 0 155 (dk_at dksX16_swing_0 15 rfl rfl)
theorem dX16_swing_18 : decode cX16_swing 18 = .ok (.invokevirtual 21, 3) := dk_182 0 21 (dk_at dksX16_swing_0 18 rfl rfl)
theorem dX16_swing_21 : decode cX16_swing 21 = .ok (.ireturn, 1) := dk_172 (dk_at dksX16_swing_0 21 rfl rfl)
theorem dX16_swing_22 : decode cX16_swing 22 = .ok (.aload_n 0, 1) := dk_42 (dk_at dksX16_swing_0 22 rfl rfl)
theorem dX16_swing_23 : decode cX16_swing 23 = .ok (.iload_n 1, 1) := dk_27 (dk_at dksX16_swing_0 23 rfl rfl)
theorem dX16_swing_24 : decode cX16_swing 24 = .ok (.iconst (-1), 1) := dk_2 (dk_at dksX16_swing_1 0 rfl rfl)
theorem dX16_swing_25 : decode cX16_swing 25 = .ok (.invokevirtual 158, 3) := dk_182 0 158 (dk_at dksX16_swing_1 1 rfl rfl)
theorem dX16_swing_28 : decode cX16_swing 28 = .ok (.pop, 1) := dk_87 (dk_at dksX16_swing_1 4 rfl rfl)
theorem dX16_swing_29 : decode cX16_swing 29 = .ok (.aload_n 0, 1) := dk_42 (dk_at dksX16_swing_1 5 rfl rfl)
theorem dX16_swing_30 : decode cX16_swing 30 = .ok (.iload_n 1, 1) := dk_27 (dk_at dksX16_swing_1 6 rfl rfl)
theorem dX16_swing_31 : decode cX16_swing 31 = .ok (.invokevirtual 161, 3) := dk_182 0 161 (dk_at dksX16_swing_1 7 rfl rfl)
theorem dX16_swing_34 : decode cX16_swing 34 = .ok (.ireturn, 1) := dk_172 (dk_at dksX16_swing_1 10 rfl rfl)
abbrev cX16_swungIn : ByteArray := prog_28_method_37_code
def yX16_swungIn : MethodName := ⟨RX16, "swungIn", "(I)I"⟩
def dkwX16_swungIn_2 : List UInt8 := [132, 4, 1, 167, 255, 223, 29, 28, 100, 172]
abbrev dktX16_swungIn_2 : List UInt8 := dkwX16_swungIn_2 ++ []
def dkwX16_swungIn_1 : List UInt8 := [42, 180, 0, 54, 21, 4, 46, 184, 0, 152, 61, 29, 42, 180, 0, 54, 21, 4, 46, 184, 0, 121, 62]
abbrev dktX16_swungIn_1 : List UInt8 := dkwX16_swungIn_1 ++ dktX16_swungIn_2
def dkwX16_swungIn_0 : List UInt8 := [42, 180, 0, 54, 4, 46, 61, 42, 180, 0, 54, 4, 46, 62, 5, 54, 4, 21, 4, 27, 163, 0, 33, 28]
abbrev dktX16_swungIn_0 : List UInt8 := dkwX16_swungIn_0 ++ dktX16_swungIn_1
theorem dksX16_swungIn_0 : cX16_swungIn.data.toList.drop 0 = dktX16_swungIn_0 := by decide +kernel
theorem dksX16_swungIn_1 : cX16_swungIn.data.toList.drop 24 = dktX16_swungIn_1 := dk_seg dksX16_swungIn_0 24 rfl rfl
theorem dksX16_swungIn_2 : cX16_swungIn.data.toList.drop 47 = dktX16_swungIn_2 := dk_seg dksX16_swungIn_1 23 rfl rfl
theorem dX16_swungIn_0 : decode cX16_swungIn 0 = .ok (.aload_n 0, 1) := dk_42 (dk_at dksX16_swungIn_0 0 rfl rfl)
theorem dX16_swungIn_1 : decode cX16_swungIn 1 = .ok (.getfield 54, 3) := dk_180 0 54 (dk_at dksX16_swungIn_0 1 rfl rfl)
theorem dX16_swungIn_4 : decode cX16_swungIn 4 = .ok (.iconst 1, 1) := dk_4 (dk_at dksX16_swungIn_0 4 rfl rfl)
theorem dX16_swungIn_5 : decode cX16_swungIn 5 = .ok (.iaload, 1) := dk_46 (dk_at dksX16_swungIn_0 5 rfl rfl)
theorem dX16_swungIn_6 : decode cX16_swungIn 6 = .ok (.istore_n 2, 1) := dk_61 (dk_at dksX16_swungIn_0 6 rfl rfl)
theorem dX16_swungIn_7 : decode cX16_swungIn 7 = .ok (.aload_n 0, 1) := dk_42 (dk_at dksX16_swungIn_0 7 rfl rfl)
theorem dX16_swungIn_8 : decode cX16_swungIn 8 = .ok (.getfield 54, 3) := dk_180 0 54 (dk_at dksX16_swungIn_0 8 rfl rfl)
theorem dX16_swungIn_11 : decode cX16_swungIn 11 = .ok (.iconst 1, 1) := dk_4 (dk_at dksX16_swungIn_0 11 rfl rfl)
theorem dX16_swungIn_12 : decode cX16_swungIn 12 = .ok (.iaload, 1) := dk_46 (dk_at dksX16_swungIn_0 12 rfl rfl)
theorem dX16_swungIn_13 : decode cX16_swungIn 13 = .ok (.istore_n 3, 1) := dk_62 (dk_at dksX16_swungIn_0 13 rfl rfl)
theorem dX16_swungIn_14 : decode cX16_swungIn 14 = .ok (.iconst 2, 1) := dk_5 (dk_at dksX16_swungIn_0 14 rfl rfl)
theorem dX16_swungIn_15 : decode cX16_swungIn 15 = .ok (.istore 4, 2) := dk_54 4 (dk_at dksX16_swungIn_0 15 rfl rfl)
theorem dX16_swungIn_17 : decode cX16_swungIn 17 = .ok (.iload 4, 2) := dk_21 4 (dk_at dksX16_swungIn_0 17 rfl rfl)
theorem dX16_swungIn_19 : decode cX16_swungIn 19 = .ok (.iload_n 1, 1) := dk_27 (dk_at dksX16_swungIn_0 19 rfl rfl)
theorem dX16_swungIn_20 : decode cX16_swungIn 20 = .ok (.if_icmp .gt 33, 3) := dk_163 0 33 (dk_at dksX16_swungIn_0 20 rfl rfl)
theorem dX16_swungIn_23 : decode cX16_swungIn 23 = .ok (.iload_n 2, 1) := dk_28 (dk_at dksX16_swungIn_0 23 rfl rfl)
theorem dX16_swungIn_24 : decode cX16_swungIn 24 = .ok (.aload_n 0, 1) := dk_42 (dk_at dksX16_swungIn_1 0 rfl rfl)
theorem dX16_swungIn_25 : decode cX16_swungIn 25 = .ok (.getfield 54, 3) := dk_180 0 54 (dk_at dksX16_swungIn_1 1 rfl rfl)
theorem dX16_swungIn_28 : decode cX16_swungIn 28 = .ok (.iload 4, 2) := dk_21 4 (dk_at dksX16_swungIn_1 4 rfl rfl)
theorem dX16_swungIn_30 : decode cX16_swungIn 30 = .ok (.iaload, 1) := dk_46 (dk_at dksX16_swungIn_1 6 rfl rfl)
theorem dX16_swungIn_31 : decode cX16_swungIn 31 = .ok (.invokestatic 152, 3) := dk_184 0 152 (dk_at dksX16_swungIn_1 7 rfl rfl)
theorem dX16_swungIn_34 : decode cX16_swungIn 34 = .ok (.istore_n 2, 1) := dk_61 (dk_at dksX16_swungIn_1 10 rfl rfl)
theorem dX16_swungIn_35 : decode cX16_swungIn 35 = .ok (.iload_n 3, 1) := dk_29 (dk_at dksX16_swungIn_1 11 rfl rfl)
theorem dX16_swungIn_36 : decode cX16_swungIn 36 = .ok (.aload_n 0, 1) := dk_42 (dk_at dksX16_swungIn_1 12 rfl rfl)
theorem dX16_swungIn_37 : decode cX16_swungIn 37 = .ok (.getfield 54, 3) := dk_180 0 54 (dk_at dksX16_swungIn_1 13 rfl rfl)
theorem dX16_swungIn_40 : decode cX16_swungIn 40 = .ok (.iload 4, 2) := dk_21 4 (dk_at dksX16_swungIn_1 16 rfl rfl)
theorem dX16_swungIn_42 : decode cX16_swungIn 42 = .ok (.iaload, 1) := dk_46 (dk_at dksX16_swungIn_1 18 rfl rfl)
theorem dX16_swungIn_43 : decode cX16_swungIn 43 = .ok (.invokestatic 121, 3) := dk_184 0 121 (dk_at dksX16_swungIn_1 19 rfl rfl)
theorem dX16_swungIn_46 : decode cX16_swungIn 46 = .ok (.istore_n 3, 1) := dk_62 (dk_at dksX16_swungIn_1 22 rfl rfl)
theorem dX16_swungIn_47 : decode cX16_swungIn 47 = .ok (.iinc 4 1, 3) := dk_132 4 1 (dk_at dksX16_swungIn_2 0 rfl rfl)
theorem dX16_swungIn_50 : decode cX16_swungIn 50 = .ok (.goto (-33), 3) := dk_167 255 223 (dk_at dksX16_swungIn_2 3 rfl rfl)
theorem dX16_swungIn_53 : decode cX16_swungIn 53 = .ok (.iload_n 3, 1) := dk_29 (dk_at dksX16_swungIn_2 6 rfl rfl)
theorem dX16_swungIn_54 : decode cX16_swungIn 54 = .ok (.iload_n 2, 1) := dk_28 (dk_at dksX16_swungIn_2 7 rfl rfl)
theorem dX16_swungIn_55 : decode cX16_swungIn 55 = .ok (.isub, 1) := dk_100 (dk_at dksX16_swungIn_2 8 rfl rfl)
theorem dX16_swungIn_56 : decode cX16_swungIn 56 = .ok (.ireturn, 1) := dk_172 (dk_at dksX16_swungIn_2 9 rfl rfl)
abbrev cX16_good : ByteArray := prog_28_method_41_code
def yX16_good : MethodName := ⟨RX16, "good", "(I)I"⟩
def dkwX16_good_2 : List UInt8 := [180, 0, 11, 5, 46, 163, 0, 7, 4, 167, 0, 4, 3, 96, 61, 132, 3, 1, 167, 255, 225, 28, 172]
abbrev dktX16_good_2 : List UInt8 := dkwX16_good_2 ++ []
def dkwX16_good_1 : List UInt8 := [2, 182, 0, 158, 87, 3, 61, 4, 62, 29, 27, 163, 0, 32, 28, 42, 180, 0, 54, 29, 46, 42]
abbrev dktX16_good_1 : List UInt8 := dkwX16_good_1 ++ dktX16_good_2
def dkwX16_good_0 : List UInt8 := [42, 27, 16, 60, 182, 0, 155, 153, 0, 15, 42, 42, 27, 16, 60, 182, 0, 155, 182, 0, 21, 172, 42, 27]
abbrev dktX16_good_0 : List UInt8 := dkwX16_good_0 ++ dktX16_good_1
theorem dksX16_good_0 : cX16_good.data.toList.drop 0 = dktX16_good_0 := by decide +kernel
theorem dksX16_good_1 : cX16_good.data.toList.drop 24 = dktX16_good_1 := dk_seg dksX16_good_0 24 rfl rfl
theorem dksX16_good_2 : cX16_good.data.toList.drop 46 = dktX16_good_2 := dk_seg dksX16_good_1 22 rfl rfl
theorem dX16_good_0 : decode cX16_good 0 = .ok (.aload_n 0, 1) := dk_42 (dk_at dksX16_good_0 0 rfl rfl)
theorem dX16_good_1 : decode cX16_good 1 = .ok (.iload_n 1, 1) := dk_27 (dk_at dksX16_good_0 1 rfl rfl)
theorem dX16_good_2 : decode cX16_good 2 = .ok (.bipush 60, 2) := dk_16 60 (dk_at dksX16_good_0 2 rfl rfl)
theorem dX16_good_4 : decode cX16_good 4 = .ok (.invokevirtual 155, 3) := dk_182 0 155 (dk_at dksX16_good_0 4 rfl rfl)
theorem dX16_good_7 : decode cX16_good 7 = .ok (.ifCond .eq 15, 3) := dk_153 0 15 (dk_at dksX16_good_0 7 rfl rfl)
theorem dX16_good_10 : decode cX16_good 10 = .ok (.aload_n 0, 1) := dk_42 (dk_at dksX16_good_0 10 rfl rfl)
theorem dX16_good_11 : decode cX16_good 11 = .ok (.aload_n 0, 1) := dk_42 (dk_at dksX16_good_0 11 rfl rfl)
theorem dX16_good_12 : decode cX16_good 12 = .ok (.iload_n 1, 1) := dk_27 (dk_at dksX16_good_0 12 rfl rfl)
theorem dX16_good_13 : decode cX16_good 13 = .ok (.bipush 60, 2) := dk_16 60 (dk_at dksX16_good_0 13 rfl rfl)
theorem dX16_good_15 : decode cX16_good 15 = .ok (.invokevirtual 155, 3) := dk_182 0 155 (dk_at dksX16_good_0 15 rfl rfl)
theorem dX16_good_18 : decode cX16_good 18 = .ok (.invokevirtual 21, 3) := dk_182 0 21 (dk_at dksX16_good_0 18 rfl rfl)
theorem dX16_good_21 : decode cX16_good 21 = .ok (.ireturn, 1) := dk_172 (dk_at dksX16_good_0 21 rfl rfl)
theorem dX16_good_22 : decode cX16_good 22 = .ok (.aload_n 0, 1) := dk_42 (dk_at dksX16_good_0 22 rfl rfl)
theorem dX16_good_23 : decode cX16_good 23 = .ok (.iload_n 1, 1) := dk_27 (dk_at dksX16_good_0 23 rfl rfl)
theorem dX16_good_24 : decode cX16_good 24 = .ok (.iconst (-1), 1) := dk_2 (dk_at dksX16_good_1 0 rfl rfl)
theorem dX16_good_25 : decode cX16_good 25 = .ok (.invokevirtual 158, 3) := dk_182 0 158 (dk_at dksX16_good_1 1 rfl rfl)
theorem dX16_good_28 : decode cX16_good 28 = .ok (.pop, 1) := dk_87 (dk_at dksX16_good_1 4 rfl rfl)
theorem dX16_good_29 : decode cX16_good 29 = .ok (.iconst 0, 1) := dk_3 (dk_at dksX16_good_1 5 rfl rfl)
theorem dX16_good_30 : decode cX16_good 30 = .ok (.istore_n 2, 1) := dk_61 (dk_at dksX16_good_1 6 rfl rfl)
theorem dX16_good_31 : decode cX16_good 31 = .ok (.iconst 1, 1) := dk_4 (dk_at dksX16_good_1 7 rfl rfl)
theorem dX16_good_32 : decode cX16_good 32 = .ok (.istore_n 3, 1) := dk_62 (dk_at dksX16_good_1 8 rfl rfl)
theorem dX16_good_33 : decode cX16_good 33 = .ok (.iload_n 3, 1) := dk_29 (dk_at dksX16_good_1 9 rfl rfl)
theorem dX16_good_34 : decode cX16_good 34 = .ok (.iload_n 1, 1) := dk_27 (dk_at dksX16_good_1 10 rfl rfl)
theorem dX16_good_35 : decode cX16_good 35 = .ok (.if_icmp .gt 32, 3) := dk_163 0 32 (dk_at dksX16_good_1 11 rfl rfl)
theorem dX16_good_38 : decode cX16_good 38 = .ok (.iload_n 2, 1) := dk_28 (dk_at dksX16_good_1 14 rfl rfl)
theorem dX16_good_39 : decode cX16_good 39 = .ok (.aload_n 0, 1) := dk_42 (dk_at dksX16_good_1 15 rfl rfl)
theorem dX16_good_40 : decode cX16_good 40 = .ok (.getfield 54, 3) := dk_180 0 54 (dk_at dksX16_good_1 16 rfl rfl)
theorem dX16_good_43 : decode cX16_good 43 = .ok (.iload_n 3, 1) := dk_29 (dk_at dksX16_good_1 19 rfl rfl)
theorem dX16_good_44 : decode cX16_good 44 = .ok (.iaload, 1) := dk_46 (dk_at dksX16_good_1 20 rfl rfl)
theorem dX16_good_45 : decode cX16_good 45 = .ok (.aload_n 0, 1) := dk_42 (dk_at dksX16_good_1 21 rfl rfl)
theorem dX16_good_46 : decode cX16_good 46 = .ok (.getfield 11, 3) := dk_180 0 11 (dk_at dksX16_good_2 0 rfl rfl)
theorem dX16_good_49 : decode cX16_good 49 = .ok (.iconst 2, 1) := dk_5 (dk_at dksX16_good_2 3 rfl rfl)
theorem dX16_good_50 : decode cX16_good 50 = .ok (.iaload, 1) := dk_46 (dk_at dksX16_good_2 4 rfl rfl)
theorem dX16_good_51 : decode cX16_good 51 = .ok (.if_icmp .gt 7, 3) := dk_163 0 7 (dk_at dksX16_good_2 5 rfl rfl)
theorem dX16_good_54 : decode cX16_good 54 = .ok (.iconst 1, 1) := dk_4 (dk_at dksX16_good_2 8 rfl rfl)
theorem dX16_good_55 : decode cX16_good 55 = .ok (.goto 4, 3) := dk_167 0 4 (dk_at dksX16_good_2 9 rfl rfl)
theorem dX16_good_58 : decode cX16_good 58 = .ok (.iconst 0, 1) := dk_3 (dk_at dksX16_good_2 12 rfl rfl)
theorem dX16_good_59 : decode cX16_good 59 = .ok (.iadd, 1) := dk_96 (dk_at dksX16_good_2 13 rfl rfl)
theorem dX16_good_60 : decode cX16_good 60 = .ok (.istore_n 2, 1) := dk_61 (dk_at dksX16_good_2 14 rfl rfl)
theorem dX16_good_61 : decode cX16_good 61 = .ok (.iinc 3 1, 3) := dk_132 3 1 (dk_at dksX16_good_2 15 rfl rfl)
theorem dX16_good_64 : decode cX16_good 64 = .ok (.goto (-31), 3) := dk_167 255 225 (dk_at dksX16_good_2 18 rfl rfl)
theorem dX16_good_67 : decode cX16_good 67 = .ok (.iload_n 2, 1) := dk_28 (dk_at dksX16_good_2 21 rfl rfl)
theorem dX16_good_68 : decode cX16_good 68 = .ok (.ireturn, 1) := dk_172 (dk_at dksX16_good_2 22 rfl rfl)
abbrev cX16_again : ByteArray := prog_28_method_42_code
def yX16_again : MethodName := ⟨RX16, "again", "()I"⟩
def dkwX16_again_3 : List UInt8 := [16, 247, 172]
abbrev dktX16_again_3 : List UInt8 := dkwX16_again_3 ++ []
def dkwX16_again_2 : List UInt8 := [4, 167, 0, 4, 3, 61, 132, 3, 1, 167, 255, 220, 28, 153, 0, 5, 27, 172, 132, 1, 1, 167, 255, 198]
abbrev dktX16_again_2 : List UInt8 := dkwX16_again_2 ++ dktX16_again_3
def dkwX16_again_1 : List UInt8 := [163, 0, 36, 28, 153, 0, 24, 42, 180, 0, 54, 29, 46, 42, 180, 0, 54, 29, 27, 96, 46, 160, 0, 7]
abbrev dktX16_again_1 : List UInt8 := dkwX16_again_1 ++ dktX16_again_2
def dkwX16_again_0 : List UInt8 := [42, 16, 80, 2, 182, 0, 158, 87, 4, 60, 27, 16, 40, 163, 0, 58, 4, 61, 4, 62, 29, 16, 40]
abbrev dktX16_again_0 : List UInt8 := dkwX16_again_0 ++ dktX16_again_1
theorem dksX16_again_0 : cX16_again.data.toList.drop 0 = dktX16_again_0 := by decide +kernel
theorem dksX16_again_1 : cX16_again.data.toList.drop 23 = dktX16_again_1 := dk_seg dksX16_again_0 23 rfl rfl
theorem dksX16_again_2 : cX16_again.data.toList.drop 47 = dktX16_again_2 := dk_seg dksX16_again_1 24 rfl rfl
theorem dksX16_again_3 : cX16_again.data.toList.drop 71 = dktX16_again_3 := dk_seg dksX16_again_2 24 rfl rfl
theorem dX16_again_0 : decode cX16_again 0 = .ok (.aload_n 0, 1) := dk_42 (dk_at dksX16_again_0 0 rfl rfl)
theorem dX16_again_1 : decode cX16_again 1 = .ok (.bipush 80, 2) := dk_16 80 (dk_at dksX16_again_0 1 rfl rfl)
theorem dX16_again_3 : decode cX16_again 3 = .ok (.iconst (-1), 1) := dk_2 (dk_at dksX16_again_0 3 rfl rfl)
theorem dX16_again_4 : decode cX16_again 4 = .ok (.invokevirtual 158, 3) := dk_182 0 158 (dk_at dksX16_again_0 4 rfl rfl)
theorem dX16_again_7 : decode cX16_again 7 = .ok (.pop, 1) := dk_87 (dk_at dksX16_again_0 7 rfl rfl)
theorem dX16_again_8 : decode cX16_again 8 = .ok (.iconst 1, 1) := dk_4 (dk_at dksX16_again_0 8 rfl rfl)
theorem dX16_again_9 : decode cX16_again 9 = .ok (.istore_n 1, 1) := dk_60 (dk_at dksX16_again_0 9 rfl rfl)
theorem dX16_again_10 : decode cX16_again 10 = .ok (.iload_n 1, 1) := dk_27 (dk_at dksX16_again_0 10 rfl rfl)
theorem dX16_again_11 : decode cX16_again 11 = .ok (.bipush 40, 2) := dk_16 40 (dk_at dksX16_again_0 11 rfl rfl)
theorem dX16_again_13 : decode cX16_again 13 = .ok (.if_icmp .gt 58, 3) := dk_163 0 58 (dk_at dksX16_again_0 13 rfl rfl)
theorem dX16_again_16 : decode cX16_again 16 = .ok (.iconst 1, 1) := dk_4 (dk_at dksX16_again_0 16 rfl rfl)
theorem dX16_again_17 : decode cX16_again 17 = .ok (.istore_n 2, 1) := dk_61 (dk_at dksX16_again_0 17 rfl rfl)
theorem dX16_again_18 : decode cX16_again 18 = .ok (.iconst 1, 1) := dk_4 (dk_at dksX16_again_0 18 rfl rfl)
theorem dX16_again_19 : decode cX16_again 19 = .ok (.istore_n 3, 1) := dk_62 (dk_at dksX16_again_0 19 rfl rfl)
theorem dX16_again_20 : decode cX16_again 20 = .ok (.iload_n 3, 1) := dk_29 (dk_at dksX16_again_0 20 rfl rfl)
theorem dX16_again_21 : decode cX16_again 21 = .ok (.bipush 40, 2) := dk_16 40 (dk_at dksX16_again_0 21 rfl rfl)
theorem dX16_again_23 : decode cX16_again 23 = .ok (.if_icmp .gt 36, 3) := dk_163 0 36 (dk_at dksX16_again_1 0 rfl rfl)
theorem dX16_again_26 : decode cX16_again 26 = .ok (.iload_n 2, 1) := dk_28 (dk_at dksX16_again_1 3 rfl rfl)
theorem dX16_again_27 : decode cX16_again 27 = .ok (.ifCond .eq 24, 3) := dk_153 0 24 (dk_at dksX16_again_1 4 rfl rfl)
theorem dX16_again_30 : decode cX16_again 30 = .ok (.aload_n 0, 1) := dk_42 (dk_at dksX16_again_1 7 rfl rfl)
theorem dX16_again_31 : decode cX16_again 31 = .ok (.getfield 54, 3) := dk_180 0 54 (dk_at dksX16_again_1 8 rfl rfl)
theorem dX16_again_34 : decode cX16_again 34 = .ok (.iload_n 3, 1) := dk_29 (dk_at dksX16_again_1 11 rfl rfl)
theorem dX16_again_35 : decode cX16_again 35 = .ok (.iaload, 1) := dk_46 (dk_at dksX16_again_1 12 rfl rfl)
theorem dX16_again_36 : decode cX16_again 36 = .ok (.aload_n 0, 1) := dk_42 (dk_at dksX16_again_1 13 rfl rfl)
theorem dX16_again_37 : decode cX16_again 37 = .ok (.getfield 54, 3) := dk_180 0 54 (dk_at dksX16_again_1 14 rfl rfl)
theorem dX16_again_40 : decode cX16_again 40 = .ok (.iload_n 3, 1) := dk_29 (dk_at dksX16_again_1 17 rfl rfl)
theorem dX16_again_41 : decode cX16_again 41 = .ok (.iload_n 1, 1) := dk_27 (dk_at dksX16_again_1 18 rfl rfl)
theorem dX16_again_42 : decode cX16_again 42 = .ok (.iadd, 1) := dk_96 (dk_at dksX16_again_1 19 rfl rfl)
theorem dX16_again_43 : decode cX16_again 43 = .ok (.iaload, 1) := dk_46 (dk_at dksX16_again_1 20 rfl rfl)
theorem dX16_again_44 : decode cX16_again 44 = .ok (.if_icmp .ne 7, 3) := dk_160 0 7 (dk_at dksX16_again_1 21 rfl rfl)
theorem dX16_again_47 : decode cX16_again 47 = .ok (.iconst 1, 1) := dk_4 (dk_at dksX16_again_2 0 rfl rfl)
theorem dX16_again_48 : decode cX16_again 48 = .ok (.goto 4, 3) := dk_167 0 4 (dk_at dksX16_again_2 1 rfl rfl)
theorem dX16_again_51 : decode cX16_again 51 = .ok (.iconst 0, 1) := dk_3 (dk_at dksX16_again_2 4 rfl rfl)
theorem dX16_again_52 : decode cX16_again 52 = .ok (.istore_n 2, 1) := dk_61 (dk_at dksX16_again_2 5 rfl rfl)
theorem dX16_again_53 : decode cX16_again 53 = .ok (.iinc 3 1, 3) := dk_132 3 1 (dk_at dksX16_again_2 6 rfl rfl)
theorem dX16_again_56 : decode cX16_again 56 = .ok (.goto (-36), 3) := dk_167 255 220 (dk_at dksX16_again_2 9 rfl rfl)
theorem dX16_again_59 : decode cX16_again 59 = .ok (.iload_n 2, 1) := dk_28 (dk_at dksX16_again_2 12 rfl rfl)
theorem dX16_again_60 : decode cX16_again 60 = .ok (.ifCond .eq 5, 3) := dk_153 0 5 (dk_at dksX16_again_2 13 rfl rfl)
theorem dX16_again_63 : decode cX16_again 63 = .ok (.iload_n 1, 1) := dk_27 (dk_at dksX16_again_2 16 rfl rfl)
theorem dX16_again_64 : decode cX16_again 64 = .ok (.ireturn, 1) := dk_172 (dk_at dksX16_again_2 17 rfl rfl)
theorem dX16_again_65 : decode cX16_again 65 = .ok (.iinc 1 1, 3) := dk_132 1 1 (dk_at dksX16_again_2 18 rfl rfl)
theorem dX16_again_68 : decode cX16_again 68 = .ok (.goto (-58), 3) := dk_167 255 198 (dk_at dksX16_again_2 21 rfl rfl)
theorem dX16_again_71 : decode cX16_again 71 = .ok (.bipush (-9), 2) := dk_16 247 (dk_at dksX16_again_3 0 rfl rfl)
theorem dX16_again_73 : decode cX16_again 73 = .ok (.ireturn, 1) := dk_172 (dk_at dksX16_again_3 2 rfl rfl)
abbrev cX16_gains : ByteArray := prog_28_method_43_code
def yX16_gains : MethodName := ⟨RX16, "gains", "(II)I"⟩
def dkwX16_gains_2 : List UInt8 := [172]
abbrev dktX16_gains_2 : List UInt8 := dkwX16_gains_2 ++ []
def dkwX16_gains_1 : List UInt8 := [153, 0, 18, 18, 148, 42, 42, 28, 16, 60, 182, 0, 155, 182, 0, 21, 100, 172, 42, 28, 27, 182, 0, 158]
abbrev dktX16_gains_1 : List UInt8 := dkwX16_gains_1 ++ dktX16_gains_2
def dkwX16_gains_0 : List UInt8 := [42, 27, 182, 0, 142, 153, 0, 12, 18, 148, 42, 2, 182, 0, 21, 100, 172, 42, 28, 16, 60, 182, 0, 155]
abbrev dktX16_gains_0 : List UInt8 := dkwX16_gains_0 ++ dktX16_gains_1
theorem dksX16_gains_0 : cX16_gains.data.toList.drop 0 = dktX16_gains_0 := by decide +kernel
theorem dksX16_gains_1 : cX16_gains.data.toList.drop 24 = dktX16_gains_1 := dk_seg dksX16_gains_0 24 rfl rfl
theorem dksX16_gains_2 : cX16_gains.data.toList.drop 48 = dktX16_gains_2 := dk_seg dksX16_gains_1 24 rfl rfl
theorem dX16_gains_0 : decode cX16_gains 0 = .ok (.aload_n 0, 1) := dk_42 (dk_at dksX16_gains_0 0 rfl rfl)
theorem dX16_gains_1 : decode cX16_gains 1 = .ok (.iload_n 1, 1) := dk_27 (dk_at dksX16_gains_0 1 rfl rfl)
theorem dX16_gains_2 : decode cX16_gains 2 = .ok (.invokevirtual 142, 3) := dk_182 0 142 (dk_at dksX16_gains_0 2 rfl rfl)
theorem dX16_gains_5 : decode cX16_gains 5 = .ok (.ifCond .eq 12, 3) := dk_153 0 12 (dk_at dksX16_gains_0 5 rfl rfl)
theorem dX16_gains_8 : decode cX16_gains 8 = .ok (.ldc 148, 2) := dk_18 148 (dk_at dksX16_gains_0 8 rfl rfl)
theorem dX16_gains_10 : decode cX16_gains 10 = .ok (.aload_n 0, 1) := dk_42 (dk_at dksX16_gains_0 10 rfl rfl)
theorem dX16_gains_11 : decode cX16_gains 11 = .ok (.iconst (-1), 1) := dk_2 (dk_at dksX16_gains_0 11 rfl rfl)
theorem dX16_gains_12 : decode cX16_gains 12 = .ok (.invokevirtual 21, 3) := dk_182 0 21 (dk_at dksX16_gains_0 12 rfl rfl)
theorem dX16_gains_15 : decode cX16_gains 15 = .ok (.isub, 1) := dk_100 (dk_at dksX16_gains_0 15 rfl rfl)
theorem dX16_gains_16 : decode cX16_gains 16 = .ok (.ireturn, 1) := dk_172 (dk_at dksX16_gains_0 16 rfl rfl)
theorem dX16_gains_17 : decode cX16_gains 17 = .ok (.aload_n 0, 1) := dk_42 (dk_at dksX16_gains_0 17 rfl rfl)
theorem dX16_gains_18 : decode cX16_gains 18 = .ok (.iload_n 2, 1) := dk_28 (dk_at dksX16_gains_0 18 rfl rfl)
theorem dX16_gains_19 : decode cX16_gains 19 = .ok (.bipush 60, 2) := dk_16 60 (dk_at dksX16_gains_0 19 rfl rfl)
theorem dX16_gains_21 : decode cX16_gains 21 = .ok (.invokevirtual 155, 3) := dk_182 0 155 (dk_at dksX16_gains_0 21 rfl rfl)
theorem dX16_gains_24 : decode cX16_gains 24 = .ok (.ifCond .eq 18, 3) := dk_153 0 18 (dk_at dksX16_gains_1 0 rfl rfl)
theorem dX16_gains_27 : decode cX16_gains 27 = .ok (.ldc 148, 2) := dk_18 148 (dk_at dksX16_gains_1 3 rfl rfl)
theorem dX16_gains_29 : decode cX16_gains 29 = .ok (.aload_n 0, 1) := dk_42 (dk_at dksX16_gains_1 5 rfl rfl)
theorem dX16_gains_30 : decode cX16_gains 30 = .ok (.aload_n 0, 1) := dk_42 (dk_at dksX16_gains_1 6 rfl rfl)
theorem dX16_gains_31 : decode cX16_gains 31 = .ok (.iload_n 2, 1) := dk_28 (dk_at dksX16_gains_1 7 rfl rfl)
theorem dX16_gains_32 : decode cX16_gains 32 = .ok (.bipush 60, 2) := dk_16 60 (dk_at dksX16_gains_1 8 rfl rfl)
theorem dX16_gains_34 : decode cX16_gains 34 = .ok (.invokevirtual 155, 3) := dk_182 0 155 (dk_at dksX16_gains_1 10 rfl rfl)
theorem dX16_gains_37 : decode cX16_gains 37 = .ok (.invokevirtual 21, 3) := dk_182 0 21 (dk_at dksX16_gains_1 13 rfl rfl)
theorem dX16_gains_40 : decode cX16_gains 40 = .ok (.isub, 1) := dk_100 (dk_at dksX16_gains_1 16 rfl rfl)
theorem dX16_gains_41 : decode cX16_gains 41 = .ok (.ireturn, 1) := dk_172 (dk_at dksX16_gains_1 17 rfl rfl)
theorem dX16_gains_42 : decode cX16_gains 42 = .ok (.aload_n 0, 1) := dk_42 (dk_at dksX16_gains_1 18 rfl rfl)
theorem dX16_gains_43 : decode cX16_gains 43 = .ok (.iload_n 2, 1) := dk_28 (dk_at dksX16_gains_1 19 rfl rfl)
theorem dX16_gains_44 : decode cX16_gains 44 = .ok (.iload_n 1, 1) := dk_27 (dk_at dksX16_gains_1 20 rfl rfl)
theorem dX16_gains_45 : decode cX16_gains 45 = .ok (.invokevirtual 158, 3) := dk_182 0 158 (dk_at dksX16_gains_1 21 rfl rfl)
theorem dX16_gains_48 : decode cX16_gains 48 = .ok (.ireturn, 1) := dk_172 (dk_at dksX16_gains_2 0 rfl rfl)
abbrev cX16_rests : ByteArray := prog_28_method_48_code
def yX16_rests : MethodName := ⟨RX16, "rests", "()I"⟩
def dkwX16_rests_0 : List UInt8 := [42, 182, 0, 192, 42, 180, 0, 164, 172]
abbrev dktX16_rests_0 : List UInt8 := dkwX16_rests_0 ++ []
theorem dksX16_rests_0 : cX16_rests.data.toList.drop 0 = dktX16_rests_0 := by decide +kernel
theorem dX16_rests_0 : decode cX16_rests 0 = .ok (.aload_n 0, 1) := dk_42 (dk_at dksX16_rests_0 0 rfl rfl)
theorem dX16_rests_1 : decode cX16_rests 1 = .ok (.invokevirtual 192, 3) := dk_182 0 192 (dk_at dksX16_rests_0 1 rfl rfl)
theorem dX16_rests_4 : decode cX16_rests 4 = .ok (.aload_n 0, 1) := dk_42 (dk_at dksX16_rests_0 4 rfl rfl)
theorem dX16_rests_5 : decode cX16_rests 5 = .ok (.getfield 164, 3) := dk_180 0 164 (dk_at dksX16_rests_0 5 rfl rfl)
theorem dX16_rests_8 : decode cX16_rests 8 = .ok (.ireturn, 1) := dk_172 (dk_at dksX16_rests_0 8 rfl rfl)
abbrev cX16_goThrough : ByteArray := prog_28_method_47_code
def yX16_goThrough : MethodName := ⟨RX16, "goThrough", "()V"⟩
def dkwX16_goThrough_9 : List UInt8 := [180, 0, 164, 4, 96, 181, 0, 164, 42, 182, 0, 188, 154, 255, 49, 177]
abbrev dktX16_goThrough_9 : List UInt8 := dkwX16_goThrough_9 ++ []
def dkwX16_goThrough_8 : List UInt8 := [153, 0, 11, 28, 42, 180, 0, 185, 164, 0, 7, 28, 167, 0, 7, 42, 180, 0, 185, 181, 0, 185, 42, 89]
abbrev dktX16_goThrough_8 : List UInt8 := dkwX16_goThrough_8 ++ dktX16_goThrough_9
def dkwX16_goThrough_7 : List UInt8 := [180, 0, 60, 29, 42, 180, 0, 57, 29, 46, 79, 132, 3, 1, 167, 255, 236, 42, 42, 180, 0, 164]
abbrev dktX16_goThrough_7 : List UInt8 := dkwX16_goThrough_7 ++ dktX16_goThrough_8
def dkwX16_goThrough_6 : List UInt8 := [153, 0, 77, 42, 180, 0, 164, 154, 0, 33, 42, 27, 181, 0, 182, 3, 62, 29, 7, 162, 0, 21, 42]
abbrev dktX16_goThrough_6 : List UInt8 := dkwX16_goThrough_6 ++ dktX16_goThrough_7
def dkwX16_goThrough_5 : List UInt8 := [181, 0, 173, 42, 27, 181, 0, 176, 42, 89, 180, 0, 167, 4, 96, 181, 0, 167, 42, 27, 182, 0, 179]
abbrev dktX16_goThrough_5 : List UInt8 := dkwX16_goThrough_5 ++ dktX16_goThrough_6
def dkwX16_goThrough_4 : List UInt8 := [132, 3, 1, 167, 255, 206, 42, 180, 0, 167, 153, 0, 11, 28, 42, 180, 0, 173, 164, 0, 13, 42, 28]
abbrev dktX16_goThrough_4 : List UInt8 := dkwX16_goThrough_4 ++ dktX16_goThrough_5
def dkwX16_goThrough_3 : List UInt8 := [104, 42, 29, 3, 182, 0, 69, 42, 180, 0, 57, 29, 46, 100, 42, 29, 8, 182, 0, 69, 104, 96, 96, 61]
abbrev dktX16_goThrough_3 : List UInt8 := dkwX16_goThrough_3 ++ dktX16_goThrough_4
def dkwX16_goThrough_2 : List UInt8 := [62, 29, 42, 180, 0, 11, 3, 46, 162, 0, 46, 28, 42, 180, 0, 57, 29, 46, 42, 29, 27, 182, 0, 136]
abbrev dktX16_goThrough_2 : List UInt8 := dkwX16_goThrough_2 ++ dktX16_goThrough_3
def dkwX16_goThrough_1 : List UInt8 := [180, 0, 11, 3, 46, 162, 0, 18, 27, 42, 180, 0, 57, 29, 46, 96, 60, 132, 3, 1, 167, 255, 234, 3]
abbrev dktX16_goThrough_1 : List UInt8 := dkwX16_goThrough_1 ++ dktX16_goThrough_2
def dkwX16_goThrough_0 : List UInt8 := [42, 3, 181, 0, 164, 42, 3, 181, 0, 167, 42, 182, 0, 170, 3, 60, 3, 61, 3, 62, 29, 42]
abbrev dktX16_goThrough_0 : List UInt8 := dkwX16_goThrough_0 ++ dktX16_goThrough_1
theorem dksX16_goThrough_0 : cX16_goThrough.data.toList.drop 0 = dktX16_goThrough_0 := by decide +kernel
theorem dksX16_goThrough_1 : cX16_goThrough.data.toList.drop 22 = dktX16_goThrough_1 := dk_seg dksX16_goThrough_0 22 rfl rfl
theorem dksX16_goThrough_2 : cX16_goThrough.data.toList.drop 46 = dktX16_goThrough_2 := dk_seg dksX16_goThrough_1 24 rfl rfl
theorem dksX16_goThrough_3 : cX16_goThrough.data.toList.drop 70 = dktX16_goThrough_3 := dk_seg dksX16_goThrough_2 24 rfl rfl
theorem dksX16_goThrough_4 : cX16_goThrough.data.toList.drop 94 = dktX16_goThrough_4 := dk_seg dksX16_goThrough_3 24 rfl rfl
theorem dksX16_goThrough_5 : cX16_goThrough.data.toList.drop 117 = dktX16_goThrough_5 := dk_seg dksX16_goThrough_4 23 rfl rfl
theorem dksX16_goThrough_6 : cX16_goThrough.data.toList.drop 140 = dktX16_goThrough_6 := dk_seg dksX16_goThrough_5 23 rfl rfl
theorem dksX16_goThrough_7 : cX16_goThrough.data.toList.drop 163 = dktX16_goThrough_7 := dk_seg dksX16_goThrough_6 23 rfl rfl
theorem dksX16_goThrough_8 : cX16_goThrough.data.toList.drop 185 = dktX16_goThrough_8 := dk_seg dksX16_goThrough_7 22 rfl rfl
theorem dksX16_goThrough_9 : cX16_goThrough.data.toList.drop 209 = dktX16_goThrough_9 := dk_seg dksX16_goThrough_8 24 rfl rfl
theorem dX16_goThrough_0 : decode cX16_goThrough 0 = .ok (.aload_n 0, 1) := dk_42 (dk_at dksX16_goThrough_0 0 rfl rfl)
theorem dX16_goThrough_1 : decode cX16_goThrough 1 = .ok (.iconst 0, 1) := dk_3 (dk_at dksX16_goThrough_0 1 rfl rfl)
theorem dX16_goThrough_2 : decode cX16_goThrough 2 = .ok (.putfield 164, 3) := dk_181 0 164 (dk_at dksX16_goThrough_0 2 rfl rfl)
theorem dX16_goThrough_5 : decode cX16_goThrough 5 = .ok (.aload_n 0, 1) := dk_42 (dk_at dksX16_goThrough_0 5 rfl rfl)
theorem dX16_goThrough_6 : decode cX16_goThrough 6 = .ok (.iconst 0, 1) := dk_3 (dk_at dksX16_goThrough_0 6 rfl rfl)
theorem dX16_goThrough_7 : decode cX16_goThrough 7 = .ok (.putfield 167, 3) := dk_181 0 167 (dk_at dksX16_goThrough_0 7 rfl rfl)
theorem dX16_goThrough_10 : decode cX16_goThrough 10 = .ok (.aload_n 0, 1) := dk_42 (dk_at dksX16_goThrough_0 10 rfl rfl)
theorem dX16_goThrough_11 : decode cX16_goThrough 11 = .ok (.invokevirtual 170, 3) := dk_182 0 170 (dk_at dksX16_goThrough_0 11 rfl rfl)
theorem dX16_goThrough_14 : decode cX16_goThrough 14 = .ok (.iconst 0, 1) := dk_3 (dk_at dksX16_goThrough_0 14 rfl rfl)
theorem dX16_goThrough_15 : decode cX16_goThrough 15 = .ok (.istore_n 1, 1) := dk_60 (dk_at dksX16_goThrough_0 15 rfl rfl)
theorem dX16_goThrough_16 : decode cX16_goThrough 16 = .ok (.iconst 0, 1) := dk_3 (dk_at dksX16_goThrough_0 16 rfl rfl)
theorem dX16_goThrough_17 : decode cX16_goThrough 17 = .ok (.istore_n 2, 1) := dk_61 (dk_at dksX16_goThrough_0 17 rfl rfl)
theorem dX16_goThrough_18 : decode cX16_goThrough 18 = .ok (.iconst 0, 1) := dk_3 (dk_at dksX16_goThrough_0 18 rfl rfl)
theorem dX16_goThrough_19 : decode cX16_goThrough 19 = .ok (.istore_n 3, 1) := dk_62 (dk_at dksX16_goThrough_0 19 rfl rfl)
theorem dX16_goThrough_20 : decode cX16_goThrough 20 = .ok (.iload_n 3, 1) := dk_29 (dk_at dksX16_goThrough_0 20 rfl rfl)
theorem dX16_goThrough_21 : decode cX16_goThrough 21 = .ok (.aload_n 0, 1) := dk_42 (dk_at dksX16_goThrough_0 21 rfl rfl)
theorem dX16_goThrough_22 : decode cX16_goThrough 22 = .ok (.getfield 11, 3) := dk_180 0 11 (dk_at dksX16_goThrough_1 0 rfl rfl)
theorem dX16_goThrough_25 : decode cX16_goThrough 25 = .ok (.iconst 0, 1) := dk_3 (dk_at dksX16_goThrough_1 3 rfl rfl)
theorem dX16_goThrough_26 : decode cX16_goThrough 26 = .ok (.iaload, 1) := dk_46 (dk_at dksX16_goThrough_1 4 rfl rfl)
theorem dX16_goThrough_27 : decode cX16_goThrough 27 = .ok (.if_icmp .ge 18, 3) := dk_162 0 18 (dk_at dksX16_goThrough_1 5 rfl rfl)
theorem dX16_goThrough_30 : decode cX16_goThrough 30 = .ok (.iload_n 1, 1) := dk_27 (dk_at dksX16_goThrough_1 8 rfl rfl)
theorem dX16_goThrough_31 : decode cX16_goThrough 31 = .ok (.aload_n 0, 1) := dk_42 (dk_at dksX16_goThrough_1 9 rfl rfl)
theorem dX16_goThrough_32 : decode cX16_goThrough 32 = .ok (.getfield 57, 3) := dk_180 0 57 (dk_at dksX16_goThrough_1 10 rfl rfl)
theorem dX16_goThrough_35 : decode cX16_goThrough 35 = .ok (.iload_n 3, 1) := dk_29 (dk_at dksX16_goThrough_1 13 rfl rfl)
theorem dX16_goThrough_36 : decode cX16_goThrough 36 = .ok (.iaload, 1) := dk_46 (dk_at dksX16_goThrough_1 14 rfl rfl)
theorem dX16_goThrough_37 : decode cX16_goThrough 37 = .ok (.iadd, 1) := dk_96 (dk_at dksX16_goThrough_1 15 rfl rfl)
theorem dX16_goThrough_38 : decode cX16_goThrough 38 = .ok (.istore_n 1, 1) := dk_60 (dk_at dksX16_goThrough_1 16 rfl rfl)
theorem dX16_goThrough_39 : decode cX16_goThrough 39 = .ok (.iinc 3 1, 3) := dk_132 3 1 (dk_at dksX16_goThrough_1 17 rfl rfl)
theorem dX16_goThrough_42 : decode cX16_goThrough 42 = .ok (.goto (-22), 3) := dk_167 255 234 (dk_at dksX16_goThrough_1 20 rfl rfl)
theorem dX16_goThrough_45 : decode cX16_goThrough 45 = .ok (.iconst 0, 1) := dk_3 (dk_at dksX16_goThrough_1 23 rfl rfl)
theorem dX16_goThrough_46 : decode cX16_goThrough 46 = .ok (.istore_n 3, 1) := dk_62 (dk_at dksX16_goThrough_2 0 rfl rfl)
theorem dX16_goThrough_47 : decode cX16_goThrough 47 = .ok (.iload_n 3, 1) := dk_29 (dk_at dksX16_goThrough_2 1 rfl rfl)
theorem dX16_goThrough_48 : decode cX16_goThrough 48 = .ok (.aload_n 0, 1) := dk_42 (dk_at dksX16_goThrough_2 2 rfl rfl)
theorem dX16_goThrough_49 : decode cX16_goThrough 49 = .ok (.getfield 11, 3) := dk_180 0 11 (dk_at dksX16_goThrough_2 3 rfl rfl)
theorem dX16_goThrough_52 : decode cX16_goThrough 52 = .ok (.iconst 0, 1) := dk_3 (dk_at dksX16_goThrough_2 6 rfl rfl)
theorem dX16_goThrough_53 : decode cX16_goThrough 53 = .ok (.iaload, 1) := dk_46 (dk_at dksX16_goThrough_2 7 rfl rfl)
theorem dX16_goThrough_54 : decode cX16_goThrough 54 = .ok (.if_icmp .ge 46, 3) := dk_162 0 46 (dk_at dksX16_goThrough_2 8 rfl rfl)
theorem dX16_goThrough_57 : decode cX16_goThrough 57 = .ok (.iload_n 2, 1) := dk_28 (dk_at dksX16_goThrough_2 11 rfl rfl)
theorem dX16_goThrough_58 : decode cX16_goThrough 58 = .ok (.aload_n 0, 1) := dk_42 (dk_at dksX16_goThrough_2 12 rfl rfl)
theorem dX16_goThrough_59 : decode cX16_goThrough 59 = .ok (.getfield 57, 3) := dk_180 0 57 (dk_at dksX16_goThrough_2 13 rfl rfl)
theorem dX16_goThrough_62 : decode cX16_goThrough 62 = .ok (.iload_n 3, 1) := dk_29 (dk_at dksX16_goThrough_2 16 rfl rfl)
theorem dX16_goThrough_63 : decode cX16_goThrough 63 = .ok (.iaload, 1) := dk_46 (dk_at dksX16_goThrough_2 17 rfl rfl)
theorem dX16_goThrough_64 : decode cX16_goThrough 64 = .ok (.aload_n 0, 1) := dk_42 (dk_at dksX16_goThrough_2 18 rfl rfl)
theorem dX16_goThrough_65 : decode cX16_goThrough 65 = .ok (.iload_n 3, 1) := dk_29 (dk_at dksX16_goThrough_2 19 rfl rfl)
theorem dX16_goThrough_66 : decode cX16_goThrough 66 = .ok (.iload_n 1, 1) := dk_27 (dk_at dksX16_goThrough_2 20 rfl rfl)
theorem dX16_goThrough_67 : decode cX16_goThrough 67 = .ok (.invokevirtual 136, 3) := dk_182 0 136 (dk_at dksX16_goThrough_2 21 rfl rfl)
theorem dX16_goThrough_70 : decode cX16_goThrough 70 = .ok (.imul, 1) := dk_104 (dk_at dksX16_goThrough_3 0 rfl rfl)
theorem dX16_goThrough_71 : decode cX16_goThrough 71 = .ok (.aload_n 0, 1) := dk_42 (dk_at dksX16_goThrough_3 1 rfl rfl)
theorem dX16_goThrough_72 : decode cX16_goThrough 72 = .ok (.iload_n 3, 1) := dk_29 (dk_at dksX16_goThrough_3 2 rfl rfl)
theorem dX16_goThrough_73 : decode cX16_goThrough 73 = .ok (.iconst 0, 1) := dk_3 (dk_at dksX16_goThrough_3 3 rfl rfl)
theorem dX16_goThrough_74 : decode cX16_goThrough 74 = .ok (.invokevirtual 69, 3) := dk_182 0 69 (dk_at dksX16_goThrough_3 4 rfl rfl)
theorem dX16_goThrough_77 : decode cX16_goThrough 77 = .ok (.aload_n 0, 1) := dk_42 (dk_at dksX16_goThrough_3 7 rfl rfl)
theorem dX16_goThrough_78 : decode cX16_goThrough 78 = .ok (.getfield 57, 3) := dk_180 0 57 (dk_at dksX16_goThrough_3 8 rfl rfl)
theorem dX16_goThrough_81 : decode cX16_goThrough 81 = .ok (.iload_n 3, 1) := dk_29 (dk_at dksX16_goThrough_3 11 rfl rfl)
theorem dX16_goThrough_82 : decode cX16_goThrough 82 = .ok (.iaload, 1) := dk_46 (dk_at dksX16_goThrough_3 12 rfl rfl)
theorem dX16_goThrough_83 : decode cX16_goThrough 83 = .ok (.isub, 1) := dk_100 (dk_at dksX16_goThrough_3 13 rfl rfl)
theorem dX16_goThrough_84 : decode cX16_goThrough 84 = .ok (.aload_n 0, 1) := dk_42 (dk_at dksX16_goThrough_3 14 rfl rfl)
theorem dX16_goThrough_85 : decode cX16_goThrough 85 = .ok (.iload_n 3, 1) := dk_29 (dk_at dksX16_goThrough_3 15 rfl rfl)
theorem dX16_goThrough_86 : decode cX16_goThrough 86 = .ok (.iconst 5, 1) := dk_8 (dk_at dksX16_goThrough_3 16 rfl rfl)
theorem dX16_goThrough_87 : decode cX16_goThrough 87 = .ok (.invokevirtual 69, 3) := dk_182 0 69 (dk_at dksX16_goThrough_3 17 rfl rfl)
theorem dX16_goThrough_90 : decode cX16_goThrough 90 = .ok (.imul, 1) := dk_104 (dk_at dksX16_goThrough_3 20 rfl rfl)
theorem dX16_goThrough_91 : decode cX16_goThrough 91 = .ok (.iadd, 1) := dk_96 (dk_at dksX16_goThrough_3 21 rfl rfl)
theorem dX16_goThrough_92 : decode cX16_goThrough 92 = .ok (.iadd, 1) := dk_96 (dk_at dksX16_goThrough_3 22 rfl rfl)
theorem dX16_goThrough_93 : decode cX16_goThrough 93 = .ok (.istore_n 2, 1) := dk_61 (dk_at dksX16_goThrough_3 23 rfl rfl)
theorem dX16_goThrough_94 : decode cX16_goThrough 94 = .ok (.iinc 3 1, 3) := dk_132 3 1 (dk_at dksX16_goThrough_4 0 rfl rfl)
theorem dX16_goThrough_97 : decode cX16_goThrough 97 = .ok (.goto (-50), 3) := dk_167 255 206 (dk_at dksX16_goThrough_4 3 rfl rfl)
theorem dX16_goThrough_100 : decode cX16_goThrough 100 = .ok (.aload_n 0, 1) := dk_42 (dk_at dksX16_goThrough_4 6 rfl rfl)
theorem dX16_goThrough_101 : decode cX16_goThrough 101 = .ok (.getfield 167, 3) := dk_180 0 167 (dk_at dksX16_goThrough_4 7 rfl rfl)
theorem dX16_goThrough_104 : decode cX16_goThrough 104 = .ok (.ifCond .eq 11, 3) := dk_153 0 11 (dk_at dksX16_goThrough_4 10 rfl rfl)
theorem dX16_goThrough_107 : decode cX16_goThrough 107 = .ok (.iload_n 2, 1) := dk_28 (dk_at dksX16_goThrough_4 13 rfl rfl)
theorem dX16_goThrough_108 : decode cX16_goThrough 108 = .ok (.aload_n 0, 1) := dk_42 (dk_at dksX16_goThrough_4 14 rfl rfl)
theorem dX16_goThrough_109 : decode cX16_goThrough 109 = .ok (.getfield 173, 3) := dk_180 0 173 (dk_at dksX16_goThrough_4 15 rfl rfl)
theorem dX16_goThrough_112 : decode cX16_goThrough 112 = .ok (.if_icmp .le 13, 3) := dk_164 0 13 (dk_at dksX16_goThrough_4 18 rfl rfl)
theorem dX16_goThrough_115 : decode cX16_goThrough 115 = .ok (.aload_n 0, 1) := dk_42 (dk_at dksX16_goThrough_4 21 rfl rfl)
theorem dX16_goThrough_116 : decode cX16_goThrough 116 = .ok (.iload_n 2, 1) := dk_28 (dk_at dksX16_goThrough_4 22 rfl rfl)
theorem dX16_goThrough_117 : decode cX16_goThrough 117 = .ok (.putfield 173, 3) := dk_181 0 173 (dk_at dksX16_goThrough_5 0 rfl rfl)
theorem dX16_goThrough_120 : decode cX16_goThrough 120 = .ok (.aload_n 0, 1) := dk_42 (dk_at dksX16_goThrough_5 3 rfl rfl)
theorem dX16_goThrough_121 : decode cX16_goThrough 121 = .ok (.iload_n 1, 1) := dk_27 (dk_at dksX16_goThrough_5 4 rfl rfl)
theorem dX16_goThrough_122 : decode cX16_goThrough 122 = .ok (.putfield 176, 3) := dk_181 0 176 (dk_at dksX16_goThrough_5 5 rfl rfl)
theorem dX16_goThrough_125 : decode cX16_goThrough 125 = .ok (.aload_n 0, 1) := dk_42 (dk_at dksX16_goThrough_5 8 rfl rfl)
theorem dX16_goThrough_126 : decode cX16_goThrough 126 = .ok (.dup, 1) := dk_89 (dk_at dksX16_goThrough_5 9 rfl rfl)
theorem dX16_goThrough_127 : decode cX16_goThrough 127 = .ok (.getfield 167, 3) := dk_180 0 167 (dk_at dksX16_goThrough_5 10 rfl rfl)
theorem dX16_goThrough_130 : decode cX16_goThrough 130 = .ok (.iconst 1, 1) := dk_4 (dk_at dksX16_goThrough_5 13 rfl rfl)
theorem dX16_goThrough_131 : decode cX16_goThrough 131 = .ok (.iadd, 1) := dk_96 (dk_at dksX16_goThrough_5 14 rfl rfl)
theorem dX16_goThrough_132 : decode cX16_goThrough 132 = .ok (.putfield 167, 3) := dk_181 0 167 (dk_at dksX16_goThrough_5 15 rfl rfl)
theorem dX16_goThrough_135 : decode cX16_goThrough 135 = .ok (.aload_n 0, 1) := dk_42 (dk_at dksX16_goThrough_5 18 rfl rfl)
theorem dX16_goThrough_136 : decode cX16_goThrough 136 = .ok (.iload_n 1, 1) := dk_27 (dk_at dksX16_goThrough_5 19 rfl rfl)
theorem dX16_goThrough_137 : decode cX16_goThrough 137 = .ok (.invokevirtual 179, 3) := dk_182 0 179 (dk_at dksX16_goThrough_5 20 rfl rfl)
theorem dX16_goThrough_140 : decode cX16_goThrough 140 = .ok (.ifCond .eq 77, 3) := dk_153 0 77 (dk_at dksX16_goThrough_6 0 rfl rfl)
theorem dX16_goThrough_143 : decode cX16_goThrough 143 = .ok (.aload_n 0, 1) := dk_42 (dk_at dksX16_goThrough_6 3 rfl rfl)
theorem dX16_goThrough_144 : decode cX16_goThrough 144 = .ok (.getfield 164, 3) := dk_180 0 164 (dk_at dksX16_goThrough_6 4 rfl rfl)
theorem dX16_goThrough_147 : decode cX16_goThrough 147 = .ok (.ifCond .ne 33, 3) := dk_154 0 33 (dk_at dksX16_goThrough_6 7 rfl rfl)
theorem dX16_goThrough_150 : decode cX16_goThrough 150 = .ok (.aload_n 0, 1) := dk_42 (dk_at dksX16_goThrough_6 10 rfl rfl)
theorem dX16_goThrough_151 : decode cX16_goThrough 151 = .ok (.iload_n 1, 1) := dk_27 (dk_at dksX16_goThrough_6 11 rfl rfl)
theorem dX16_goThrough_152 : decode cX16_goThrough 152 = .ok (.putfield 182, 3) := dk_181 0 182 (dk_at dksX16_goThrough_6 12 rfl rfl)
theorem dX16_goThrough_155 : decode cX16_goThrough 155 = .ok (.iconst 0, 1) := dk_3 (dk_at dksX16_goThrough_6 15 rfl rfl)
theorem dX16_goThrough_156 : decode cX16_goThrough 156 = .ok (.istore_n 3, 1) := dk_62 (dk_at dksX16_goThrough_6 16 rfl rfl)
theorem dX16_goThrough_157 : decode cX16_goThrough 157 = .ok (.iload_n 3, 1) := dk_29 (dk_at dksX16_goThrough_6 17 rfl rfl)
theorem dX16_goThrough_158 : decode cX16_goThrough 158 = .ok (.iconst 4, 1) := dk_7 (dk_at dksX16_goThrough_6 18 rfl rfl)
theorem dX16_goThrough_159 : decode cX16_goThrough 159 = .ok (.if_icmp .ge 21, 3) := dk_162 0 21 (dk_at dksX16_goThrough_6 19 rfl rfl)
theorem dX16_goThrough_162 : decode cX16_goThrough 162 = .ok (.aload_n 0, 1) := dk_42 (dk_at dksX16_goThrough_6 22 rfl rfl)
theorem dX16_goThrough_163 : decode cX16_goThrough 163 = .ok (.getfield 60, 3) := dk_180 0 60 (dk_at dksX16_goThrough_7 0 rfl rfl)
theorem dX16_goThrough_166 : decode cX16_goThrough 166 = .ok (.iload_n 3, 1) := dk_29 (dk_at dksX16_goThrough_7 3 rfl rfl)
theorem dX16_goThrough_167 : decode cX16_goThrough 167 = .ok (.aload_n 0, 1) := dk_42 (dk_at dksX16_goThrough_7 4 rfl rfl)
theorem dX16_goThrough_168 : decode cX16_goThrough 168 = .ok (.getfield 57, 3) := dk_180 0 57 (dk_at dksX16_goThrough_7 5 rfl rfl)
theorem dX16_goThrough_171 : decode cX16_goThrough 171 = .ok (.iload_n 3, 1) := dk_29 (dk_at dksX16_goThrough_7 8 rfl rfl)
theorem dX16_goThrough_172 : decode cX16_goThrough 172 = .ok (.iaload, 1) := dk_46 (dk_at dksX16_goThrough_7 9 rfl rfl)
theorem dX16_goThrough_173 : decode cX16_goThrough 173 = .ok (.iastore, 1) := dk_79 (dk_at dksX16_goThrough_7 10 rfl rfl)
theorem dX16_goThrough_174 : decode cX16_goThrough 174 = .ok (.iinc 3 1, 3) := dk_132 3 1 (dk_at dksX16_goThrough_7 11 rfl rfl)
theorem dX16_goThrough_177 : decode cX16_goThrough 177 = .ok (.goto (-20), 3) := dk_167 255 236 (dk_at dksX16_goThrough_7 14 rfl rfl)
theorem dX16_goThrough_180 : decode cX16_goThrough 180 = .ok (.aload_n 0, 1) := dk_42 (dk_at dksX16_goThrough_7 17 rfl rfl)
theorem dX16_goThrough_181 : decode cX16_goThrough 181 = .ok (.aload_n 0, 1) := dk_42 (dk_at dksX16_goThrough_7 18 rfl rfl)
theorem dX16_goThrough_182 : decode cX16_goThrough 182 = .ok (.getfield 164, 3) := dk_180 0 164 (dk_at dksX16_goThrough_7 19 rfl rfl)
theorem dX16_goThrough_185 : decode cX16_goThrough 185 = .ok (.ifCond .eq 11, 3) := dk_153 0 11 (dk_at dksX16_goThrough_8 0 rfl rfl)
theorem dX16_goThrough_188 : decode cX16_goThrough 188 = .ok (.iload_n 2, 1) := dk_28 (dk_at dksX16_goThrough_8 3 rfl rfl)
theorem dX16_goThrough_189 : decode cX16_goThrough 189 = .ok (.aload_n 0, 1) := dk_42 (dk_at dksX16_goThrough_8 4 rfl rfl)
theorem dX16_goThrough_190 : decode cX16_goThrough 190 = .ok (.getfield 185, 3) := dk_180 0 185 (dk_at dksX16_goThrough_8 5 rfl rfl)
theorem dX16_goThrough_193 : decode cX16_goThrough 193 = .ok (.if_icmp .le 7, 3) := dk_164 0 7 (dk_at dksX16_goThrough_8 8 rfl rfl)
theorem dX16_goThrough_196 : decode cX16_goThrough 196 = .ok (.iload_n 2, 1) := dk_28 (dk_at dksX16_goThrough_8 11 rfl rfl)
theorem dX16_goThrough_197 : decode cX16_goThrough 197 = .ok (.goto 7, 3) := dk_167 0 7 (dk_at dksX16_goThrough_8 12 rfl rfl)
theorem dX16_goThrough_200 : decode cX16_goThrough 200 = .ok (.aload_n 0, 1) := dk_42 (dk_at dksX16_goThrough_8 15 rfl rfl)
theorem dX16_goThrough_201 : decode cX16_goThrough 201 = .ok (.getfield 185, 3) := dk_180 0 185 (dk_at dksX16_goThrough_8 16 rfl rfl)
theorem dX16_goThrough_204 : decode cX16_goThrough 204 = .ok (.putfield 185, 3) := dk_181 0 185 (dk_at dksX16_goThrough_8 19 rfl rfl)
theorem dX16_goThrough_207 : decode cX16_goThrough 207 = .ok (.aload_n 0, 1) := dk_42 (dk_at dksX16_goThrough_8 22 rfl rfl)
theorem dX16_goThrough_208 : decode cX16_goThrough 208 = .ok (.dup, 1) := dk_89 (dk_at dksX16_goThrough_8 23 rfl rfl)
theorem dX16_goThrough_209 : decode cX16_goThrough 209 = .ok (.getfield 164, 3) := dk_180 0 164 (dk_at dksX16_goThrough_9 0 rfl rfl)
theorem dX16_goThrough_212 : decode cX16_goThrough 212 = .ok (.iconst 1, 1) := dk_4 (dk_at dksX16_goThrough_9 3 rfl rfl)
theorem dX16_goThrough_213 : decode cX16_goThrough 213 = .ok (.iadd, 1) := dk_96 (dk_at dksX16_goThrough_9 4 rfl rfl)
theorem dX16_goThrough_214 : decode cX16_goThrough 214 = .ok (.putfield 164, 3) := dk_181 0 164 (dk_at dksX16_goThrough_9 5 rfl rfl)
theorem dX16_goThrough_217 : decode cX16_goThrough 217 = .ok (.aload_n 0, 1) := dk_42 (dk_at dksX16_goThrough_9 8 rfl rfl)
theorem dX16_goThrough_218 : decode cX16_goThrough 218 = .ok (.invokevirtual 188, 3) := dk_182 0 188 (dk_at dksX16_goThrough_9 9 rfl rfl)
theorem dX16_goThrough_221 : decode cX16_goThrough 221 = .ok (.ifCond .ne (-207), 3) := dk_154 255 49 (dk_at dksX16_goThrough_9 12 rfl rfl)
theorem dX16_goThrough_224 : decode cX16_goThrough 224 = .ok (.return_, 1) := dk_177 (dk_at dksX16_goThrough_9 15 rfl rfl)
abbrev cX16_begin : ByteArray := prog_28_method_44_code
def yX16_begin : MethodName := ⟨RX16, "begin", "()V"⟩
def dkwX16_begin_0 : List UInt8 := [3, 60, 27, 7, 162, 0, 16, 42, 180, 0, 57, 27, 3, 79, 132, 1, 1, 167, 255, 241, 177]
abbrev dktX16_begin_0 : List UInt8 := dkwX16_begin_0 ++ []
theorem dksX16_begin_0 : cX16_begin.data.toList.drop 0 = dktX16_begin_0 := by decide +kernel
theorem dX16_begin_0 : decode cX16_begin 0 = .ok (.iconst 0, 1) := dk_3 (dk_at dksX16_begin_0 0 rfl rfl)
theorem dX16_begin_1 : decode cX16_begin 1 = .ok (.istore_n 1, 1) := dk_60 (dk_at dksX16_begin_0 1 rfl rfl)
theorem dX16_begin_2 : decode cX16_begin 2 = .ok (.iload_n 1, 1) := dk_27 (dk_at dksX16_begin_0 2 rfl rfl)
theorem dX16_begin_3 : decode cX16_begin 3 = .ok (.iconst 4, 1) := dk_7 (dk_at dksX16_begin_0 3 rfl rfl)
theorem dX16_begin_4 : decode cX16_begin 4 = .ok (.if_icmp .ge 16, 3) := dk_162 0 16 (dk_at dksX16_begin_0 4 rfl rfl)
theorem dX16_begin_7 : decode cX16_begin 7 = .ok (.aload_n 0, 1) := dk_42 (dk_at dksX16_begin_0 7 rfl rfl)
theorem dX16_begin_8 : decode cX16_begin 8 = .ok (.getfield 57, 3) := dk_180 0 57 (dk_at dksX16_begin_0 8 rfl rfl)
theorem dX16_begin_11 : decode cX16_begin 11 = .ok (.iload_n 1, 1) := dk_27 (dk_at dksX16_begin_0 11 rfl rfl)
theorem dX16_begin_12 : decode cX16_begin 12 = .ok (.iconst 0, 1) := dk_3 (dk_at dksX16_begin_0 12 rfl rfl)
theorem dX16_begin_13 : decode cX16_begin 13 = .ok (.iastore, 1) := dk_79 (dk_at dksX16_begin_0 13 rfl rfl)
theorem dX16_begin_14 : decode cX16_begin 14 = .ok (.iinc 1 1, 3) := dk_132 1 1 (dk_at dksX16_begin_0 14 rfl rfl)
theorem dX16_begin_17 : decode cX16_begin 17 = .ok (.goto (-15), 3) := dk_167 255 241 (dk_at dksX16_begin_0 17 rfl rfl)
theorem dX16_begin_20 : decode cX16_begin 20 = .ok (.return_, 1) := dk_177 (dk_at dksX16_begin_0 20 rfl rfl)
abbrev cX16_isAtRest : ByteArray := prog_28_method_46_code
def yX16_isAtRest : MethodName := ⟨RX16, "isAtRest", "(I)Z"⟩
def dkwX16_isAtRest_3 : List UInt8 := [163, 0, 7, 4, 167, 0, 4, 3, 61, 132, 3, 1, 167, 255, 177, 28, 172]
abbrev dktX16_isAtRest_3 : List UInt8 := dkwX16_isAtRest_3 ++ []
def dkwX16_isAtRest_2 : List UInt8 := [42, 29, 3, 182, 0, 69, 159, 0, 20, 42, 29, 27, 4, 96, 182, 0, 136, 42, 29, 8, 182, 0, 69]
abbrev dktX16_isAtRest_2 : List UInt8 := dkwX16_isAtRest_2 ++ dktX16_isAtRest_3
def dkwX16_isAtRest_1 : List UInt8 := [153, 0, 18, 42, 29, 8, 182, 0, 69, 42, 29, 27, 182, 0, 136, 163, 0, 39, 42, 180, 0, 57, 29, 46]
abbrev dktX16_isAtRest_1 : List UInt8 := dkwX16_isAtRest_1 ++ dktX16_isAtRest_2
def dkwX16_isAtRest_0 : List UInt8 := [4, 61, 3, 62, 29, 42, 180, 0, 11, 3, 46, 162, 0, 75, 28, 153, 0, 63, 42, 180, 0, 57, 29, 46]
abbrev dktX16_isAtRest_0 : List UInt8 := dkwX16_isAtRest_0 ++ dktX16_isAtRest_1
theorem dksX16_isAtRest_0 : cX16_isAtRest.data.toList.drop 0 = dktX16_isAtRest_0 := by decide +kernel
theorem dksX16_isAtRest_1 : cX16_isAtRest.data.toList.drop 24 = dktX16_isAtRest_1 := dk_seg dksX16_isAtRest_0 24 rfl rfl
theorem dksX16_isAtRest_2 : cX16_isAtRest.data.toList.drop 48 = dktX16_isAtRest_2 := dk_seg dksX16_isAtRest_1 24 rfl rfl
theorem dksX16_isAtRest_3 : cX16_isAtRest.data.toList.drop 71 = dktX16_isAtRest_3 := dk_seg dksX16_isAtRest_2 23 rfl rfl
theorem dX16_isAtRest_0 : decode cX16_isAtRest 0 = .ok (.iconst 1, 1) := dk_4 (dk_at dksX16_isAtRest_0 0 rfl rfl)
theorem dX16_isAtRest_1 : decode cX16_isAtRest 1 = .ok (.istore_n 2, 1) := dk_61 (dk_at dksX16_isAtRest_0 1 rfl rfl)
theorem dX16_isAtRest_2 : decode cX16_isAtRest 2 = .ok (.iconst 0, 1) := dk_3 (dk_at dksX16_isAtRest_0 2 rfl rfl)
theorem dX16_isAtRest_3 : decode cX16_isAtRest 3 = .ok (.istore_n 3, 1) := dk_62 (dk_at dksX16_isAtRest_0 3 rfl rfl)
theorem dX16_isAtRest_4 : decode cX16_isAtRest 4 = .ok (.iload_n 3, 1) := dk_29 (dk_at dksX16_isAtRest_0 4 rfl rfl)
theorem dX16_isAtRest_5 : decode cX16_isAtRest 5 = .ok (.aload_n 0, 1) := dk_42 (dk_at dksX16_isAtRest_0 5 rfl rfl)
theorem dX16_isAtRest_6 : decode cX16_isAtRest 6 = .ok (.getfield 11, 3) := dk_180 0 11 (dk_at dksX16_isAtRest_0 6 rfl rfl)
theorem dX16_isAtRest_9 : decode cX16_isAtRest 9 = .ok (.iconst 0, 1) := dk_3 (dk_at dksX16_isAtRest_0 9 rfl rfl)
theorem dX16_isAtRest_10 : decode cX16_isAtRest 10 = .ok (.iaload, 1) := dk_46 (dk_at dksX16_isAtRest_0 10 rfl rfl)
theorem dX16_isAtRest_11 : decode cX16_isAtRest 11 = .ok (.if_icmp .ge 75, 3) := dk_162 0 75 (dk_at dksX16_isAtRest_0 11 rfl rfl)
theorem dX16_isAtRest_14 : decode cX16_isAtRest 14 = .ok (.iload_n 2, 1) := dk_28 (dk_at dksX16_isAtRest_0 14 rfl rfl)
theorem dX16_isAtRest_15 : decode cX16_isAtRest 15 = .ok (.ifCond .eq 63, 3) := dk_153 0 63 (dk_at dksX16_isAtRest_0 15 rfl rfl)
theorem dX16_isAtRest_18 : decode cX16_isAtRest 18 = .ok (.aload_n 0, 1) := dk_42 (dk_at dksX16_isAtRest_0 18 rfl rfl)
theorem dX16_isAtRest_19 : decode cX16_isAtRest 19 = .ok (.getfield 57, 3) := dk_180 0 57 (dk_at dksX16_isAtRest_0 19 rfl rfl)
theorem dX16_isAtRest_22 : decode cX16_isAtRest 22 = .ok (.iload_n 3, 1) := dk_29 (dk_at dksX16_isAtRest_0 22 rfl rfl)
theorem dX16_isAtRest_23 : decode cX16_isAtRest 23 = .ok (.iaload, 1) := dk_46 (dk_at dksX16_isAtRest_0 23 rfl rfl)
theorem dX16_isAtRest_24 : decode cX16_isAtRest 24 = .ok (.ifCond .eq 18, 3) := dk_153 0 18 (dk_at dksX16_isAtRest_1 0 rfl rfl)
theorem dX16_isAtRest_27 : decode cX16_isAtRest 27 = .ok (.aload_n 0, 1) := dk_42 (dk_at dksX16_isAtRest_1 3 rfl rfl)
theorem dX16_isAtRest_28 : decode cX16_isAtRest 28 = .ok (.iload_n 3, 1) := dk_29 (dk_at dksX16_isAtRest_1 4 rfl rfl)
theorem dX16_isAtRest_29 : decode cX16_isAtRest 29 = .ok (.iconst 5, 1) := dk_8 (dk_at dksX16_isAtRest_1 5 rfl rfl)
theorem dX16_isAtRest_30 : decode cX16_isAtRest 30 = .ok (.invokevirtual 69, 3) := dk_182 0 69 (dk_at dksX16_isAtRest_1 6 rfl rfl)
theorem dX16_isAtRest_33 : decode cX16_isAtRest 33 = .ok (.aload_n 0, 1) := dk_42 (dk_at dksX16_isAtRest_1 9 rfl rfl)
theorem dX16_isAtRest_34 : decode cX16_isAtRest 34 = .ok (.iload_n 3, 1) := dk_29 (dk_at dksX16_isAtRest_1 10 rfl rfl)
theorem dX16_isAtRest_35 : decode cX16_isAtRest 35 = .ok (.iload_n 1, 1) := dk_27 (dk_at dksX16_isAtRest_1 11 rfl rfl)
theorem dX16_isAtRest_36 : decode cX16_isAtRest 36 = .ok (.invokevirtual 136, 3) := dk_182 0 136 (dk_at dksX16_isAtRest_1 12 rfl rfl)
theorem dX16_isAtRest_39 : decode cX16_isAtRest 39 = .ok (.if_icmp .gt 39, 3) := dk_163 0 39 (dk_at dksX16_isAtRest_1 15 rfl rfl)
theorem dX16_isAtRest_42 : decode cX16_isAtRest 42 = .ok (.aload_n 0, 1) := dk_42 (dk_at dksX16_isAtRest_1 18 rfl rfl)
theorem dX16_isAtRest_43 : decode cX16_isAtRest 43 = .ok (.getfield 57, 3) := dk_180 0 57 (dk_at dksX16_isAtRest_1 19 rfl rfl)
theorem dX16_isAtRest_46 : decode cX16_isAtRest 46 = .ok (.iload_n 3, 1) := dk_29 (dk_at dksX16_isAtRest_1 22 rfl rfl)
theorem dX16_isAtRest_47 : decode cX16_isAtRest 47 = .ok (.iaload, 1) := dk_46 (dk_at dksX16_isAtRest_1 23 rfl rfl)
theorem dX16_isAtRest_48 : decode cX16_isAtRest 48 = .ok (.aload_n 0, 1) := dk_42 (dk_at dksX16_isAtRest_2 0 rfl rfl)
theorem dX16_isAtRest_49 : decode cX16_isAtRest 49 = .ok (.iload_n 3, 1) := dk_29 (dk_at dksX16_isAtRest_2 1 rfl rfl)
theorem dX16_isAtRest_50 : decode cX16_isAtRest 50 = .ok (.iconst 0, 1) := dk_3 (dk_at dksX16_isAtRest_2 2 rfl rfl)
theorem dX16_isAtRest_51 : decode cX16_isAtRest 51 = .ok (.invokevirtual 69, 3) := dk_182 0 69 (dk_at dksX16_isAtRest_2 3 rfl rfl)
theorem dX16_isAtRest_54 : decode cX16_isAtRest 54 = .ok (.if_icmp .eq 20, 3) := dk_159 0 20 (dk_at dksX16_isAtRest_2 6 rfl rfl)
theorem dX16_isAtRest_57 : decode cX16_isAtRest 57 = .ok (.aload_n 0, 1) := dk_42 (dk_at dksX16_isAtRest_2 9 rfl rfl)
theorem dX16_isAtRest_58 : decode cX16_isAtRest 58 = .ok (.iload_n 3, 1) := dk_29 (dk_at dksX16_isAtRest_2 10 rfl rfl)
theorem dX16_isAtRest_59 : decode cX16_isAtRest 59 = .ok (.iload_n 1, 1) := dk_27 (dk_at dksX16_isAtRest_2 11 rfl rfl)
theorem dX16_isAtRest_60 : decode cX16_isAtRest 60 = .ok (.iconst 1, 1) := dk_4 (dk_at dksX16_isAtRest_2 12 rfl rfl)
theorem dX16_isAtRest_61 : decode cX16_isAtRest 61 = .ok (.iadd, 1) := dk_96 (dk_at dksX16_isAtRest_2 13 rfl rfl)
theorem dX16_isAtRest_62 : decode cX16_isAtRest 62 = .ok (.invokevirtual 136, 3) := dk_182 0 136 (dk_at dksX16_isAtRest_2 14 rfl rfl)
theorem dX16_isAtRest_65 : decode cX16_isAtRest 65 = .ok (.aload_n 0, 1) := dk_42 (dk_at dksX16_isAtRest_2 17 rfl rfl)
theorem dX16_isAtRest_66 : decode cX16_isAtRest 66 = .ok (.iload_n 3, 1) := dk_29 (dk_at dksX16_isAtRest_2 18 rfl rfl)
theorem dX16_isAtRest_67 : decode cX16_isAtRest 67 = .ok (.iconst 5, 1) := dk_8 (dk_at dksX16_isAtRest_2 19 rfl rfl)
theorem dX16_isAtRest_68 : decode cX16_isAtRest 68 = .ok (.invokevirtual 69, 3) := dk_182 0 69 (dk_at dksX16_isAtRest_2 20 rfl rfl)
theorem dX16_isAtRest_71 : decode cX16_isAtRest 71 = .ok (.if_icmp .gt 7, 3) := dk_163 0 7 (dk_at dksX16_isAtRest_3 0 rfl rfl)
theorem dX16_isAtRest_74 : decode cX16_isAtRest 74 = .ok (.iconst 1, 1) := dk_4 (dk_at dksX16_isAtRest_3 3 rfl rfl)
theorem dX16_isAtRest_75 : decode cX16_isAtRest 75 = .ok (.goto 4, 3) := dk_167 0 4 (dk_at dksX16_isAtRest_3 4 rfl rfl)
theorem dX16_isAtRest_78 : decode cX16_isAtRest 78 = .ok (.iconst 0, 1) := dk_3 (dk_at dksX16_isAtRest_3 7 rfl rfl)
theorem dX16_isAtRest_79 : decode cX16_isAtRest 79 = .ok (.istore_n 2, 1) := dk_61 (dk_at dksX16_isAtRest_3 8 rfl rfl)
theorem dX16_isAtRest_80 : decode cX16_isAtRest 80 = .ok (.iinc 3 1, 3) := dk_132 3 1 (dk_at dksX16_isAtRest_3 9 rfl rfl)
theorem dX16_isAtRest_83 : decode cX16_isAtRest 83 = .ok (.goto (-79), 3) := dk_167 255 177 (dk_at dksX16_isAtRest_3 12 rfl rfl)
theorem dX16_isAtRest_86 : decode cX16_isAtRest 86 = .ok (.iload_n 2, 1) := dk_28 (dk_at dksX16_isAtRest_3 15 rfl rfl)
theorem dX16_isAtRest_87 : decode cX16_isAtRest 87 = .ok (.ireturn, 1) := dk_172 (dk_at dksX16_isAtRest_3 16 rfl rfl)
abbrev cX16_isNextPlan : ByteArray := prog_28_method_45_code
def yX16_isNextPlan : MethodName := ⟨RX16, "isNextPlan", "()Z"⟩
def dkwX16_isNextPlan_2 : List UInt8 := [79, 132, 1, 255, 167, 255, 215, 3, 172]
abbrev dktX16_isNextPlan_2 : List UInt8 := dkwX16_isNextPlan_2 ++ []
def dkwX16_isNextPlan_1 : List UInt8 := [182, 0, 69, 162, 0, 15, 42, 180, 0, 57, 27, 92, 46, 4, 96, 79, 4, 172, 42, 180, 0, 57, 27, 3]
abbrev dktX16_isNextPlan_1 : List UInt8 := dkwX16_isNextPlan_1 ++ dktX16_isNextPlan_2
def dkwX16_isNextPlan_0 : List UInt8 := [42, 180, 0, 11, 3, 46, 4, 100, 60, 27, 155, 0, 43, 42, 180, 0, 57, 27, 46, 42, 27, 3]
abbrev dktX16_isNextPlan_0 : List UInt8 := dkwX16_isNextPlan_0 ++ dktX16_isNextPlan_1
theorem dksX16_isNextPlan_0 : cX16_isNextPlan.data.toList.drop 0 = dktX16_isNextPlan_0 := by decide +kernel
theorem dksX16_isNextPlan_1 : cX16_isNextPlan.data.toList.drop 22 = dktX16_isNextPlan_1 := dk_seg dksX16_isNextPlan_0 22 rfl rfl
theorem dksX16_isNextPlan_2 : cX16_isNextPlan.data.toList.drop 46 = dktX16_isNextPlan_2 := dk_seg dksX16_isNextPlan_1 24 rfl rfl
theorem dX16_isNextPlan_0 : decode cX16_isNextPlan 0 = .ok (.aload_n 0, 1) := dk_42 (dk_at dksX16_isNextPlan_0 0 rfl rfl)
theorem dX16_isNextPlan_1 : decode cX16_isNextPlan 1 = .ok (.getfield 11, 3) := dk_180 0 11 (dk_at dksX16_isNextPlan_0 1 rfl rfl)
theorem dX16_isNextPlan_4 : decode cX16_isNextPlan 4 = .ok (.iconst 0, 1) := dk_3 (dk_at dksX16_isNextPlan_0 4 rfl rfl)
theorem dX16_isNextPlan_5 : decode cX16_isNextPlan 5 = .ok (.iaload, 1) := dk_46 (dk_at dksX16_isNextPlan_0 5 rfl rfl)
theorem dX16_isNextPlan_6 : decode cX16_isNextPlan 6 = .ok (.iconst 1, 1) := dk_4 (dk_at dksX16_isNextPlan_0 6 rfl rfl)
theorem dX16_isNextPlan_7 : decode cX16_isNextPlan 7 = .ok (.isub, 1) := dk_100 (dk_at dksX16_isNextPlan_0 7 rfl rfl)
theorem dX16_isNextPlan_8 : decode cX16_isNextPlan 8 = .ok (.istore_n 1, 1) := dk_60 (dk_at dksX16_isNextPlan_0 8 rfl rfl)
theorem dX16_isNextPlan_9 : decode cX16_isNextPlan 9 = .ok (.iload_n 1, 1) := dk_27 (dk_at dksX16_isNextPlan_0 9 rfl rfl)
theorem dX16_isNextPlan_10 : decode cX16_isNextPlan 10 = .ok (.ifCond .lt 43, 3) := dk_155 0 43 (dk_at dksX16_isNextPlan_0 10 rfl rfl)
theorem dX16_isNextPlan_13 : decode cX16_isNextPlan 13 = .ok (.aload_n 0, 1) := dk_42 (dk_at dksX16_isNextPlan_0 13 rfl rfl)
theorem dX16_isNextPlan_14 : decode cX16_isNextPlan 14 = .ok (.getfield 57, 3) := dk_180 0 57 (dk_at dksX16_isNextPlan_0 14 rfl rfl)
theorem dX16_isNextPlan_17 : decode cX16_isNextPlan 17 = .ok (.iload_n 1, 1) := dk_27 (dk_at dksX16_isNextPlan_0 17 rfl rfl)
theorem dX16_isNextPlan_18 : decode cX16_isNextPlan 18 = .ok (.iaload, 1) := dk_46 (dk_at dksX16_isNextPlan_0 18 rfl rfl)
theorem dX16_isNextPlan_19 : decode cX16_isNextPlan 19 = .ok (.aload_n 0, 1) := dk_42 (dk_at dksX16_isNextPlan_0 19 rfl rfl)
theorem dX16_isNextPlan_20 : decode cX16_isNextPlan 20 = .ok (.iload_n 1, 1) := dk_27 (dk_at dksX16_isNextPlan_0 20 rfl rfl)
theorem dX16_isNextPlan_21 : decode cX16_isNextPlan 21 = .ok (.iconst 0, 1) := dk_3 (dk_at dksX16_isNextPlan_0 21 rfl rfl)
theorem dX16_isNextPlan_22 : decode cX16_isNextPlan 22 = .ok (.invokevirtual 69, 3) := dk_182 0 69 (dk_at dksX16_isNextPlan_1 0 rfl rfl)
theorem dX16_isNextPlan_25 : decode cX16_isNextPlan 25 = .ok (.if_icmp .ge 15, 3) := dk_162 0 15 (dk_at dksX16_isNextPlan_1 3 rfl rfl)
theorem dX16_isNextPlan_28 : decode cX16_isNextPlan 28 = .ok (.aload_n 0, 1) := dk_42 (dk_at dksX16_isNextPlan_1 6 rfl rfl)
theorem dX16_isNextPlan_29 : decode cX16_isNextPlan 29 = .ok (.getfield 57, 3) := dk_180 0 57 (dk_at dksX16_isNextPlan_1 7 rfl rfl)
theorem dX16_isNextPlan_32 : decode cX16_isNextPlan 32 = .ok (.iload_n 1, 1) := dk_27 (dk_at dksX16_isNextPlan_1 10 rfl rfl)
theorem dX16_isNextPlan_33 : decode cX16_isNextPlan 33 = .ok (.dup2, 1) := dk_92 (dk_at dksX16_isNextPlan_1 11 rfl rfl)
theorem dX16_isNextPlan_34 : decode cX16_isNextPlan 34 = .ok (.iaload, 1) := dk_46 (dk_at dksX16_isNextPlan_1 12 rfl rfl)
theorem dX16_isNextPlan_35 : decode cX16_isNextPlan 35 = .ok (.iconst 1, 1) := dk_4 (dk_at dksX16_isNextPlan_1 13 rfl rfl)
theorem dX16_isNextPlan_36 : decode cX16_isNextPlan 36 = .ok (.iadd, 1) := dk_96 (dk_at dksX16_isNextPlan_1 14 rfl rfl)
theorem dX16_isNextPlan_37 : decode cX16_isNextPlan 37 = .ok (.iastore, 1) := dk_79 (dk_at dksX16_isNextPlan_1 15 rfl rfl)
theorem dX16_isNextPlan_38 : decode cX16_isNextPlan 38 = .ok (.iconst 1, 1) := dk_4 (dk_at dksX16_isNextPlan_1 16 rfl rfl)
theorem dX16_isNextPlan_39 : decode cX16_isNextPlan 39 = .ok (.ireturn, 1) := dk_172 (dk_at dksX16_isNextPlan_1 17 rfl rfl)
theorem dX16_isNextPlan_40 : decode cX16_isNextPlan 40 = .ok (.aload_n 0, 1) := dk_42 (dk_at dksX16_isNextPlan_1 18 rfl rfl)
theorem dX16_isNextPlan_41 : decode cX16_isNextPlan 41 = .ok (.getfield 57, 3) := dk_180 0 57 (dk_at dksX16_isNextPlan_1 19 rfl rfl)
theorem dX16_isNextPlan_44 : decode cX16_isNextPlan 44 = .ok (.iload_n 1, 1) := dk_27 (dk_at dksX16_isNextPlan_1 22 rfl rfl)
theorem dX16_isNextPlan_45 : decode cX16_isNextPlan 45 = .ok (.iconst 0, 1) := dk_3 (dk_at dksX16_isNextPlan_1 23 rfl rfl)
theorem dX16_isNextPlan_46 : decode cX16_isNextPlan 46 = .ok (.iastore, 1) := dk_79 (dk_at dksX16_isNextPlan_2 0 rfl rfl)
theorem dX16_isNextPlan_47 : decode cX16_isNextPlan 47 = .ok (.iinc 1 (-1), 3) := dk_132 1 255 (dk_at dksX16_isNextPlan_2 1 rfl rfl)
theorem dX16_isNextPlan_50 : decode cX16_isNextPlan 50 = .ok (.goto (-41), 3) := dk_167 255 215 (dk_at dksX16_isNextPlan_2 4 rfl rfl)
theorem dX16_isNextPlan_53 : decode cX16_isNextPlan 53 = .ok (.iconst 0, 1) := dk_3 (dk_at dksX16_isNextPlan_2 7 rfl rfl)
theorem dX16_isNextPlan_54 : decode cX16_isNextPlan 54 = .ok (.ireturn, 1) := dk_172 (dk_at dksX16_isNextPlan_2 8 rfl rfl)
abbrev cX16_rest : ByteArray := prog_28_method_49_code
def yX16_rest : MethodName := ⟨RX16, "rest", "(I)I"⟩
def dkwX16_rest_2 : List UInt8 := [167, 0, 9, 42, 180, 0, 60, 27, 46, 172]
abbrev dktX16_rest_2 : List UInt8 := dkwX16_rest_2 ++ []
def dkwX16_rest_1 : List UInt8 := [182, 0, 192, 42, 180, 0, 164, 154, 0, 8, 16, 247, 167, 0, 20, 27, 156, 0, 10, 42, 180, 0, 182]
abbrev dktX16_rest_1 : List UInt8 := dkwX16_rest_1 ++ dktX16_rest_2
def dkwX16_rest_0 : List UInt8 := [27, 2, 161, 0, 13, 27, 42, 180, 0, 11, 3, 46, 161, 0, 9, 42, 2, 182, 0, 21, 172, 42]
abbrev dktX16_rest_0 : List UInt8 := dkwX16_rest_0 ++ dktX16_rest_1
theorem dksX16_rest_0 : cX16_rest.data.toList.drop 0 = dktX16_rest_0 := by decide +kernel
theorem dksX16_rest_1 : cX16_rest.data.toList.drop 22 = dktX16_rest_1 := dk_seg dksX16_rest_0 22 rfl rfl
theorem dksX16_rest_2 : cX16_rest.data.toList.drop 45 = dktX16_rest_2 := dk_seg dksX16_rest_1 23 rfl rfl
theorem dX16_rest_0 : decode cX16_rest 0 = .ok (.iload_n 1, 1) := dk_27 (dk_at dksX16_rest_0 0 rfl rfl)
theorem dX16_rest_1 : decode cX16_rest 1 = .ok (.iconst (-1), 1) := dk_2 (dk_at dksX16_rest_0 1 rfl rfl)
theorem dX16_rest_2 : decode cX16_rest 2 = .ok (.if_icmp .lt 13, 3) := dk_161 0 13 (dk_at dksX16_rest_0 2 rfl rfl)
theorem dX16_rest_5 : decode cX16_rest 5 = .ok (.iload_n 1, 1) := dk_27 (dk_at dksX16_rest_0 5 rfl rfl)
theorem dX16_rest_6 : decode cX16_rest 6 = .ok (.aload_n 0, 1) := dk_42 (dk_at dksX16_rest_0 6 rfl rfl)
theorem dX16_rest_7 : decode cX16_rest 7 = .ok (.getfield 11, 3) := dk_180 0 11 (dk_at dksX16_rest_0 7 rfl rfl)
theorem dX16_rest_10 : decode cX16_rest 10 = .ok (.iconst 0, 1) := dk_3 (dk_at dksX16_rest_0 10 rfl rfl)
theorem dX16_rest_11 : decode cX16_rest 11 = .ok (.iaload, 1) := dk_46 (dk_at dksX16_rest_0 11 rfl rfl)
theorem dX16_rest_12 : decode cX16_rest 12 = .ok (.if_icmp .lt 9, 3) := dk_161 0 9 (dk_at dksX16_rest_0 12 rfl rfl)
theorem dX16_rest_15 : decode cX16_rest 15 = .ok (.aload_n 0, 1) := dk_42 (dk_at dksX16_rest_0 15 rfl rfl)
theorem dX16_rest_16 : decode cX16_rest 16 = .ok (.iconst (-1), 1) := dk_2 (dk_at dksX16_rest_0 16 rfl rfl)
theorem dX16_rest_17 : decode cX16_rest 17 = .ok (.invokevirtual 21, 3) := dk_182 0 21 (dk_at dksX16_rest_0 17 rfl rfl)
theorem dX16_rest_20 : decode cX16_rest 20 = .ok (.ireturn, 1) := dk_172 (dk_at dksX16_rest_0 20 rfl rfl)
theorem dX16_rest_21 : decode cX16_rest 21 = .ok (.aload_n 0, 1) := dk_42 (dk_at dksX16_rest_0 21 rfl rfl)
theorem dX16_rest_22 : decode cX16_rest 22 = .ok (.invokevirtual 192, 3) := dk_182 0 192 (dk_at dksX16_rest_1 0 rfl rfl)
theorem dX16_rest_25 : decode cX16_rest 25 = .ok (.aload_n 0, 1) := dk_42 (dk_at dksX16_rest_1 3 rfl rfl)
theorem dX16_rest_26 : decode cX16_rest 26 = .ok (.getfield 164, 3) := dk_180 0 164 (dk_at dksX16_rest_1 4 rfl rfl)
theorem dX16_rest_29 : decode cX16_rest 29 = .ok (.ifCond .ne 8, 3) := dk_154 0 8 (dk_at dksX16_rest_1 7 rfl rfl)
theorem dX16_rest_32 : decode cX16_rest 32 = .ok (.bipush (-9), 2) := dk_16 247 (dk_at dksX16_rest_1 10 rfl rfl)
theorem dX16_rest_34 : decode cX16_rest 34 = .ok (.goto 20, 3) := dk_167 0 20 (dk_at dksX16_rest_1 12 rfl rfl)
theorem dX16_rest_37 : decode cX16_rest 37 = .ok (.iload_n 1, 1) := dk_27 (dk_at dksX16_rest_1 15 rfl rfl)
theorem dX16_rest_38 : decode cX16_rest 38 = .ok (.ifCond .ge 10, 3) := dk_156 0 10 (dk_at dksX16_rest_1 16 rfl rfl)
theorem dX16_rest_41 : decode cX16_rest 41 = .ok (.aload_n 0, 1) := dk_42 (dk_at dksX16_rest_1 19 rfl rfl)
theorem dX16_rest_42 : decode cX16_rest 42 = .ok (.getfield 182, 3) := dk_180 0 182 (dk_at dksX16_rest_1 20 rfl rfl)
theorem dX16_rest_45 : decode cX16_rest 45 = .ok (.goto 9, 3) := dk_167 0 9 (dk_at dksX16_rest_2 0 rfl rfl)
theorem dX16_rest_48 : decode cX16_rest 48 = .ok (.aload_n 0, 1) := dk_42 (dk_at dksX16_rest_2 3 rfl rfl)
theorem dX16_rest_49 : decode cX16_rest 49 = .ok (.getfield 60, 3) := dk_180 0 60 (dk_at dksX16_rest_2 4 rfl rfl)
theorem dX16_rest_52 : decode cX16_rest 52 = .ok (.iload_n 1, 1) := dk_27 (dk_at dksX16_rest_2 7 rfl rfl)
theorem dX16_rest_53 : decode cX16_rest 53 = .ok (.iaload, 1) := dk_46 (dk_at dksX16_rest_2 8 rfl rfl)
theorem dX16_rest_54 : decode cX16_rest 54 = .ok (.ireturn, 1) := dk_172 (dk_at dksX16_rest_2 9 rfl rfl)
abbrev cX16_best : ByteArray := prog_28_method_50_code
def yX16_best : MethodName := ⟨RX16, "best", "(I)I"⟩
def dkwX16_best_1 : List UInt8 := [154, 0, 10, 42, 180, 0, 173, 167, 0, 7, 42, 180, 0, 176, 172]
abbrev dktX16_best_1 : List UInt8 := dkwX16_best_1 ++ []
def dkwX16_best_0 : List UInt8 := [27, 155, 0, 8, 27, 4, 164, 0, 13, 18, 148, 42, 16, 254, 182, 0, 21, 100, 172, 42, 182, 0, 192, 27]
abbrev dktX16_best_0 : List UInt8 := dkwX16_best_0 ++ dktX16_best_1
theorem dksX16_best_0 : cX16_best.data.toList.drop 0 = dktX16_best_0 := by decide +kernel
theorem dksX16_best_1 : cX16_best.data.toList.drop 24 = dktX16_best_1 := dk_seg dksX16_best_0 24 rfl rfl
theorem dX16_best_0 : decode cX16_best 0 = .ok (.iload_n 1, 1) := dk_27 (dk_at dksX16_best_0 0 rfl rfl)
theorem dX16_best_1 : decode cX16_best 1 = .ok (.ifCond .lt 8, 3) := dk_155 0 8 (dk_at dksX16_best_0 1 rfl rfl)
theorem dX16_best_4 : decode cX16_best 4 = .ok (.iload_n 1, 1) := dk_27 (dk_at dksX16_best_0 4 rfl rfl)
theorem dX16_best_5 : decode cX16_best 5 = .ok (.iconst 1, 1) := dk_4 (dk_at dksX16_best_0 5 rfl rfl)
theorem dX16_best_6 : decode cX16_best 6 = .ok (.if_icmp .le 13, 3) := dk_164 0 13 (dk_at dksX16_best_0 6 rfl rfl)
theorem dX16_best_9 : decode cX16_best 9 = .ok (.ldc 148, 2) := dk_18 148 (dk_at dksX16_best_0 9 rfl rfl)
theorem dX16_best_11 : decode cX16_best 11 = .ok (.aload_n 0, 1) := dk_42 (dk_at dksX16_best_0 11 rfl rfl)
theorem dX16_best_12 : decode cX16_best 12 = .ok (.bipush (-2), 2) := dk_16 254 (dk_at dksX16_best_0 12 rfl rfl)
theorem dX16_best_14 : decode cX16_best 14 = .ok (.invokevirtual 21, 3) := dk_182 0 21 (dk_at dksX16_best_0 14 rfl rfl)
theorem dX16_best_17 : decode cX16_best 17 = .ok (.isub, 1) := dk_100 (dk_at dksX16_best_0 17 rfl rfl)
theorem dX16_best_18 : decode cX16_best 18 = .ok (.ireturn, 1) := dk_172 (dk_at dksX16_best_0 18 rfl rfl)
theorem dX16_best_19 : decode cX16_best 19 = .ok (.aload_n 0, 1) := dk_42 (dk_at dksX16_best_0 19 rfl rfl)
theorem dX16_best_20 : decode cX16_best 20 = .ok (.invokevirtual 192, 3) := dk_182 0 192 (dk_at dksX16_best_0 20 rfl rfl)
theorem dX16_best_23 : decode cX16_best 23 = .ok (.iload_n 1, 1) := dk_27 (dk_at dksX16_best_0 23 rfl rfl)
theorem dX16_best_24 : decode cX16_best 24 = .ok (.ifCond .ne 10, 3) := dk_154 0 10 (dk_at dksX16_best_1 0 rfl rfl)
theorem dX16_best_27 : decode cX16_best 27 = .ok (.aload_n 0, 1) := dk_42 (dk_at dksX16_best_1 3 rfl rfl)
theorem dX16_best_28 : decode cX16_best 28 = .ok (.getfield 173, 3) := dk_180 0 173 (dk_at dksX16_best_1 4 rfl rfl)
theorem dX16_best_31 : decode cX16_best 31 = .ok (.goto 7, 3) := dk_167 0 7 (dk_at dksX16_best_1 7 rfl rfl)
theorem dX16_best_34 : decode cX16_best 34 = .ok (.aload_n 0, 1) := dk_42 (dk_at dksX16_best_1 10 rfl rfl)
theorem dX16_best_35 : decode cX16_best 35 = .ok (.getfield 176, 3) := dk_180 0 176 (dk_at dksX16_best_1 11 rfl rfl)
theorem dX16_best_38 : decode cX16_best 38 = .ok (.ireturn, 1) := dk_172 (dk_at dksX16_best_1 14 rfl rfl)
abbrev cX16_off : ByteArray := prog_28_method_51_code
def yX16_off : MethodName := ⟨RX16, "off", "()I"⟩
def dkwX16_off_1 : List UInt8 := [100, 172]
abbrev dktX16_off_1 : List UInt8 := dkwX16_off_1 ++ []
def dkwX16_off_0 : List UInt8 := [42, 182, 0, 192, 42, 180, 0, 164, 154, 0, 8, 16, 247, 167, 0, 12, 42, 180, 0, 173, 42, 180, 0, 185]
abbrev dktX16_off_0 : List UInt8 := dkwX16_off_0 ++ dktX16_off_1
theorem dksX16_off_0 : cX16_off.data.toList.drop 0 = dktX16_off_0 := by decide +kernel
theorem dksX16_off_1 : cX16_off.data.toList.drop 24 = dktX16_off_1 := dk_seg dksX16_off_0 24 rfl rfl
theorem dX16_off_0 : decode cX16_off 0 = .ok (.aload_n 0, 1) := dk_42 (dk_at dksX16_off_0 0 rfl rfl)
theorem dX16_off_1 : decode cX16_off 1 = .ok (.invokevirtual 192, 3) := dk_182 0 192 (dk_at dksX16_off_0 1 rfl rfl)
theorem dX16_off_4 : decode cX16_off 4 = .ok (.aload_n 0, 1) := dk_42 (dk_at dksX16_off_0 4 rfl rfl)
theorem dX16_off_5 : decode cX16_off 5 = .ok (.getfield 164, 3) := dk_180 0 164 (dk_at dksX16_off_0 5 rfl rfl)
theorem dX16_off_8 : decode cX16_off 8 = .ok (.ifCond .ne 8, 3) := dk_154 0 8 (dk_at dksX16_off_0 8 rfl rfl)
theorem dX16_off_11 : decode cX16_off 11 = .ok (.bipush (-9), 2) := dk_16 247 (dk_at dksX16_off_0 11 rfl rfl)
theorem dX16_off_13 : decode cX16_off 13 = .ok (.goto 12, 3) := dk_167 0 12 (dk_at dksX16_off_0 13 rfl rfl)
theorem dX16_off_16 : decode cX16_off 16 = .ok (.aload_n 0, 1) := dk_42 (dk_at dksX16_off_0 16 rfl rfl)
theorem dX16_off_17 : decode cX16_off 17 = .ok (.getfield 173, 3) := dk_180 0 173 (dk_at dksX16_off_0 17 rfl rfl)
theorem dX16_off_20 : decode cX16_off 20 = .ok (.aload_n 0, 1) := dk_42 (dk_at dksX16_off_0 20 rfl rfl)
theorem dX16_off_21 : decode cX16_off 21 = .ok (.getfield 185, 3) := dk_180 0 185 (dk_at dksX16_off_0 21 rfl rfl)
theorem dX16_off_24 : decode cX16_off 24 = .ok (.isub, 1) := dk_100 (dk_at dksX16_off_1 0 rfl rfl)
theorem dX16_off_25 : decode cX16_off 25 = .ok (.ireturn, 1) := dk_172 (dk_at dksX16_off_1 1 rfl rfl)
abbrev cX16_pennies : ByteArray := prog_28_method_52_code
def yX16_pennies : MethodName := ⟨RX16, "pennies", "()I"⟩
def dkwX16_pennies_3 : List UInt8 := [180, 0, 11, 8, 27, 79, 28, 172]
abbrev dktX16_pennies_3 : List UInt8 := dkwX16_pennies_3 ++ []
def dkwX16_pennies_2 : List UInt8 := [42, 180, 0, 185, 29, 164, 0, 11, 21, 4, 61, 42, 180, 0, 185, 62, 132, 4, 1, 167, 255, 205, 42]
abbrev dktX16_pennies_2 : List UInt8 := dkwX16_pennies_2 ++ dktX16_pennies_3
def dkwX16_pennies_1 : List UInt8 := [180, 0, 11, 8, 21, 4, 79, 42, 182, 0, 192, 42, 180, 0, 164, 158, 0, 25, 28, 16, 247, 159, 0, 11]
abbrev dktX16_pennies_1 : List UInt8 := dkwX16_pennies_1 ++ dktX16_pennies_2
def dkwX16_pennies_0 : List UInt8 := [42, 180, 0, 11, 8, 46, 60, 16, 247, 61, 3, 62, 3, 54, 4, 21, 4, 16, 10, 162, 0, 50, 42]
abbrev dktX16_pennies_0 : List UInt8 := dkwX16_pennies_0 ++ dktX16_pennies_1
theorem dksX16_pennies_0 : cX16_pennies.data.toList.drop 0 = dktX16_pennies_0 := by decide +kernel
theorem dksX16_pennies_1 : cX16_pennies.data.toList.drop 23 = dktX16_pennies_1 := dk_seg dksX16_pennies_0 23 rfl rfl
theorem dksX16_pennies_2 : cX16_pennies.data.toList.drop 47 = dktX16_pennies_2 := dk_seg dksX16_pennies_1 24 rfl rfl
theorem dksX16_pennies_3 : cX16_pennies.data.toList.drop 70 = dktX16_pennies_3 := dk_seg dksX16_pennies_2 23 rfl rfl
theorem dX16_pennies_0 : decode cX16_pennies 0 = .ok (.aload_n 0, 1) := dk_42 (dk_at dksX16_pennies_0 0 rfl rfl)
theorem dX16_pennies_1 : decode cX16_pennies 1 = .ok (.getfield 11, 3) := dk_180 0 11 (dk_at dksX16_pennies_0 1 rfl rfl)
theorem dX16_pennies_4 : decode cX16_pennies 4 = .ok (.iconst 5, 1) := dk_8 (dk_at dksX16_pennies_0 4 rfl rfl)
theorem dX16_pennies_5 : decode cX16_pennies 5 = .ok (.iaload, 1) := dk_46 (dk_at dksX16_pennies_0 5 rfl rfl)
theorem dX16_pennies_6 : decode cX16_pennies 6 = .ok (.istore_n 1, 1) := dk_60 (dk_at dksX16_pennies_0 6 rfl rfl)
theorem dX16_pennies_7 : decode cX16_pennies 7 = .ok (.bipush (-9), 2) := dk_16 247 (dk_at dksX16_pennies_0 7 rfl rfl)
theorem dX16_pennies_9 : decode cX16_pennies 9 = .ok (.istore_n 2, 1) := dk_61 (dk_at dksX16_pennies_0 9 rfl rfl)
theorem dX16_pennies_10 : decode cX16_pennies 10 = .ok (.iconst 0, 1) := dk_3 (dk_at dksX16_pennies_0 10 rfl rfl)
theorem dX16_pennies_11 : decode cX16_pennies 11 = .ok (.istore_n 3, 1) := dk_62 (dk_at dksX16_pennies_0 11 rfl rfl)
theorem dX16_pennies_12 : decode cX16_pennies 12 = .ok (.iconst 0, 1) := dk_3 (dk_at dksX16_pennies_0 12 rfl rfl)
theorem dX16_pennies_13 : decode cX16_pennies 13 = .ok (.istore 4, 2) := dk_54 4 (dk_at dksX16_pennies_0 13 rfl rfl)
theorem dX16_pennies_15 : decode cX16_pennies 15 = .ok (.iload 4, 2) := dk_21 4 (dk_at dksX16_pennies_0 15 rfl rfl)
theorem dX16_pennies_17 : decode cX16_pennies 17 = .ok (.bipush 10, 2) := dk_16 10 (dk_at dksX16_pennies_0 17 rfl rfl)
theorem dX16_pennies_19 : decode cX16_pennies 19 = .ok (.if_icmp .ge 50, 3) := dk_162 0 50 (dk_at dksX16_pennies_0 19 rfl rfl)
theorem dX16_pennies_22 : decode cX16_pennies 22 = .ok (.aload_n 0, 1) := dk_42 (dk_at dksX16_pennies_0 22 rfl rfl)
theorem dX16_pennies_23 : decode cX16_pennies 23 = .ok (.getfield 11, 3) := dk_180 0 11 (dk_at dksX16_pennies_1 0 rfl rfl)
theorem dX16_pennies_26 : decode cX16_pennies 26 = .ok (.iconst 5, 1) := dk_8 (dk_at dksX16_pennies_1 3 rfl rfl)
theorem dX16_pennies_27 : decode cX16_pennies 27 = .ok (.iload 4, 2) := dk_21 4 (dk_at dksX16_pennies_1 4 rfl rfl)
theorem dX16_pennies_29 : decode cX16_pennies 29 = .ok (.iastore, 1) := dk_79 (dk_at dksX16_pennies_1 6 rfl rfl)
theorem dX16_pennies_30 : decode cX16_pennies 30 = .ok (.aload_n 0, 1) := dk_42 (dk_at dksX16_pennies_1 7 rfl rfl)
theorem dX16_pennies_31 : decode cX16_pennies 31 = .ok (.invokevirtual 192, 3) := dk_182 0 192 (dk_at dksX16_pennies_1 8 rfl rfl)
theorem dX16_pennies_34 : decode cX16_pennies 34 = .ok (.aload_n 0, 1) := dk_42 (dk_at dksX16_pennies_1 11 rfl rfl)
theorem dX16_pennies_35 : decode cX16_pennies 35 = .ok (.getfield 164, 3) := dk_180 0 164 (dk_at dksX16_pennies_1 12 rfl rfl)
theorem dX16_pennies_38 : decode cX16_pennies 38 = .ok (.ifCond .le 25, 3) := dk_158 0 25 (dk_at dksX16_pennies_1 15 rfl rfl)
theorem dX16_pennies_41 : decode cX16_pennies 41 = .ok (.iload_n 2, 1) := dk_28 (dk_at dksX16_pennies_1 18 rfl rfl)
theorem dX16_pennies_42 : decode cX16_pennies 42 = .ok (.bipush (-9), 2) := dk_16 247 (dk_at dksX16_pennies_1 19 rfl rfl)
theorem dX16_pennies_44 : decode cX16_pennies 44 = .ok (.if_icmp .eq 11, 3) := dk_159 0 11 (dk_at dksX16_pennies_1 21 rfl rfl)
theorem dX16_pennies_47 : decode cX16_pennies 47 = .ok (.aload_n 0, 1) := dk_42 (dk_at dksX16_pennies_2 0 rfl rfl)
theorem dX16_pennies_48 : decode cX16_pennies 48 = .ok (.getfield 185, 3) := dk_180 0 185 (dk_at dksX16_pennies_2 1 rfl rfl)
theorem dX16_pennies_51 : decode cX16_pennies 51 = .ok (.iload_n 3, 1) := dk_29 (dk_at dksX16_pennies_2 4 rfl rfl)
theorem dX16_pennies_52 : decode cX16_pennies 52 = .ok (.if_icmp .le 11, 3) := dk_164 0 11 (dk_at dksX16_pennies_2 5 rfl rfl)
theorem dX16_pennies_55 : decode cX16_pennies 55 = .ok (.iload 4, 2) := dk_21 4 (dk_at dksX16_pennies_2 8 rfl rfl)
theorem dX16_pennies_57 : decode cX16_pennies 57 = .ok (.istore_n 2, 1) := dk_61 (dk_at dksX16_pennies_2 10 rfl rfl)
theorem dX16_pennies_58 : decode cX16_pennies 58 = .ok (.aload_n 0, 1) := dk_42 (dk_at dksX16_pennies_2 11 rfl rfl)
theorem dX16_pennies_59 : decode cX16_pennies 59 = .ok (.getfield 185, 3) := dk_180 0 185 (dk_at dksX16_pennies_2 12 rfl rfl)
theorem dX16_pennies_62 : decode cX16_pennies 62 = .ok (.istore_n 3, 1) := dk_62 (dk_at dksX16_pennies_2 15 rfl rfl)
theorem dX16_pennies_63 : decode cX16_pennies 63 = .ok (.iinc 4 1, 3) := dk_132 4 1 (dk_at dksX16_pennies_2 16 rfl rfl)
theorem dX16_pennies_66 : decode cX16_pennies 66 = .ok (.goto (-51), 3) := dk_167 255 205 (dk_at dksX16_pennies_2 19 rfl rfl)
theorem dX16_pennies_69 : decode cX16_pennies 69 = .ok (.aload_n 0, 1) := dk_42 (dk_at dksX16_pennies_2 22 rfl rfl)
theorem dX16_pennies_70 : decode cX16_pennies 70 = .ok (.getfield 11, 3) := dk_180 0 11 (dk_at dksX16_pennies_3 0 rfl rfl)
theorem dX16_pennies_73 : decode cX16_pennies 73 = .ok (.iconst 5, 1) := dk_8 (dk_at dksX16_pennies_3 3 rfl rfl)
theorem dX16_pennies_74 : decode cX16_pennies 74 = .ok (.iload_n 1, 1) := dk_27 (dk_at dksX16_pennies_3 4 rfl rfl)
theorem dX16_pennies_75 : decode cX16_pennies 75 = .ok (.iastore, 1) := dk_79 (dk_at dksX16_pennies_3 5 rfl rfl)
theorem dX16_pennies_76 : decode cX16_pennies 76 = .ok (.iload_n 2, 1) := dk_28 (dk_at dksX16_pennies_3 6 rfl rfl)
theorem dX16_pennies_77 : decode cX16_pennies 77 = .ok (.ireturn, 1) := dk_172 (dk_at dksX16_pennies_3 7 rfl rfl)
abbrev cX16_chairs : ByteArray := prog_28_method_53_code
def yX16_chairs : MethodName := ⟨RX16, "chairs", "()I"⟩
def dkwX16_chairs_3 : List UInt8 := [180, 0, 11, 5, 27, 79, 28, 172]
abbrev dktX16_chairs_3 : List UInt8 := dkwX16_chairs_3 ++ []
def dkwX16_chairs_2 : List UInt8 := [42, 180, 0, 182, 29, 164, 0, 11, 21, 4, 61, 42, 180, 0, 182, 62, 132, 4, 1, 167, 255, 205, 42]
abbrev dktX16_chairs_2 : List UInt8 := dkwX16_chairs_2 ++ dktX16_chairs_3
def dkwX16_chairs_1 : List UInt8 := [180, 0, 11, 5, 21, 4, 79, 42, 182, 0, 192, 42, 180, 0, 164, 158, 0, 25, 28, 16, 247, 159, 0, 11]
abbrev dktX16_chairs_1 : List UInt8 := dkwX16_chairs_1 ++ dktX16_chairs_2
def dkwX16_chairs_0 : List UInt8 := [42, 180, 0, 11, 5, 46, 60, 16, 247, 61, 3, 62, 3, 54, 4, 21, 4, 16, 60, 163, 0, 50, 42]
abbrev dktX16_chairs_0 : List UInt8 := dkwX16_chairs_0 ++ dktX16_chairs_1
theorem dksX16_chairs_0 : cX16_chairs.data.toList.drop 0 = dktX16_chairs_0 := by decide +kernel
theorem dksX16_chairs_1 : cX16_chairs.data.toList.drop 23 = dktX16_chairs_1 := dk_seg dksX16_chairs_0 23 rfl rfl
theorem dksX16_chairs_2 : cX16_chairs.data.toList.drop 47 = dktX16_chairs_2 := dk_seg dksX16_chairs_1 24 rfl rfl
theorem dksX16_chairs_3 : cX16_chairs.data.toList.drop 70 = dktX16_chairs_3 := dk_seg dksX16_chairs_2 23 rfl rfl
theorem dX16_chairs_0 : decode cX16_chairs 0 = .ok (.aload_n 0, 1) := dk_42 (dk_at dksX16_chairs_0 0 rfl rfl)
theorem dX16_chairs_1 : decode cX16_chairs 1 = .ok (.getfield 11, 3) := dk_180 0 11 (dk_at dksX16_chairs_0 1 rfl rfl)
theorem dX16_chairs_4 : decode cX16_chairs 4 = .ok (.iconst 2, 1) := dk_5 (dk_at dksX16_chairs_0 4 rfl rfl)
theorem dX16_chairs_5 : decode cX16_chairs 5 = .ok (.iaload, 1) := dk_46 (dk_at dksX16_chairs_0 5 rfl rfl)
theorem dX16_chairs_6 : decode cX16_chairs 6 = .ok (.istore_n 1, 1) := dk_60 (dk_at dksX16_chairs_0 6 rfl rfl)
theorem dX16_chairs_7 : decode cX16_chairs 7 = .ok (.bipush (-9), 2) := dk_16 247 (dk_at dksX16_chairs_0 7 rfl rfl)
theorem dX16_chairs_9 : decode cX16_chairs 9 = .ok (.istore_n 2, 1) := dk_61 (dk_at dksX16_chairs_0 9 rfl rfl)
theorem dX16_chairs_10 : decode cX16_chairs 10 = .ok (.iconst 0, 1) := dk_3 (dk_at dksX16_chairs_0 10 rfl rfl)
theorem dX16_chairs_11 : decode cX16_chairs 11 = .ok (.istore_n 3, 1) := dk_62 (dk_at dksX16_chairs_0 11 rfl rfl)
theorem dX16_chairs_12 : decode cX16_chairs 12 = .ok (.iconst 0, 1) := dk_3 (dk_at dksX16_chairs_0 12 rfl rfl)
theorem dX16_chairs_13 : decode cX16_chairs 13 = .ok (.istore 4, 2) := dk_54 4 (dk_at dksX16_chairs_0 13 rfl rfl)
theorem dX16_chairs_15 : decode cX16_chairs 15 = .ok (.iload 4, 2) := dk_21 4 (dk_at dksX16_chairs_0 15 rfl rfl)
theorem dX16_chairs_17 : decode cX16_chairs 17 = .ok (.bipush 60, 2) := dk_16 60 (dk_at dksX16_chairs_0 17 rfl rfl)
theorem dX16_chairs_19 : decode cX16_chairs 19 = .ok (.if_icmp .gt 50, 3) := dk_163 0 50 (dk_at dksX16_chairs_0 19 rfl rfl)
theorem dX16_chairs_22 : decode cX16_chairs 22 = .ok (.aload_n 0, 1) := dk_42 (dk_at dksX16_chairs_0 22 rfl rfl)
theorem dX16_chairs_23 : decode cX16_chairs 23 = .ok (.getfield 11, 3) := dk_180 0 11 (dk_at dksX16_chairs_1 0 rfl rfl)
theorem dX16_chairs_26 : decode cX16_chairs 26 = .ok (.iconst 2, 1) := dk_5 (dk_at dksX16_chairs_1 3 rfl rfl)
theorem dX16_chairs_27 : decode cX16_chairs 27 = .ok (.iload 4, 2) := dk_21 4 (dk_at dksX16_chairs_1 4 rfl rfl)
theorem dX16_chairs_29 : decode cX16_chairs 29 = .ok (.iastore, 1) := dk_79 (dk_at dksX16_chairs_1 6 rfl rfl)
theorem dX16_chairs_30 : decode cX16_chairs 30 = .ok (.aload_n 0, 1) := dk_42 (dk_at dksX16_chairs_1 7 rfl rfl)
theorem dX16_chairs_31 : decode cX16_chairs 31 = .ok (.invokevirtual 192, 3) := dk_182 0 192 (dk_at dksX16_chairs_1 8 rfl rfl)
theorem dX16_chairs_34 : decode cX16_chairs 34 = .ok (.aload_n 0, 1) := dk_42 (dk_at dksX16_chairs_1 11 rfl rfl)
theorem dX16_chairs_35 : decode cX16_chairs 35 = .ok (.getfield 164, 3) := dk_180 0 164 (dk_at dksX16_chairs_1 12 rfl rfl)
theorem dX16_chairs_38 : decode cX16_chairs 38 = .ok (.ifCond .le 25, 3) := dk_158 0 25 (dk_at dksX16_chairs_1 15 rfl rfl)
theorem dX16_chairs_41 : decode cX16_chairs 41 = .ok (.iload_n 2, 1) := dk_28 (dk_at dksX16_chairs_1 18 rfl rfl)
theorem dX16_chairs_42 : decode cX16_chairs 42 = .ok (.bipush (-9), 2) := dk_16 247 (dk_at dksX16_chairs_1 19 rfl rfl)
theorem dX16_chairs_44 : decode cX16_chairs 44 = .ok (.if_icmp .eq 11, 3) := dk_159 0 11 (dk_at dksX16_chairs_1 21 rfl rfl)
theorem dX16_chairs_47 : decode cX16_chairs 47 = .ok (.aload_n 0, 1) := dk_42 (dk_at dksX16_chairs_2 0 rfl rfl)
theorem dX16_chairs_48 : decode cX16_chairs 48 = .ok (.getfield 182, 3) := dk_180 0 182 (dk_at dksX16_chairs_2 1 rfl rfl)
theorem dX16_chairs_51 : decode cX16_chairs 51 = .ok (.iload_n 3, 1) := dk_29 (dk_at dksX16_chairs_2 4 rfl rfl)
theorem dX16_chairs_52 : decode cX16_chairs 52 = .ok (.if_icmp .le 11, 3) := dk_164 0 11 (dk_at dksX16_chairs_2 5 rfl rfl)
theorem dX16_chairs_55 : decode cX16_chairs 55 = .ok (.iload 4, 2) := dk_21 4 (dk_at dksX16_chairs_2 8 rfl rfl)
theorem dX16_chairs_57 : decode cX16_chairs 57 = .ok (.istore_n 2, 1) := dk_61 (dk_at dksX16_chairs_2 10 rfl rfl)
theorem dX16_chairs_58 : decode cX16_chairs 58 = .ok (.aload_n 0, 1) := dk_42 (dk_at dksX16_chairs_2 11 rfl rfl)
theorem dX16_chairs_59 : decode cX16_chairs 59 = .ok (.getfield 182, 3) := dk_180 0 182 (dk_at dksX16_chairs_2 12 rfl rfl)
theorem dX16_chairs_62 : decode cX16_chairs 62 = .ok (.istore_n 3, 1) := dk_62 (dk_at dksX16_chairs_2 15 rfl rfl)
theorem dX16_chairs_63 : decode cX16_chairs 63 = .ok (.iinc 4 1, 3) := dk_132 4 1 (dk_at dksX16_chairs_2 16 rfl rfl)
theorem dX16_chairs_66 : decode cX16_chairs 66 = .ok (.goto (-51), 3) := dk_167 255 205 (dk_at dksX16_chairs_2 19 rfl rfl)
theorem dX16_chairs_69 : decode cX16_chairs 69 = .ok (.aload_n 0, 1) := dk_42 (dk_at dksX16_chairs_2 22 rfl rfl)
theorem dX16_chairs_70 : decode cX16_chairs 70 = .ok (.getfield 11, 3) := dk_180 0 11 (dk_at dksX16_chairs_3 0 rfl rfl)
theorem dX16_chairs_73 : decode cX16_chairs 73 = .ok (.iconst 2, 1) := dk_5 (dk_at dksX16_chairs_3 3 rfl rfl)
theorem dX16_chairs_74 : decode cX16_chairs 74 = .ok (.iload_n 1, 1) := dk_27 (dk_at dksX16_chairs_3 4 rfl rfl)
theorem dX16_chairs_75 : decode cX16_chairs 75 = .ok (.iastore, 1) := dk_79 (dk_at dksX16_chairs_3 5 rfl rfl)
theorem dX16_chairs_76 : decode cX16_chairs 76 = .ok (.iload_n 2, 1) := dk_28 (dk_at dksX16_chairs_3 6 rfl rfl)
theorem dX16_chairs_77 : decode cX16_chairs 77 = .ok (.ireturn, 1) := dk_172 (dk_at dksX16_chairs_3 7 rfl rfl)
abbrev cX16_sees : ByteArray := prog_28_method_54_code
def yX16_sees : MethodName := ⟨RX16, "sees", "(IIII)I"⟩
def dkwX16_sees_8 : List UInt8 := [180, 0, 11, 184, 0, 17, 21, 6, 172]
abbrev dktX16_sees_8 : List UInt8 := dkwX16_sees_8 ++ []
def dkwX16_sees_7 : List UInt8 := [4, 96, 79, 42, 27, 42, 180, 0, 11, 3, 46, 4, 100, 182, 0, 158, 54, 6, 42, 180, 0, 63, 42]
abbrev dktX16_sees_7 : List UInt8 := dkwX16_sees_7 ++ dktX16_sees_8
def dkwX16_sees_6 : List UInt8 := [21, 5, 7, 96, 29, 79, 42, 180, 0, 11, 21, 5, 8, 96, 21, 4, 79, 42, 180, 0, 11, 3, 92, 46]
abbrev dktX16_sees_6 : List UInt8 := dkwX16_sees_6 ++ dktX16_sees_7
def dkwX16_sees_5 : List UInt8 := [42, 180, 0, 11, 21, 5, 5, 96, 3, 79, 42, 180, 0, 11, 21, 5, 6, 96, 28, 79, 42, 180, 0, 11]
abbrev dktX16_sees_5 : List UInt8 := dkwX16_sees_5 ++ dktX16_sees_6
def dkwX16_sees_4 : List UInt8 := [3, 46, 104, 96, 54, 5, 42, 180, 0, 11, 21, 5, 4, 79, 42, 180, 0, 11, 21, 5, 4, 96, 8, 79]
abbrev dktX16_sees_4 : List UInt8 := dkwX16_sees_4 ++ dktX16_sees_5
def dkwX16_sees_3 : List UInt8 := [182, 0, 21, 100, 172, 42, 180, 0, 11, 42, 180, 0, 63, 184, 0, 17, 16, 10, 16, 6, 42, 180, 0, 11]
abbrev dktX16_sees_3 : List UInt8 := dkwX16_sees_3 ++ dktX16_sees_4
def dkwX16_sees_2 : List UInt8 := [21, 4, 16, 9, 163, 0, 13, 42, 180, 0, 11, 3, 46, 7, 160, 0, 13, 18, 148, 42, 16, 250]
abbrev dktX16_sees_2 : List UInt8 := dkwX16_sees_2 ++ dktX16_sees_3
def dkwX16_sees_1 : List UInt8 := [182, 0, 21, 100, 172, 27, 16, 60, 163, 0, 32, 28, 16, 9, 163, 0, 26, 29, 16, 9, 163, 0, 20]
abbrev dktX16_sees_1 : List UInt8 := dkwX16_sees_1 ++ dktX16_sees_2
def dkwX16_sees_0 : List UInt8 := [27, 4, 161, 0, 16, 28, 155, 0, 12, 29, 155, 0, 8, 21, 4, 156, 0, 13, 18, 148, 42, 16, 252]
abbrev dktX16_sees_0 : List UInt8 := dkwX16_sees_0 ++ dktX16_sees_1
theorem dksX16_sees_0 : cX16_sees.data.toList.drop 0 = dktX16_sees_0 := by decide +kernel
theorem dksX16_sees_1 : cX16_sees.data.toList.drop 23 = dktX16_sees_1 := dk_seg dksX16_sees_0 23 rfl rfl
theorem dksX16_sees_2 : cX16_sees.data.toList.drop 46 = dktX16_sees_2 := dk_seg dksX16_sees_1 23 rfl rfl
theorem dksX16_sees_3 : cX16_sees.data.toList.drop 68 = dktX16_sees_3 := dk_seg dksX16_sees_2 22 rfl rfl
theorem dksX16_sees_4 : cX16_sees.data.toList.drop 92 = dktX16_sees_4 := dk_seg dksX16_sees_3 24 rfl rfl
theorem dksX16_sees_5 : cX16_sees.data.toList.drop 116 = dktX16_sees_5 := dk_seg dksX16_sees_4 24 rfl rfl
theorem dksX16_sees_6 : cX16_sees.data.toList.drop 140 = dktX16_sees_6 := dk_seg dksX16_sees_5 24 rfl rfl
theorem dksX16_sees_7 : cX16_sees.data.toList.drop 164 = dktX16_sees_7 := dk_seg dksX16_sees_6 24 rfl rfl
theorem dksX16_sees_8 : cX16_sees.data.toList.drop 187 = dktX16_sees_8 := dk_seg dksX16_sees_7 23 rfl rfl
theorem dX16_sees_0 : decode cX16_sees 0 = .ok (.iload_n 1, 1) := dk_27 (dk_at dksX16_sees_0 0 rfl rfl)
theorem dX16_sees_1 : decode cX16_sees 1 = .ok (.iconst 1, 1) := dk_4 (dk_at dksX16_sees_0 1 rfl rfl)
theorem dX16_sees_2 : decode cX16_sees 2 = .ok (.if_icmp .lt 16, 3) := dk_161 0 16 (dk_at dksX16_sees_0 2 rfl rfl)
theorem dX16_sees_5 : decode cX16_sees 5 = .ok (.iload_n 2, 1) := dk_28 (dk_at dksX16_sees_0 5 rfl rfl)
theorem dX16_sees_6 : decode cX16_sees 6 = .ok (.ifCond .lt 12, 3) := dk_155 0 12 (dk_at dksX16_sees_0 6 rfl rfl)
theorem dX16_sees_9 : decode cX16_sees 9 = .ok (.iload_n 3, 1) := dk_29 (dk_at dksX16_sees_0 9 rfl rfl)
theorem dX16_sees_10 : decode cX16_sees 10 = .ok (.ifCond .lt 8, 3) := dk_155 0 8 (dk_at dksX16_sees_0 10 rfl rfl)
theorem dX16_sees_13 : decode cX16_sees 13 = .ok (.iload 4, 2) := dk_21 4 (dk_at dksX16_sees_0 13 rfl rfl)
theorem dX16_sees_15 : decode cX16_sees 15 = .ok (.ifCond .ge 13, 3) := dk_156 0 13 (dk_at dksX16_sees_0 15 rfl rfl)
theorem dX16_sees_18 : decode cX16_sees 18 = .ok (.ldc 148, 2) := dk_18 148 (dk_at dksX16_sees_0 18 rfl rfl)
theorem dX16_sees_20 : decode cX16_sees 20 = .ok (.aload_n 0, 1) := dk_42 (dk_at dksX16_sees_0 20 rfl rfl)
theorem dX16_sees_21 : decode cX16_sees 21 = .ok (.bipush (-4), 2) := dk_16 252 (dk_at dksX16_sees_0 21 rfl rfl)
theorem dX16_sees_23 : decode cX16_sees 23 = .ok (.invokevirtual 21, 3) := dk_182 0 21 (dk_at dksX16_sees_1 0 rfl rfl)
theorem dX16_sees_26 : decode cX16_sees 26 = .ok (.isub, 1) := dk_100 (dk_at dksX16_sees_1 3 rfl rfl)
theorem dX16_sees_27 : decode cX16_sees 27 = .ok (.ireturn, 1) := dk_172 (dk_at dksX16_sees_1 4 rfl rfl)
theorem dX16_sees_28 : decode cX16_sees 28 = .ok (.iload_n 1, 1) := dk_27 (dk_at dksX16_sees_1 5 rfl rfl)
theorem dX16_sees_29 : decode cX16_sees 29 = .ok (.bipush 60, 2) := dk_16 60 (dk_at dksX16_sees_1 6 rfl rfl)
theorem dX16_sees_31 : decode cX16_sees 31 = .ok (.if_icmp .gt 32, 3) := dk_163 0 32 (dk_at dksX16_sees_1 8 rfl rfl)
theorem dX16_sees_34 : decode cX16_sees 34 = .ok (.iload_n 2, 1) := dk_28 (dk_at dksX16_sees_1 11 rfl rfl)
theorem dX16_sees_35 : decode cX16_sees 35 = .ok (.bipush 9, 2) := dk_16 9 (dk_at dksX16_sees_1 12 rfl rfl)
theorem dX16_sees_37 : decode cX16_sees 37 = .ok (.if_icmp .gt 26, 3) := dk_163 0 26 (dk_at dksX16_sees_1 14 rfl rfl)
theorem dX16_sees_40 : decode cX16_sees 40 = .ok (.iload_n 3, 1) := dk_29 (dk_at dksX16_sees_1 17 rfl rfl)
theorem dX16_sees_41 : decode cX16_sees 41 = .ok (.bipush 9, 2) := dk_16 9 (dk_at dksX16_sees_1 18 rfl rfl)
theorem dX16_sees_43 : decode cX16_sees 43 = .ok (.if_icmp .gt 20, 3) := dk_163 0 20 (dk_at dksX16_sees_1 20 rfl rfl)
theorem dX16_sees_46 : decode cX16_sees 46 = .ok (.iload 4, 2) := dk_21 4 (dk_at dksX16_sees_2 0 rfl rfl)
theorem dX16_sees_48 : decode cX16_sees 48 = .ok (.bipush 9, 2) := dk_16 9 (dk_at dksX16_sees_2 2 rfl rfl)
theorem dX16_sees_50 : decode cX16_sees 50 = .ok (.if_icmp .gt 13, 3) := dk_163 0 13 (dk_at dksX16_sees_2 4 rfl rfl)
theorem dX16_sees_53 : decode cX16_sees 53 = .ok (.aload_n 0, 1) := dk_42 (dk_at dksX16_sees_2 7 rfl rfl)
theorem dX16_sees_54 : decode cX16_sees 54 = .ok (.getfield 11, 3) := dk_180 0 11 (dk_at dksX16_sees_2 8 rfl rfl)
theorem dX16_sees_57 : decode cX16_sees 57 = .ok (.iconst 0, 1) := dk_3 (dk_at dksX16_sees_2 11 rfl rfl)
theorem dX16_sees_58 : decode cX16_sees 58 = .ok (.iaload, 1) := dk_46 (dk_at dksX16_sees_2 12 rfl rfl)
theorem dX16_sees_59 : decode cX16_sees 59 = .ok (.iconst 4, 1) := dk_7 (dk_at dksX16_sees_2 13 rfl rfl)
theorem dX16_sees_60 : decode cX16_sees 60 = .ok (.if_icmp .ne 13, 3) := dk_160 0 13 (dk_at dksX16_sees_2 14 rfl rfl)
theorem dX16_sees_63 : decode cX16_sees 63 = .ok (.ldc 148, 2) := dk_18 148 (dk_at dksX16_sees_2 17 rfl rfl)
theorem dX16_sees_65 : decode cX16_sees 65 = .ok (.aload_n 0, 1) := dk_42 (dk_at dksX16_sees_2 19 rfl rfl)
theorem dX16_sees_66 : decode cX16_sees 66 = .ok (.bipush (-6), 2) := dk_16 250 (dk_at dksX16_sees_2 20 rfl rfl)
theorem dX16_sees_68 : decode cX16_sees 68 = .ok (.invokevirtual 21, 3) := dk_182 0 21 (dk_at dksX16_sees_3 0 rfl rfl)
theorem dX16_sees_71 : decode cX16_sees 71 = .ok (.isub, 1) := dk_100 (dk_at dksX16_sees_3 3 rfl rfl)
theorem dX16_sees_72 : decode cX16_sees 72 = .ok (.ireturn, 1) := dk_172 (dk_at dksX16_sees_3 4 rfl rfl)
theorem dX16_sees_73 : decode cX16_sees 73 = .ok (.aload_n 0, 1) := dk_42 (dk_at dksX16_sees_3 5 rfl rfl)
theorem dX16_sees_74 : decode cX16_sees 74 = .ok (.getfield 11, 3) := dk_180 0 11 (dk_at dksX16_sees_3 6 rfl rfl)
theorem dX16_sees_77 : decode cX16_sees 77 = .ok (.aload_n 0, 1) := dk_42 (dk_at dksX16_sees_3 9 rfl rfl)
theorem dX16_sees_78 : decode cX16_sees 78 = .ok (.getfield 63, 3) := dk_180 0 63 (dk_at dksX16_sees_3 10 rfl rfl)
theorem dX16_sees_81 : decode cX16_sees 81 = .ok (.invokestatic 17, 3) := dk_184 0 17 (dk_at dksX16_sees_3 13 rfl rfl)
theorem dX16_sees_84 : decode cX16_sees 84 = .ok (.bipush 10, 2) := dk_16 10 (dk_at dksX16_sees_3 16 rfl rfl)
theorem dX16_sees_86 : decode cX16_sees 86 = .ok (.bipush 6, 2) := dk_16 6 (dk_at dksX16_sees_3 18 rfl rfl)
theorem dX16_sees_88 : decode cX16_sees 88 = .ok (.aload_n 0, 1) := dk_42 (dk_at dksX16_sees_3 20 rfl rfl)
theorem dX16_sees_89 : decode cX16_sees 89 = .ok (.getfield 11, 3) := dk_180 0 11 (dk_at dksX16_sees_3 21 rfl rfl)
theorem dX16_sees_92 : decode cX16_sees 92 = .ok (.iconst 0, 1) := dk_3 (dk_at dksX16_sees_4 0 rfl rfl)
theorem dX16_sees_93 : decode cX16_sees 93 = .ok (.iaload, 1) := dk_46 (dk_at dksX16_sees_4 1 rfl rfl)
theorem dX16_sees_94 : decode cX16_sees 94 = .ok (.imul, 1) := dk_104 (dk_at dksX16_sees_4 2 rfl rfl)
theorem dX16_sees_95 : decode cX16_sees 95 = .ok (.iadd, 1) := dk_96 (dk_at dksX16_sees_4 3 rfl rfl)
theorem dX16_sees_96 : decode cX16_sees 96 = .ok (.istore 5, 2) := dk_54 5 (dk_at dksX16_sees_4 4 rfl rfl)
theorem dX16_sees_98 : decode cX16_sees 98 = .ok (.aload_n 0, 1) := dk_42 (dk_at dksX16_sees_4 6 rfl rfl)
theorem dX16_sees_99 : decode cX16_sees 99 = .ok (.getfield 11, 3) := dk_180 0 11 (dk_at dksX16_sees_4 7 rfl rfl)
theorem dX16_sees_102 : decode cX16_sees 102 = .ok (.iload 5, 2) := dk_21 5 (dk_at dksX16_sees_4 10 rfl rfl)
theorem dX16_sees_104 : decode cX16_sees 104 = .ok (.iconst 1, 1) := dk_4 (dk_at dksX16_sees_4 12 rfl rfl)
theorem dX16_sees_105 : decode cX16_sees 105 = .ok (.iastore, 1) := dk_79 (dk_at dksX16_sees_4 13 rfl rfl)
theorem dX16_sees_106 : decode cX16_sees 106 = .ok (.aload_n 0, 1) := dk_42 (dk_at dksX16_sees_4 14 rfl rfl)
theorem dX16_sees_107 : decode cX16_sees 107 = .ok (.getfield 11, 3) := dk_180 0 11 (dk_at dksX16_sees_4 15 rfl rfl)
theorem dX16_sees_110 : decode cX16_sees 110 = .ok (.iload 5, 2) := dk_21 5 (dk_at dksX16_sees_4 18 rfl rfl)
theorem dX16_sees_112 : decode cX16_sees 112 = .ok (.iconst 1, 1) := dk_4 (dk_at dksX16_sees_4 20 rfl rfl)
theorem dX16_sees_113 : decode cX16_sees 113 = .ok (.iadd, 1) := dk_96 (dk_at dksX16_sees_4 21 rfl rfl)
theorem dX16_sees_114 : decode cX16_sees 114 = .ok (.iconst 5, 1) := dk_8 (dk_at dksX16_sees_4 22 rfl rfl)
theorem dX16_sees_115 : decode cX16_sees 115 = .ok (.iastore, 1) := dk_79 (dk_at dksX16_sees_4 23 rfl rfl)
theorem dX16_sees_116 : decode cX16_sees 116 = .ok (.aload_n 0, 1) := dk_42 (dk_at dksX16_sees_5 0 rfl rfl)
theorem dX16_sees_117 : decode cX16_sees 117 = .ok (.getfield 11, 3) := dk_180 0 11 (dk_at dksX16_sees_5 1 rfl rfl)
theorem dX16_sees_120 : decode cX16_sees 120 = .ok (.iload 5, 2) := dk_21 5 (dk_at dksX16_sees_5 4 rfl rfl)
theorem dX16_sees_122 : decode cX16_sees 122 = .ok (.iconst 2, 1) := dk_5 (dk_at dksX16_sees_5 6 rfl rfl)
theorem dX16_sees_123 : decode cX16_sees 123 = .ok (.iadd, 1) := dk_96 (dk_at dksX16_sees_5 7 rfl rfl)
theorem dX16_sees_124 : decode cX16_sees 124 = .ok (.iconst 0, 1) := dk_3 (dk_at dksX16_sees_5 8 rfl rfl)
theorem dX16_sees_125 : decode cX16_sees 125 = .ok (.iastore, 1) := dk_79 (dk_at dksX16_sees_5 9 rfl rfl)
theorem dX16_sees_126 : decode cX16_sees 126 = .ok (.aload_n 0, 1) := dk_42 (dk_at dksX16_sees_5 10 rfl rfl)
theorem dX16_sees_127 : decode cX16_sees 127 = .ok (.getfield 11, 3) := dk_180 0 11 (dk_at dksX16_sees_5 11 rfl rfl)
theorem dX16_sees_130 : decode cX16_sees 130 = .ok (.iload 5, 2) := dk_21 5 (dk_at dksX16_sees_5 14 rfl rfl)
theorem dX16_sees_132 : decode cX16_sees 132 = .ok (.iconst 3, 1) := dk_6 (dk_at dksX16_sees_5 16 rfl rfl)
theorem dX16_sees_133 : decode cX16_sees 133 = .ok (.iadd, 1) := dk_96 (dk_at dksX16_sees_5 17 rfl rfl)
theorem dX16_sees_134 : decode cX16_sees 134 = .ok (.iload_n 2, 1) := dk_28 (dk_at dksX16_sees_5 18 rfl rfl)
theorem dX16_sees_135 : decode cX16_sees 135 = .ok (.iastore, 1) := dk_79 (dk_at dksX16_sees_5 19 rfl rfl)
theorem dX16_sees_136 : decode cX16_sees 136 = .ok (.aload_n 0, 1) := dk_42 (dk_at dksX16_sees_5 20 rfl rfl)
theorem dX16_sees_137 : decode cX16_sees 137 = .ok (.getfield 11, 3) := dk_180 0 11 (dk_at dksX16_sees_5 21 rfl rfl)
theorem dX16_sees_140 : decode cX16_sees 140 = .ok (.iload 5, 2) := dk_21 5 (dk_at dksX16_sees_6 0 rfl rfl)
theorem dX16_sees_142 : decode cX16_sees 142 = .ok (.iconst 4, 1) := dk_7 (dk_at dksX16_sees_6 2 rfl rfl)
theorem dX16_sees_143 : decode cX16_sees 143 = .ok (.iadd, 1) := dk_96 (dk_at dksX16_sees_6 3 rfl rfl)
theorem dX16_sees_144 : decode cX16_sees 144 = .ok (.iload_n 3, 1) := dk_29 (dk_at dksX16_sees_6 4 rfl rfl)
theorem dX16_sees_145 : decode cX16_sees 145 = .ok (.iastore, 1) := dk_79 (dk_at dksX16_sees_6 5 rfl rfl)
theorem dX16_sees_146 : decode cX16_sees 146 = .ok (.aload_n 0, 1) := dk_42 (dk_at dksX16_sees_6 6 rfl rfl)
theorem dX16_sees_147 : decode cX16_sees 147 = .ok (.getfield 11, 3) := dk_180 0 11 (dk_at dksX16_sees_6 7 rfl rfl)
theorem dX16_sees_150 : decode cX16_sees 150 = .ok (.iload 5, 2) := dk_21 5 (dk_at dksX16_sees_6 10 rfl rfl)
theorem dX16_sees_152 : decode cX16_sees 152 = .ok (.iconst 5, 1) := dk_8 (dk_at dksX16_sees_6 12 rfl rfl)
theorem dX16_sees_153 : decode cX16_sees 153 = .ok (.iadd, 1) := dk_96 (dk_at dksX16_sees_6 13 rfl rfl)
theorem dX16_sees_154 : decode cX16_sees 154 = .ok (.iload 4, 2) := dk_21 4 (dk_at dksX16_sees_6 14 rfl rfl)
theorem dX16_sees_156 : decode cX16_sees 156 = .ok (.iastore, 1) := dk_79 (dk_at dksX16_sees_6 16 rfl rfl)
theorem dX16_sees_157 : decode cX16_sees 157 = .ok (.aload_n 0, 1) := dk_42 (dk_at dksX16_sees_6 17 rfl rfl)
theorem dX16_sees_158 : decode cX16_sees 158 = .ok (.getfield 11, 3) := dk_180 0 11 (dk_at dksX16_sees_6 18 rfl rfl)
theorem dX16_sees_161 : decode cX16_sees 161 = .ok (.iconst 0, 1) := dk_3 (dk_at dksX16_sees_6 21 rfl rfl)
theorem dX16_sees_162 : decode cX16_sees 162 = .ok (.dup2, 1) := dk_92 (dk_at dksX16_sees_6 22 rfl rfl)
theorem dX16_sees_163 : decode cX16_sees 163 = .ok (.iaload, 1) := dk_46 (dk_at dksX16_sees_6 23 rfl rfl)
theorem dX16_sees_164 : decode cX16_sees 164 = .ok (.iconst 1, 1) := dk_4 (dk_at dksX16_sees_7 0 rfl rfl)
theorem dX16_sees_165 : decode cX16_sees 165 = .ok (.iadd, 1) := dk_96 (dk_at dksX16_sees_7 1 rfl rfl)
theorem dX16_sees_166 : decode cX16_sees 166 = .ok (.iastore, 1) := dk_79 (dk_at dksX16_sees_7 2 rfl rfl)
theorem dX16_sees_167 : decode cX16_sees 167 = .ok (.aload_n 0, 1) := dk_42 (dk_at dksX16_sees_7 3 rfl rfl)
theorem dX16_sees_168 : decode cX16_sees 168 = .ok (.iload_n 1, 1) := dk_27 (dk_at dksX16_sees_7 4 rfl rfl)
theorem dX16_sees_169 : decode cX16_sees 169 = .ok (.aload_n 0, 1) := dk_42 (dk_at dksX16_sees_7 5 rfl rfl)
theorem dX16_sees_170 : decode cX16_sees 170 = .ok (.getfield 11, 3) := dk_180 0 11 (dk_at dksX16_sees_7 6 rfl rfl)
theorem dX16_sees_173 : decode cX16_sees 173 = .ok (.iconst 0, 1) := dk_3 (dk_at dksX16_sees_7 9 rfl rfl)
theorem dX16_sees_174 : decode cX16_sees 174 = .ok (.iaload, 1) := dk_46 (dk_at dksX16_sees_7 10 rfl rfl)
theorem dX16_sees_175 : decode cX16_sees 175 = .ok (.iconst 1, 1) := dk_4 (dk_at dksX16_sees_7 11 rfl rfl)
theorem dX16_sees_176 : decode cX16_sees 176 = .ok (.isub, 1) := dk_100 (dk_at dksX16_sees_7 12 rfl rfl)
theorem dX16_sees_177 : decode cX16_sees 177 = .ok (.invokevirtual 158, 3) := dk_182 0 158 (dk_at dksX16_sees_7 13 rfl rfl)
theorem dX16_sees_180 : decode cX16_sees 180 = .ok (.istore 6, 2) := dk_54 6 (dk_at dksX16_sees_7 16 rfl rfl)
theorem dX16_sees_182 : decode cX16_sees 182 = .ok (.aload_n 0, 1) := dk_42 (dk_at dksX16_sees_7 18 rfl rfl)
theorem dX16_sees_183 : decode cX16_sees 183 = .ok (.getfield 63, 3) := dk_180 0 63 (dk_at dksX16_sees_7 19 rfl rfl)
theorem dX16_sees_186 : decode cX16_sees 186 = .ok (.aload_n 0, 1) := dk_42 (dk_at dksX16_sees_7 22 rfl rfl)
theorem dX16_sees_187 : decode cX16_sees 187 = .ok (.getfield 11, 3) := dk_180 0 11 (dk_at dksX16_sees_8 0 rfl rfl)
theorem dX16_sees_190 : decode cX16_sees 190 = .ok (.invokestatic 17, 3) := dk_184 0 17 (dk_at dksX16_sees_8 3 rfl rfl)
theorem dX16_sees_193 : decode cX16_sees 193 = .ok (.iload 6, 2) := dk_21 6 (dk_at dksX16_sees_8 6 rfl rfl)
theorem dX16_sees_195 : decode cX16_sees 195 = .ok (.ireturn, 1) := dk_172 (dk_at dksX16_sees_8 8 rfl rfl)
