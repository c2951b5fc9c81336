set_option maxRecDepth 100000
abbrev cX0_bestTold : ByteArray := prog_1_method_40_code
def yX0_bestTold : MethodName := ⟨RX0, "bestTold", "(I)I"⟩
def dkwX0_bestTold_1 : List UInt8 := [42, 180, 0, 206, 167, 0, 7, 42, 180, 0, 209, 172]
abbrev dktX0_bestTold_1 : List UInt8 := dkwX0_bestTold_1 ++ []
def dkwX0_bestTold_0 : List UInt8 := [27, 133, 9, 10, 184, 0, 13, 16, 254, 184, 0, 9, 42, 42, 180, 0, 73, 182, 0, 239, 27, 154, 0, 10]
abbrev dktX0_bestTold_0 : List UInt8 := dkwX0_bestTold_0 ++ dktX0_bestTold_1
theorem dksX0_bestTold_0 : cX0_bestTold.data.toList.drop 0 = dktX0_bestTold_0 := by decide +kernel
theorem dksX0_bestTold_1 : cX0_bestTold.data.toList.drop 24 = dktX0_bestTold_1 := dk_seg dksX0_bestTold_0 24 rfl rfl
theorem dX0_bestTold_0 : decode cX0_bestTold 0 = .ok (.iload_n 1, 1) := dk_27 (dk_at dksX0_bestTold_0 0 rfl rfl)
theorem dX0_bestTold_1 : decode cX0_bestTold 1 = .ok (.i2l, 1) := dk_133 (dk_at dksX0_bestTold_0 1 rfl rfl)
theorem dX0_bestTold_2 : decode cX0_bestTold 2 = .ok (.lconst 0, 1) := dk_9 (dk_at dksX0_bestTold_0 2 rfl rfl)
theorem dX0_bestTold_3 : decode cX0_bestTold 3 = .ok (.lconst 1, 1) := dk_10 (dk_at dksX0_bestTold_0 3 rfl rfl)
theorem dX0_bestTold_4 : decode cX0_bestTold 4 = .ok (.invokestatic 13, 3) := dk_184 0 13 (dk_at dksX0_bestTold_0 4 rfl rfl)
theorem dX0_bestTold_7 : decode cX0_bestTold 7 = .ok (.bipush (-2), 2) := dk_16 254 (dk_at dksX0_bestTold_0 7 rfl rfl)
theorem dX0_bestTold_9 : decode cX0_bestTold 9 = .ok (.invokestatic 9, 3) := dk_184 0 9 (dk_at dksX0_bestTold_0 9 rfl rfl)
theorem dX0_bestTold_12 : decode cX0_bestTold 12 = .ok (.aload_n 0, 1) := dk_42 (dk_at dksX0_bestTold_0 12 rfl rfl)
theorem dX0_bestTold_13 : decode cX0_bestTold 13 = .ok (.aload_n 0, 1) := dk_42 (dk_at dksX0_bestTold_0 13 rfl rfl)
theorem dX0_bestTold_14 : decode cX0_bestTold 14 = .ok (.getfield 73, 3) := dk_180 0 73 (dk_at dksX0_bestTold_0 14 rfl rfl)
theorem dX0_bestTold_17 : decode cX0_bestTold 17 = .ok (.invokevirtual 239, 3) := dk_182 0 239 (dk_at dksX0_bestTold_0 17 rfl rfl)
theorem dX0_bestTold_20 : decode cX0_bestTold 20 = .ok (.iload_n 1, 1) := dk_27 (dk_at dksX0_bestTold_0 20 rfl rfl)
theorem dX0_bestTold_21 : decode cX0_bestTold 21 = .ok (.ifCond .ne 10, 3) := dk_154 0 10 (dk_at dksX0_bestTold_0 21 rfl rfl)
theorem dX0_bestTold_24 : decode cX0_bestTold 24 = .ok (.aload_n 0, 1) := dk_42 (dk_at dksX0_bestTold_1 0 rfl rfl)
theorem dX0_bestTold_25 : decode cX0_bestTold 25 = .ok (.getfield 206, 3) := dk_180 0 206 (dk_at dksX0_bestTold_1 1 rfl rfl)
theorem dX0_bestTold_28 : decode cX0_bestTold 28 = .ok (.goto 7, 3) := dk_167 0 7 (dk_at dksX0_bestTold_1 4 rfl rfl)
theorem dX0_bestTold_31 : decode cX0_bestTold 31 = .ok (.aload_n 0, 1) := dk_42 (dk_at dksX0_bestTold_1 7 rfl rfl)
theorem dX0_bestTold_32 : decode cX0_bestTold 32 = .ok (.getfield 209, 3) := dk_180 0 209 (dk_at dksX0_bestTold_1 8 rfl rfl)
theorem dX0_bestTold_35 : decode cX0_bestTold 35 = .ok (.ireturn, 1) := dk_172 (dk_at dksX0_bestTold_1 11 rfl rfl)
abbrev cX0_bestPenny : ByteArray := prog_1_method_18_code
def yX0_bestPenny : MethodName := ⟨RX0, "bestPenny", "()I"⟩
def dkwX0_bestPenny_3 : List UInt8 := [60, 21, 5, 153, 0, 10, 42, 180, 0, 227, 167, 0, 4, 28, 61, 132, 3, 1, 167, 255, 176, 27, 172]
abbrev dktX0_bestPenny_3 : List UInt8 := dkwX0_bestPenny_3 ++ []
def dkwX0_bestPenny_2 : List UInt8 := [180, 0, 227, 28, 164, 0, 7, 4, 167, 0, 4, 3, 54, 5, 21, 5, 153, 0, 7, 29, 167, 0, 4, 27]
abbrev dktX0_bestPenny_2 : List UInt8 := dkwX0_bestPenny_2 ++ dktX0_bestPenny_3
def dkwX0_bestPenny_1 : List UInt8 := [181, 0, 236, 42, 25, 4, 182, 0, 239, 42, 180, 0, 196, 158, 0, 21, 27, 16, 247, 159, 0, 11, 42]
abbrev dktX0_bestPenny_1 : List UInt8 := dkwX0_bestPenny_1 ++ dktX0_bestPenny_2
def dkwX0_bestPenny_0 : List UInt8 := [16, 247, 60, 3, 61, 3, 62, 29, 16, 9, 163, 0, 80, 42, 182, 0, 142, 58, 4, 25, 4, 29]
abbrev dktX0_bestPenny_0 : List UInt8 := dkwX0_bestPenny_0 ++ dktX0_bestPenny_1
theorem dksX0_bestPenny_0 : cX0_bestPenny.data.toList.drop 0 = dktX0_bestPenny_0 := by decide +kernel
theorem dksX0_bestPenny_1 : cX0_bestPenny.data.toList.drop 22 = dktX0_bestPenny_1 := dk_seg dksX0_bestPenny_0 22 rfl rfl
theorem dksX0_bestPenny_2 : cX0_bestPenny.data.toList.drop 45 = dktX0_bestPenny_2 := dk_seg dksX0_bestPenny_1 23 rfl rfl
theorem dksX0_bestPenny_3 : cX0_bestPenny.data.toList.drop 69 = dktX0_bestPenny_3 := dk_seg dksX0_bestPenny_2 24 rfl rfl
theorem dX0_bestPenny_0 : decode cX0_bestPenny 0 = .ok (.bipush (-9), 2) := dk_16 247 (dk_at dksX0_bestPenny_0 0 rfl rfl)
theorem dX0_bestPenny_2 : decode cX0_bestPenny 2 = .ok (.istore_n 1, 1) := dk_60 (dk_at dksX0_bestPenny_0 2 rfl rfl)
theorem dX0_bestPenny_3 : decode cX0_bestPenny 3 = .ok (.iconst 0, 1) := dk_3 (dk_at dksX0_bestPenny_0 3 rfl rfl)
theorem dX0_bestPenny_4 : decode cX0_bestPenny 4 = .ok (.istore_n 2, 1) := dk_61 (dk_at dksX0_bestPenny_0 4 rfl rfl)
theorem dX0_bestPenny_5 : decode cX0_bestPenny 5 = .ok (.iconst 0, 1) := dk_3 (dk_at dksX0_bestPenny_0 5 rfl rfl)
theorem dX0_bestPenny_6 : decode cX0_bestPenny 6 = .ok (.istore_n 3, 1) := dk_62 (dk_at dksX0_bestPenny_0 6 rfl rfl)
theorem dX0_bestPenny_7 : decode cX0_bestPenny 7 = .ok (.iload_n 3, 1) := dk_29 (dk_at dksX0_bestPenny_0 7 rfl rfl)
theorem dX0_bestPenny_8 : decode cX0_bestPenny 8 = .ok (.bipush 9, 2) := dk_16 9 (dk_at dksX0_bestPenny_0 8 rfl rfl)
theorem dX0_bestPenny_10 : decode cX0_bestPenny 10 = .ok (.if_icmp .gt 80, 3) := dk_163 0 80 (dk_at dksX0_bestPenny_0 10 rfl rfl)
theorem dX0_bestPenny_13 : decode cX0_bestPenny 13 = .ok (.aload_n 0, 1) := dk_42 (dk_at dksX0_bestPenny_0 13 rfl rfl)
theorem dX0_bestPenny_14 : decode cX0_bestPenny 14 = .ok (.invokevirtual 142, 3) := dk_182 0 142 (dk_at dksX0_bestPenny_0 14 rfl rfl)
theorem dX0_bestPenny_17 : decode cX0_bestPenny 17 = .ok (.astore 4, 2) := dk_58 4 (dk_at dksX0_bestPenny_0 17 rfl rfl)
theorem dX0_bestPenny_19 : decode cX0_bestPenny 19 = .ok (.aload 4, 2) := dk_25 4 (dk_at dksX0_bestPenny_0 19 rfl rfl)
theorem dX0_bestPenny_21 : decode cX0_bestPenny 21 = .ok (.iload_n 3, 1) := dk_29 (dk_at dksX0_bestPenny_0 21 rfl rfl)
theorem dX0_bestPenny_22 : decode cX0_bestPenny 22 = .ok (.putfield 236, 3) := dk_181 0 236 (dk_at dksX0_bestPenny_1 0 rfl rfl)
theorem dX0_bestPenny_25 : decode cX0_bestPenny 25 = .ok (.aload_n 0, 1) := dk_42 (dk_at dksX0_bestPenny_1 3 rfl rfl)
theorem dX0_bestPenny_26 : decode cX0_bestPenny 26 = .ok (.aload 4, 2) := dk_25 4 (dk_at dksX0_bestPenny_1 4 rfl rfl)
theorem dX0_bestPenny_28 : decode cX0_bestPenny 28 = .ok (.invokevirtual 239, 3) := dk_182 0 239 (dk_at dksX0_bestPenny_1 6 rfl rfl)
theorem dX0_bestPenny_31 : decode cX0_bestPenny 31 = .ok (.aload_n 0, 1) := dk_42 (dk_at dksX0_bestPenny_1 9 rfl rfl)
theorem dX0_bestPenny_32 : decode cX0_bestPenny 32 = .ok (.getfield 196, 3) := dk_180 0 196 (dk_at dksX0_bestPenny_1 10 rfl rfl)
theorem dX0_bestPenny_35 : decode cX0_bestPenny 35 = .ok (.ifCond .le 21, 3) := dk_158 0 21 (dk_at dksX0_bestPenny_1 13 rfl rfl)
theorem dX0_bestPenny_38 : decode cX0_bestPenny 38 = .ok (.iload_n 1, 1) := dk_27 (dk_at dksX0_bestPenny_1 16 rfl rfl)
theorem dX0_bestPenny_39 : decode cX0_bestPenny 39 = .ok (.bipush (-9), 2) := dk_16 247 (dk_at dksX0_bestPenny_1 17 rfl rfl)
theorem dX0_bestPenny_41 : decode cX0_bestPenny 41 = .ok (.if_icmp .eq 11, 3) := dk_159 0 11 (dk_at dksX0_bestPenny_1 19 rfl rfl)
theorem dX0_bestPenny_44 : decode cX0_bestPenny 44 = .ok (.aload_n 0, 1) := dk_42 (dk_at dksX0_bestPenny_1 22 rfl rfl)
theorem dX0_bestPenny_45 : decode cX0_bestPenny 45 = .ok (.getfield 227, 3) := dk_180 0 227 (dk_at dksX0_bestPenny_2 0 rfl rfl)
theorem dX0_bestPenny_48 : decode cX0_bestPenny 48 = .ok (.iload_n 2, 1) := dk_28 (dk_at dksX0_bestPenny_2 3 rfl rfl)
theorem dX0_bestPenny_49 : decode cX0_bestPenny 49 = .ok (.if_icmp .le 7, 3) := dk_164 0 7 (dk_at dksX0_bestPenny_2 4 rfl rfl)
theorem dX0_bestPenny_52 : decode cX0_bestPenny 52 = .ok (.iconst 1, 1) := dk_4 (dk_at dksX0_bestPenny_2 7 rfl rfl)
theorem dX0_bestPenny_53 : decode cX0_bestPenny 53 = .ok (.goto 4, 3) := dk_167 0 4 (dk_at dksX0_bestPenny_2 8 rfl rfl)
theorem dX0_bestPenny_56 : decode cX0_bestPenny 56 = .ok (.iconst 0, 1) := dk_3 (dk_at dksX0_bestPenny_2 11 rfl rfl)
theorem dX0_bestPenny_57 : decode cX0_bestPenny 57 = .ok (.istore 5, 2) := dk_54 5 (dk_at dksX0_bestPenny_2 12 rfl rfl)
theorem dX0_bestPenny_59 : decode cX0_bestPenny 59 = .ok (.iload 5, 2) := dk_21 5 (dk_at dksX0_bestPenny_2 14 rfl rfl)
theorem dX0_bestPenny_61 : decode cX0_bestPenny 61 = .ok (.ifCond .eq 7, 3) := dk_153 0 7 (dk_at dksX0_bestPenny_2 16 rfl rfl)
theorem dX0_bestPenny_64 : decode cX0_bestPenny 64 = .ok (.iload_n 3, 1) := dk_29 (dk_at dksX0_bestPenny_2 19 rfl rfl)
theorem dX0_bestPenny_65 : decode cX0_bestPenny 65 = .ok (.goto 4, 3) := dk_167 0 4 (dk_at dksX0_bestPenny_2 20 rfl rfl)
theorem dX0_bestPenny_68 : decode cX0_bestPenny 68 = .ok (.iload_n 1, 1) := dk_27 (dk_at dksX0_bestPenny_2 23 rfl rfl)
theorem dX0_bestPenny_69 : decode cX0_bestPenny 69 = .ok (.istore_n 1, 1) := dk_60 (dk_at dksX0_bestPenny_3 0 rfl rfl)
theorem dX0_bestPenny_70 : decode cX0_bestPenny 70 = .ok (.iload 5, 2) := dk_21 5 (dk_at dksX0_bestPenny_3 1 rfl rfl)
theorem dX0_bestPenny_72 : decode cX0_bestPenny 72 = .ok (.ifCond .eq 10, 3) := dk_153 0 10 (dk_at dksX0_bestPenny_3 3 rfl rfl)
theorem dX0_bestPenny_75 : decode cX0_bestPenny 75 = .ok (.aload_n 0, 1) := dk_42 (dk_at dksX0_bestPenny_3 6 rfl rfl)
theorem dX0_bestPenny_76 : decode cX0_bestPenny 76 = .ok (.getfield 227, 3) := dk_180 0 227 (dk_at dksX0_bestPenny_3 7 rfl rfl)
theorem dX0_bestPenny_79 : decode cX0_bestPenny 79 = .ok (.goto 4, 3) := dk_167 0 4 (dk_at dksX0_bestPenny_3 10 rfl rfl)
theorem dX0_bestPenny_82 : decode cX0_bestPenny 82 = .ok (.iload_n 2, 1) := dk_28 (dk_at dksX0_bestPenny_3 13 rfl rfl)
theorem dX0_bestPenny_83 : decode cX0_bestPenny 83 = .ok (.istore_n 2, 1) := dk_61 (dk_at dksX0_bestPenny_3 14 rfl rfl)
theorem dX0_bestPenny_84 : decode cX0_bestPenny 84 = .ok (.iinc 3 1, 3) := dk_132 3 1 (dk_at dksX0_bestPenny_3 15 rfl rfl)
theorem dX0_bestPenny_87 : decode cX0_bestPenny 87 = .ok (.goto (-80), 3) := dk_167 255 176 (dk_at dksX0_bestPenny_3 18 rfl rfl)
theorem dX0_bestPenny_90 : decode cX0_bestPenny 90 = .ok (.iload_n 1, 1) := dk_27 (dk_at dksX0_bestPenny_3 21 rfl rfl)
theorem dX0_bestPenny_91 : decode cX0_bestPenny 91 = .ok (.ireturn, 1) := dk_172 (dk_at dksX0_bestPenny_3 22 rfl rfl)
abbrev cX0_bestChairs : ByteArray := prog_1_method_19_code
def yX0_bestChairs : MethodName := ⟨RX0, "bestChairs", "()I"⟩
def dkwX0_bestChairs_3 : List UInt8 := [60, 21, 5, 153, 0, 10, 42, 180, 0, 224, 167, 0, 4, 28, 61, 132, 3, 1, 167, 255, 176, 27, 172]
abbrev dktX0_bestChairs_3 : List UInt8 := dkwX0_bestChairs_3 ++ []
def dkwX0_bestChairs_2 : List UInt8 := [180, 0, 224, 28, 164, 0, 7, 4, 167, 0, 4, 3, 54, 5, 21, 5, 153, 0, 7, 29, 167, 0, 4, 27]
abbrev dktX0_bestChairs_2 : List UInt8 := dkwX0_bestChairs_2 ++ dktX0_bestChairs_3
def dkwX0_bestChairs_1 : List UInt8 := [181, 0, 171, 42, 25, 4, 182, 0, 239, 42, 180, 0, 196, 158, 0, 21, 27, 16, 247, 159, 0, 11, 42]
abbrev dktX0_bestChairs_1 : List UInt8 := dkwX0_bestChairs_1 ++ dktX0_bestChairs_2
def dkwX0_bestChairs_0 : List UInt8 := [16, 247, 60, 3, 61, 3, 62, 29, 16, 60, 163, 0, 80, 42, 182, 0, 142, 58, 4, 25, 4, 29]
abbrev dktX0_bestChairs_0 : List UInt8 := dkwX0_bestChairs_0 ++ dktX0_bestChairs_1
theorem dksX0_bestChairs_0 : cX0_bestChairs.data.toList.drop 0 = dktX0_bestChairs_0 := by decide +kernel
theorem dksX0_bestChairs_1 : cX0_bestChairs.data.toList.drop 22 = dktX0_bestChairs_1 := dk_seg dksX0_bestChairs_0 22 rfl rfl
theorem dksX0_bestChairs_2 : cX0_bestChairs.data.toList.drop 45 = dktX0_bestChairs_2 := dk_seg dksX0_bestChairs_1 23 rfl rfl
theorem dksX0_bestChairs_3 : cX0_bestChairs.data.toList.drop 69 = dktX0_bestChairs_3 := dk_seg dksX0_bestChairs_2 24 rfl rfl
theorem dX0_bestChairs_0 : decode cX0_bestChairs 0 = .ok (.bipush (-9), 2) := dk_16 247 (dk_at dksX0_bestChairs_0 0 rfl rfl)
theorem dX0_bestChairs_2 : decode cX0_bestChairs 2 = .ok (.istore_n 1, 1) := dk_60 (dk_at dksX0_bestChairs_0 2 rfl rfl)
theorem dX0_bestChairs_3 : decode cX0_bestChairs 3 = .ok (.iconst 0, 1) := dk_3 (dk_at dksX0_bestChairs_0 3 rfl rfl)
theorem dX0_bestChairs_4 : decode cX0_bestChairs 4 = .ok (.istore_n 2, 1) := dk_61 (dk_at dksX0_bestChairs_0 4 rfl rfl)
theorem dX0_bestChairs_5 : decode cX0_bestChairs 5 = .ok (.iconst 0, 1) := dk_3 (dk_at dksX0_bestChairs_0 5 rfl rfl)
theorem dX0_bestChairs_6 : decode cX0_bestChairs 6 = .ok (.istore_n 3, 1) := dk_62 (dk_at dksX0_bestChairs_0 6 rfl rfl)
theorem dX0_bestChairs_7 : decode cX0_bestChairs 7 = .ok (.iload_n 3, 1) := dk_29 (dk_at dksX0_bestChairs_0 7 rfl rfl)
theorem dX0_bestChairs_8 : decode cX0_bestChairs 8 = .ok (.bipush 60, 2) := dk_16 60 (dk_at dksX0_bestChairs_0 8 rfl rfl)
theorem dX0_bestChairs_10 : decode cX0_bestChairs 10 = .ok (.if_icmp .gt 80, 3) := dk_163 0 80 (dk_at dksX0_bestChairs_0 10 rfl rfl)
theorem dX0_bestChairs_13 : decode cX0_bestChairs 13 = .ok (.aload_n 0, 1) := dk_42 (dk_at dksX0_bestChairs_0 13 rfl rfl)
theorem dX0_bestChairs_14 : decode cX0_bestChairs 14 = .ok (.invokevirtual 142, 3) := dk_182 0 142 (dk_at dksX0_bestChairs_0 14 rfl rfl)
theorem dX0_bestChairs_17 : decode cX0_bestChairs 17 = .ok (.astore 4, 2) := dk_58 4 (dk_at dksX0_bestChairs_0 17 rfl rfl)
theorem dX0_bestChairs_19 : decode cX0_bestChairs 19 = .ok (.aload 4, 2) := dk_25 4 (dk_at dksX0_bestChairs_0 19 rfl rfl)
theorem dX0_bestChairs_21 : decode cX0_bestChairs 21 = .ok (.iload_n 3, 1) := dk_29 (dk_at dksX0_bestChairs_0 21 rfl rfl)
theorem dX0_bestChairs_22 : decode cX0_bestChairs 22 = .ok (.putfield 171, 3) := dk_181 0 171 (dk_at dksX0_bestChairs_1 0 rfl rfl)
theorem dX0_bestChairs_25 : decode cX0_bestChairs 25 = .ok (.aload_n 0, 1) := dk_42 (dk_at dksX0_bestChairs_1 3 rfl rfl)
theorem dX0_bestChairs_26 : decode cX0_bestChairs 26 = .ok (.aload 4, 2) := dk_25 4 (dk_at dksX0_bestChairs_1 4 rfl rfl)
theorem dX0_bestChairs_28 : decode cX0_bestChairs 28 = .ok (.invokevirtual 239, 3) := dk_182 0 239 (dk_at dksX0_bestChairs_1 6 rfl rfl)
theorem dX0_bestChairs_31 : decode cX0_bestChairs 31 = .ok (.aload_n 0, 1) := dk_42 (dk_at dksX0_bestChairs_1 9 rfl rfl)
theorem dX0_bestChairs_32 : decode cX0_bestChairs 32 = .ok (.getfield 196, 3) := dk_180 0 196 (dk_at dksX0_bestChairs_1 10 rfl rfl)
theorem dX0_bestChairs_35 : decode cX0_bestChairs 35 = .ok (.ifCond .le 21, 3) := dk_158 0 21 (dk_at dksX0_bestChairs_1 13 rfl rfl)
theorem dX0_bestChairs_38 : decode cX0_bestChairs 38 = .ok (.iload_n 1, 1) := dk_27 (dk_at dksX0_bestChairs_1 16 rfl rfl)
theorem dX0_bestChairs_39 : decode cX0_bestChairs 39 = .ok (.bipush (-9), 2) := dk_16 247 (dk_at dksX0_bestChairs_1 17 rfl rfl)
theorem dX0_bestChairs_41 : decode cX0_bestChairs 41 = .ok (.if_icmp .eq 11, 3) := dk_159 0 11 (dk_at dksX0_bestChairs_1 19 rfl rfl)
theorem dX0_bestChairs_44 : decode cX0_bestChairs 44 = .ok (.aload_n 0, 1) := dk_42 (dk_at dksX0_bestChairs_1 22 rfl rfl)
theorem dX0_bestChairs_45 : decode cX0_bestChairs 45 = .ok (.getfield 224, 3) := dk_180 0 224 (dk_at dksX0_bestChairs_2 0 rfl rfl)
theorem dX0_bestChairs_48 : decode cX0_bestChairs 48 = .ok (.iload_n 2, 1) := dk_28 (dk_at dksX0_bestChairs_2 3 rfl rfl)
theorem dX0_bestChairs_49 : decode cX0_bestChairs 49 = .ok (.if_icmp .le 7, 3) := dk_164 0 7 (dk_at dksX0_bestChairs_2 4 rfl rfl)
theorem dX0_bestChairs_52 : decode cX0_bestChairs 52 = .ok (.iconst 1, 1) := dk_4 (dk_at dksX0_bestChairs_2 7 rfl rfl)
theorem dX0_bestChairs_53 : decode cX0_bestChairs 53 = .ok (.goto 4, 3) := dk_167 0 4 (dk_at dksX0_bestChairs_2 8 rfl rfl)
theorem dX0_bestChairs_56 : decode cX0_bestChairs 56 = .ok (.iconst 0, 1) := dk_3 (dk_at dksX0_bestChairs_2 11 rfl rfl)
theorem dX0_bestChairs_57 : decode cX0_bestChairs 57 = .ok (.istore 5, 2) := dk_54 5 (dk_at dksX0_bestChairs_2 12 rfl rfl)
theorem dX0_bestChairs_59 : decode cX0_bestChairs 59 = .ok (.iload 5, 2) := dk_21 5 (dk_at dksX0_bestChairs_2 14 rfl rfl)
theorem dX0_bestChairs_61 : decode cX0_bestChairs 61 = .ok (.ifCond .eq 7, 3) := dk_153 0 7 (dk_at dksX0_bestChairs_2 16 rfl rfl)
theorem dX0_bestChairs_64 : decode cX0_bestChairs 64 = .ok (.iload_n 3, 1) := dk_29 (dk_at dksX0_bestChairs_2 19 rfl rfl)
theorem dX0_bestChairs_65 : decode cX0_bestChairs 65 = .ok (.goto 4, 3) := dk_167 0 4 (dk_at dksX0_bestChairs_2 20 rfl rfl)
theorem dX0_bestChairs_68 : decode cX0_bestChairs 68 = .ok (.iload_n 1, 1) := dk_27 (dk_at dksX0_bestChairs_2 23 rfl rfl)
theorem dX0_bestChairs_69 : decode cX0_bestChairs 69 = .ok (.istore_n 1, 1) := dk_60 (dk_at dksX0_bestChairs_3 0 rfl rfl)
theorem dX0_bestChairs_70 : decode cX0_bestChairs 70 = .ok (.iload 5, 2) := dk_21 5 (dk_at dksX0_bestChairs_3 1 rfl rfl)
theorem dX0_bestChairs_72 : decode cX0_bestChairs 72 = .ok (.ifCond .eq 10, 3) := dk_153 0 10 (dk_at dksX0_bestChairs_3 3 rfl rfl)
theorem dX0_bestChairs_75 : decode cX0_bestChairs 75 = .ok (.aload_n 0, 1) := dk_42 (dk_at dksX0_bestChairs_3 6 rfl rfl)
theorem dX0_bestChairs_76 : decode cX0_bestChairs 76 = .ok (.getfield 224, 3) := dk_180 0 224 (dk_at dksX0_bestChairs_3 7 rfl rfl)
theorem dX0_bestChairs_79 : decode cX0_bestChairs 79 = .ok (.goto 4, 3) := dk_167 0 4 (dk_at dksX0_bestChairs_3 10 rfl rfl)
theorem dX0_bestChairs_82 : decode cX0_bestChairs 82 = .ok (.iload_n 2, 1) := dk_28 (dk_at dksX0_bestChairs_3 13 rfl rfl)
theorem dX0_bestChairs_83 : decode cX0_bestChairs 83 = .ok (.istore_n 2, 1) := dk_61 (dk_at dksX0_bestChairs_3 14 rfl rfl)
theorem dX0_bestChairs_84 : decode cX0_bestChairs 84 = .ok (.iinc 3 1, 3) := dk_132 3 1 (dk_at dksX0_bestChairs_3 15 rfl rfl)
theorem dX0_bestChairs_87 : decode cX0_bestChairs 87 = .ok (.goto (-80), 3) := dk_167 255 176 (dk_at dksX0_bestChairs_3 18 rfl rfl)
theorem dX0_bestChairs_90 : decode cX0_bestChairs 90 = .ok (.iload_n 1, 1) := dk_27 (dk_at dksX0_bestChairs_3 21 rfl rfl)
theorem dX0_bestChairs_91 : decode cX0_bestChairs 91 = .ok (.ireturn, 1) := dk_172 (dk_at dksX0_bestChairs_3 22 rfl rfl)
abbrev cX0_refuse : ByteArray := prog_1_method_25_code
def yX0_refuse : MethodName := ⟨RX0, "refuse", "(I)I"⟩
def dkwX0_refuse_0 : List UInt8 := [27, 16, 236, 164, 0, 14, 42, 180, 0, 91, 27, 116, 92, 46, 4, 96, 79, 27, 172]
abbrev dktX0_refuse_0 : List UInt8 := dkwX0_refuse_0 ++ []
theorem dksX0_refuse_0 : cX0_refuse.data.toList.drop 0 = dktX0_refuse_0 := by decide +kernel
theorem dX0_refuse_0 : decode cX0_refuse 0 = .ok (.iload_n 1, 1) := dk_27 (dk_at dksX0_refuse_0 0 rfl rfl)
theorem dX0_refuse_1 : decode cX0_refuse 1 = .ok (.bipush (-20), 2) := dk_16 236 (dk_at dksX0_refuse_0 1 rfl rfl)
theorem dX0_refuse_3 : decode cX0_refuse 3 = .ok (.if_icmp .le 14, 3) := dk_164 0 14 (dk_at dksX0_refuse_0 3 rfl rfl)
theorem dX0_refuse_6 : decode cX0_refuse 6 = .ok (.aload_n 0, 1) := dk_42 (dk_at dksX0_refuse_0 6 rfl rfl)
theorem dX0_refuse_7 : decode cX0_refuse 7 = .ok (.getfield 91, 3) := dk_180 0 91 (dk_at dksX0_refuse_0 7 rfl rfl)
theorem dX0_refuse_10 : decode cX0_refuse 10 = .ok (.iload_n 1, 1) := dk_27 (dk_at dksX0_refuse_0 10 rfl rfl)
theorem dX0_refuse_11 : decode cX0_refuse 11 = .ok (.ineg, 1) := dk_116 (dk_at dksX0_refuse_0 11 rfl rfl)
theorem dX0_refuse_12 : decode cX0_refuse 12 = .ok (.dup2, 1) := dk_92 (dk_at dksX0_refuse_0 12 rfl rfl)
theorem dX0_refuse_13 : decode cX0_refuse 13 = .ok (.iaload, 1) := dk_46 (dk_at dksX0_refuse_0 13 rfl rfl)
theorem dX0_refuse_14 : decode cX0_refuse 14 = .ok (.iconst 1, 1) := dk_4 (dk_at dksX0_refuse_0 14 rfl rfl)
theorem dX0_refuse_15 : decode cX0_refuse 15 = .ok (.iadd, 1) := dk_96 (dk_at dksX0_refuse_0 15 rfl rfl)
theorem dX0_refuse_16 : decode cX0_refuse 16 = .ok (.iastore, 1) := dk_79 (dk_at dksX0_refuse_0 16 rfl rfl)
theorem dX0_refuse_17 : decode cX0_refuse 17 = .ok (.iload_n 1, 1) := dk_27 (dk_at dksX0_refuse_0 17 rfl rfl)
theorem dX0_refuse_18 : decode cX0_refuse 18 = .ok (.ireturn, 1) := dk_172 (dk_at dksX0_refuse_0 18 rfl rfl)
abbrev cX0_town : ByteArray := prog_1_method_45_code
def yX0_town : MethodName := ⟨RX0, "town", "()I"⟩
def dkwX0_town_0 : List UInt8 := [42, 4, 3, 3, 182, 1, 173, 172]
abbrev dktX0_town_0 : List UInt8 := dkwX0_town_0 ++ []
theorem dksX0_town_0 : cX0_town.data.toList.drop 0 = dktX0_town_0 := by decide +kernel
theorem dX0_town_0 : decode cX0_town 0 = .ok (.aload_n 0, 1) := dk_42 (dk_at dksX0_town_0 0 rfl rfl)
theorem dX0_town_1 : decode cX0_town 1 = .ok (.iconst 1, 1) := dk_4 (dk_at dksX0_town_0 1 rfl rfl)
theorem dX0_town_2 : decode cX0_town 2 = .ok (.iconst 0, 1) := dk_3 (dk_at dksX0_town_0 2 rfl rfl)
theorem dX0_town_3 : decode cX0_town 3 = .ok (.iconst 0, 1) := dk_3 (dk_at dksX0_town_0 3 rfl rfl)
theorem dX0_town_4 : decode cX0_town 4 = .ok (.invokevirtual 429, 3) := dk_182 1 173 (dk_at dksX0_town_0 4 rfl rfl)
theorem dX0_town_7 : decode cX0_town 7 = .ok (.ireturn, 1) := dk_172 (dk_at dksX0_town_0 7 rfl rfl)
abbrev cX0_sort : ByteArray := prog_1_method_46_code
def yX0_sort : MethodName := ⟨RX0, "sort", "(II)I"⟩
def dkwX0_sort_0 : List UInt8 := [42, 5, 27, 28, 182, 1, 173, 172]
abbrev dktX0_sort_0 : List UInt8 := dkwX0_sort_0 ++ []
theorem dksX0_sort_0 : cX0_sort.data.toList.drop 0 = dktX0_sort_0 := by decide +kernel
theorem dX0_sort_0 : decode cX0_sort 0 = .ok (.aload_n 0, 1) := dk_42 (dk_at dksX0_sort_0 0 rfl rfl)
theorem dX0_sort_1 : decode cX0_sort 1 = .ok (.iconst 2, 1) := dk_5 (dk_at dksX0_sort_0 1 rfl rfl)
theorem dX0_sort_2 : decode cX0_sort 2 = .ok (.iload_n 1, 1) := dk_27 (dk_at dksX0_sort_0 2 rfl rfl)
theorem dX0_sort_3 : decode cX0_sort 3 = .ok (.iload_n 2, 1) := dk_28 (dk_at dksX0_sort_0 3 rfl rfl)
theorem dX0_sort_4 : decode cX0_sort 4 = .ok (.invokevirtual 429, 3) := dk_182 1 173 (dk_at dksX0_sort_0 4 rfl rfl)
theorem dX0_sort_7 : decode cX0_sort 7 = .ok (.ireturn, 1) := dk_172 (dk_at dksX0_sort_0 7 rfl rfl)
abbrev cX0_rule : ByteArray := prog_1_method_47_code
def yX0_rule : MethodName := ⟨RX0, "rule", "(II)I"⟩
def dkwX0_rule_0 : List UInt8 := [42, 6, 27, 28, 182, 1, 173, 172]
abbrev dktX0_rule_0 : List UInt8 := dkwX0_rule_0 ++ []
theorem dksX0_rule_0 : cX0_rule.data.toList.drop 0 = dktX0_rule_0 := by decide +kernel
theorem dX0_rule_0 : decode cX0_rule 0 = .ok (.aload_n 0, 1) := dk_42 (dk_at dksX0_rule_0 0 rfl rfl)
theorem dX0_rule_1 : decode cX0_rule 1 = .ok (.iconst 3, 1) := dk_6 (dk_at dksX0_rule_0 1 rfl rfl)
theorem dX0_rule_2 : decode cX0_rule 2 = .ok (.iload_n 1, 1) := dk_27 (dk_at dksX0_rule_0 2 rfl rfl)
theorem dX0_rule_3 : decode cX0_rule 3 = .ok (.iload_n 2, 1) := dk_28 (dk_at dksX0_rule_0 3 rfl rfl)
theorem dX0_rule_4 : decode cX0_rule 4 = .ok (.invokevirtual 429, 3) := dk_182 1 173 (dk_at dksX0_rule_0 4 rfl rfl)
theorem dX0_rule_7 : decode cX0_rule 7 = .ok (.ireturn, 1) := dk_172 (dk_at dksX0_rule_0 7 rfl rfl)
abbrev cX0_remembered : ByteArray := prog_1_method_48_code
def yX0_remembered : MethodName := ⟨RX0, "remembered", "(I)I"⟩
def dkwX0_remembered_0 : List UInt8 := [42, 7, 27, 3, 182, 1, 173, 172]
abbrev dktX0_remembered_0 : List UInt8 := dkwX0_remembered_0 ++ []
theorem dksX0_remembered_0 : cX0_remembered.data.toList.drop 0 = dktX0_remembered_0 := by decide +kernel
theorem dX0_remembered_0 : decode cX0_remembered 0 = .ok (.aload_n 0, 1) := dk_42 (dk_at dksX0_remembered_0 0 rfl rfl)
theorem dX0_remembered_1 : decode cX0_remembered 1 = .ok (.iconst 4, 1) := dk_7 (dk_at dksX0_remembered_0 1 rfl rfl)
theorem dX0_remembered_2 : decode cX0_remembered 2 = .ok (.iload_n 1, 1) := dk_27 (dk_at dksX0_remembered_0 2 rfl rfl)
theorem dX0_remembered_3 : decode cX0_remembered 3 = .ok (.iconst 0, 1) := dk_3 (dk_at dksX0_remembered_0 3 rfl rfl)
theorem dX0_remembered_4 : decode cX0_remembered 4 = .ok (.invokevirtual 429, 3) := dk_182 1 173 (dk_at dksX0_remembered_0 4 rfl rfl)
theorem dX0_remembered_7 : decode cX0_remembered 7 = .ok (.ireturn, 1) := dk_172 (dk_at dksX0_remembered_0 7 rfl rfl)
abbrev cX0_penny : ByteArray := prog_1_method_49_code
def yX0_penny : MethodName := ⟨RX0, "penny", "(I)I"⟩
def dkwX0_penny_0 : List UInt8 := [42, 8, 27, 3, 182, 1, 173, 172]
abbrev dktX0_penny_0 : List UInt8 := dkwX0_penny_0 ++ []
theorem dksX0_penny_0 : cX0_penny.data.toList.drop 0 = dktX0_penny_0 := by decide +kernel
theorem dX0_penny_0 : decode cX0_penny 0 = .ok (.aload_n 0, 1) := dk_42 (dk_at dksX0_penny_0 0 rfl rfl)
theorem dX0_penny_1 : decode cX0_penny 1 = .ok (.iconst 5, 1) := dk_8 (dk_at dksX0_penny_0 1 rfl rfl)
theorem dX0_penny_2 : decode cX0_penny 2 = .ok (.iload_n 1, 1) := dk_27 (dk_at dksX0_penny_0 2 rfl rfl)
theorem dX0_penny_3 : decode cX0_penny 3 = .ok (.iconst 0, 1) := dk_3 (dk_at dksX0_penny_0 3 rfl rfl)
theorem dX0_penny_4 : decode cX0_penny 4 = .ok (.invokevirtual 429, 3) := dk_182 1 173 (dk_at dksX0_penny_0 4 rfl rfl)
theorem dX0_penny_7 : decode cX0_penny 7 = .ok (.ireturn, 1) := dk_172 (dk_at dksX0_penny_0 7 rfl rfl)
abbrev cX0_week : ByteArray := prog_1_method_50_code
def yX0_week : MethodName := ⟨RX0, "week", "()I"⟩
def dkwX0_week_0 : List UInt8 := [42, 16, 6, 3, 3, 182, 1, 173, 172]
abbrev dktX0_week_0 : List UInt8 := dkwX0_week_0 ++ []
theorem dksX0_week_0 : cX0_week.data.toList.drop 0 = dktX0_week_0 := by decide +kernel
theorem dX0_week_0 : decode cX0_week 0 = .ok (.aload_n 0, 1) := dk_42 (dk_at dksX0_week_0 0 rfl rfl)
theorem dX0_week_1 : decode cX0_week 1 = .ok (.bipush 6, 2) := dk_16 6 (dk_at dksX0_week_0 1 rfl rfl)
theorem dX0_week_3 : decode cX0_week 3 = .ok (.iconst 0, 1) := dk_3 (dk_at dksX0_week_0 3 rfl rfl)
theorem dX0_week_4 : decode cX0_week 4 = .ok (.iconst 0, 1) := dk_3 (dk_at dksX0_week_0 4 rfl rfl)
theorem dX0_week_5 : decode cX0_week 5 = .ok (.invokevirtual 429, 3) := dk_182 1 173 (dk_at dksX0_week_0 5 rfl rfl)
theorem dX0_week_8 : decode cX0_week 8 = .ok (.ireturn, 1) := dk_172 (dk_at dksX0_week_0 8 rfl rfl)
abbrev cX0_next : ByteArray := prog_1_method_51_code
def yX0_next : MethodName := ⟨RX0, "next", "()I"⟩
def dkwX0_next_0 : List UInt8 := [42, 16, 7, 3, 3, 182, 1, 173, 172]
abbrev dktX0_next_0 : List UInt8 := dkwX0_next_0 ++ []
theorem dksX0_next_0 : cX0_next.data.toList.drop 0 = dktX0_next_0 := by decide +kernel
theorem dX0_next_0 : decode cX0_next 0 = .ok (.aload_n 0, 1) := dk_42 (dk_at dksX0_next_0 0 rfl rfl)
theorem dX0_next_1 : decode cX0_next 1 = .ok (.bipush 7, 2) := dk_16 7 (dk_at dksX0_next_0 1 rfl rfl)
theorem dX0_next_3 : decode cX0_next 3 = .ok (.iconst 0, 1) := dk_3 (dk_at dksX0_next_0 3 rfl rfl)
theorem dX0_next_4 : decode cX0_next 4 = .ok (.iconst 0, 1) := dk_3 (dk_at dksX0_next_0 4 rfl rfl)
theorem dX0_next_5 : decode cX0_next 5 = .ok (.invokevirtual 429, 3) := dk_182 1 173 (dk_at dksX0_next_0 5 rfl rfl)
theorem dX0_next_8 : decode cX0_next 8 = .ok (.ireturn, 1) := dk_172 (dk_at dksX0_next_0 8 rfl rfl)
abbrev cX0_goes : ByteArray := prog_1_method_52_code
def yX0_goes : MethodName := ⟨RX0, "goes", "(I)I"⟩
def dkwX0_goes_0 : List UInt8 := [42, 16, 8, 27, 3, 182, 1, 173, 172]
abbrev dktX0_goes_0 : List UInt8 := dkwX0_goes_0 ++ []
theorem dksX0_goes_0 : cX0_goes.data.toList.drop 0 = dktX0_goes_0 := by decide +kernel
theorem dX0_goes_0 : decode cX0_goes 0 = .ok (.aload_n 0, 1) := dk_42 (dk_at dksX0_goes_0 0 rfl rfl)
theorem dX0_goes_1 : decode cX0_goes 1 = .ok (.bipush 8, 2) := dk_16 8 (dk_at dksX0_goes_0 1 rfl rfl)
theorem dX0_goes_3 : decode cX0_goes 3 = .ok (.iload_n 1, 1) := dk_27 (dk_at dksX0_goes_0 3 rfl rfl)
theorem dX0_goes_4 : decode cX0_goes 4 = .ok (.iconst 0, 1) := dk_3 (dk_at dksX0_goes_0 4 rfl rfl)
theorem dX0_goes_5 : decode cX0_goes 5 = .ok (.invokevirtual 429, 3) := dk_182 1 173 (dk_at dksX0_goes_0 5 rfl rfl)
theorem dX0_goes_8 : decode cX0_goes 8 = .ok (.ireturn, 1) := dk_172 (dk_at dksX0_goes_0 8 rfl rfl)
abbrev cX0_worth : ByteArray := prog_1_method_53_code
def yX0_worth : MethodName := ⟨RX0, "worth", "(I)I"⟩
def dkwX0_worth_0 : List UInt8 := [42, 16, 9, 27, 3, 182, 1, 176, 172]
abbrev dktX0_worth_0 : List UInt8 := dkwX0_worth_0 ++ []
theorem dksX0_worth_0 : cX0_worth.data.toList.drop 0 = dktX0_worth_0 := by decide +kernel
theorem dX0_worth_0 : decode cX0_worth 0 = .ok (.aload_n 0, 1) := dk_42 (dk_at dksX0_worth_0 0 rfl rfl)
theorem dX0_worth_1 : decode cX0_worth 1 = .ok (.bipush 9, 2) := dk_16 9 (dk_at dksX0_worth_0 1 rfl rfl)
theorem dX0_worth_3 : decode cX0_worth 3 = .ok (.iload_n 1, 1) := dk_27 (dk_at dksX0_worth_0 3 rfl rfl)
theorem dX0_worth_4 : decode cX0_worth 4 = .ok (.iconst 0, 1) := dk_3 (dk_at dksX0_worth_0 4 rfl rfl)
theorem dX0_worth_5 : decode cX0_worth 5 = .ok (.invokevirtual 432, 3) := dk_182 1 176 (dk_at dksX0_worth_0 5 rfl rfl)
theorem dX0_worth_8 : decode cX0_worth 8 = .ok (.ireturn, 1) := dk_172 (dk_at dksX0_worth_0 8 rfl rfl)
abbrev cX0_actFar : ByteArray := prog_1_method_28_code
def yX0_actFar : MethodName := ⟨RX0, "actFar", "(III)I"⟩
def dkwX0_actFar_0 : List UInt8 := [42, 27, 28, 29, 182, 1, 31, 172, 58, 4, 19, 1, 43, 42, 25, 4, 182, 1, 36, 182, 1, 39, 100, 172]
abbrev dktX0_actFar_0 : List UInt8 := dkwX0_actFar_0 ++ []
theorem dksX0_actFar_0 : cX0_actFar.data.toList.drop 0 = dktX0_actFar_0 := by decide +kernel
theorem dX0_actFar_0 : decode cX0_actFar 0 = .ok (.aload_n 0, 1) := dk_42 (dk_at dksX0_actFar_0 0 rfl rfl)
theorem dX0_actFar_1 : decode cX0_actFar 1 = .ok (.iload_n 1, 1) := dk_27 (dk_at dksX0_actFar_0 1 rfl rfl)
theorem dX0_actFar_2 : decode cX0_actFar 2 = .ok (.iload_n 2, 1) := dk_28 (dk_at dksX0_actFar_0 2 rfl rfl)
theorem dX0_actFar_3 : decode cX0_actFar 3 = .ok (.iload_n 3, 1) := dk_29 (dk_at dksX0_actFar_0 3 rfl rfl)
theorem dX0_actFar_4 : decode cX0_actFar 4 = .ok (.invokevirtual 287, 3) := dk_182 1 31 (dk_at dksX0_actFar_0 4 rfl rfl)
theorem dX0_actFar_7 : decode cX0_actFar 7 = .ok (.ireturn, 1) := dk_172 (dk_at dksX0_actFar_0 7 rfl rfl)
theorem dX0_actFar_8 : decode cX0_actFar 8 = .ok (.astore 4, 2) := dk_58 4 (dk_at dksX0_actFar_0 8 rfl rfl)
theorem dX0_actFar_10 : decode cX0_actFar 10 = .ok (.ldc_w 299, 3) := dk_19 1 43 (dk_at dksX0_actFar_0 10 rfl rfl)
theorem dX0_actFar_13 : decode cX0_actFar 13 = .ok (.aload_n 0, 1) := dk_42 (dk_at dksX0_actFar_0 13 rfl rfl)
theorem dX0_actFar_14 : decode cX0_actFar 14 = .ok (.aload 4, 2) := dk_25 4 (dk_at dksX0_actFar_0 14 rfl rfl)
theorem dX0_actFar_16 : decode cX0_actFar 16 = .ok (.invokevirtual 292, 3) := dk_182 1 36 (dk_at dksX0_actFar_0 16 rfl rfl)
theorem dX0_actFar_19 : decode cX0_actFar 19 = .ok (.invokevirtual 295, 3) := dk_182 1 39 (dk_at dksX0_actFar_0 19 rfl rfl)
theorem dX0_actFar_22 : decode cX0_actFar 22 = .ok (.isub, 1) := dk_100 (dk_at dksX0_actFar_0 22 rfl rfl)
theorem dX0_actFar_23 : decode cX0_actFar 23 = .ok (.ireturn, 1) := dk_172 (dk_at dksX0_actFar_0 23 rfl rfl)
abbrev cX0_after : ByteArray := prog_1_method_54_code
def yX0_after : MethodName := ⟨RX0, "after", "(I)I"⟩
def dkwX0_after_0 : List UInt8 := [42, 16, 10, 27, 3, 182, 1, 173, 172]
abbrev dktX0_after_0 : List UInt8 := dkwX0_after_0 ++ []
theorem dksX0_after_0 : cX0_after.data.toList.drop 0 = dktX0_after_0 := by decide +kernel
theorem dX0_after_0 : decode cX0_after 0 = .ok (.aload_n 0, 1) := dk_42 (dk_at dksX0_after_0 0 rfl rfl)
theorem dX0_after_1 : decode cX0_after 1 = .ok (.bipush 10, 2) := dk_16 10 (dk_at dksX0_after_0 1 rfl rfl)
theorem dX0_after_3 : decode cX0_after 3 = .ok (.iload_n 1, 1) := dk_27 (dk_at dksX0_after_0 3 rfl rfl)
theorem dX0_after_4 : decode cX0_after 4 = .ok (.iconst 0, 1) := dk_3 (dk_at dksX0_after_0 4 rfl rfl)
theorem dX0_after_5 : decode cX0_after 5 = .ok (.invokevirtual 429, 3) := dk_182 1 173 (dk_at dksX0_after_0 5 rfl rfl)
theorem dX0_after_8 : decode cX0_after 8 = .ok (.ireturn, 1) := dk_172 (dk_at dksX0_after_0 8 rfl rfl)
abbrev cX0_mean : ByteArray := prog_1_method_55_code
def yX0_mean : MethodName := ⟨RX0, "mean", "(I)I"⟩
def dkwX0_mean_0 : List UInt8 := [42, 16, 11, 27, 3, 182, 1, 173, 172]
abbrev dktX0_mean_0 : List UInt8 := dkwX0_mean_0 ++ []
theorem dksX0_mean_0 : cX0_mean.data.toList.drop 0 = dktX0_mean_0 := by decide +kernel
theorem dX0_mean_0 : decode cX0_mean 0 = .ok (.aload_n 0, 1) := dk_42 (dk_at dksX0_mean_0 0 rfl rfl)
theorem dX0_mean_1 : decode cX0_mean 1 = .ok (.bipush 11, 2) := dk_16 11 (dk_at dksX0_mean_0 1 rfl rfl)
theorem dX0_mean_3 : decode cX0_mean 3 = .ok (.iload_n 1, 1) := dk_27 (dk_at dksX0_mean_0 3 rfl rfl)
theorem dX0_mean_4 : decode cX0_mean 4 = .ok (.iconst 0, 1) := dk_3 (dk_at dksX0_mean_0 4 rfl rfl)
theorem dX0_mean_5 : decode cX0_mean 5 = .ok (.invokevirtual 429, 3) := dk_182 1 173 (dk_at dksX0_mean_0 5 rfl rfl)
theorem dX0_mean_8 : decode cX0_mean 8 = .ok (.ireturn, 1) := dk_172 (dk_at dksX0_mean_0 8 rfl rfl)
abbrev cX0_swing : ByteArray := prog_1_method_56_code
def yX0_swing : MethodName := ⟨RX0, "swing", "(I)I"⟩
def dkwX0_swing_0 : List UInt8 := [42, 16, 12, 27, 3, 182, 1, 173, 172]
abbrev dktX0_swing_0 : List UInt8 := dkwX0_swing_0 ++ []
theorem dksX0_swing_0 : cX0_swing.data.toList.drop 0 = dktX0_swing_0 := by decide +kernel
theorem dX0_swing_0 : decode cX0_swing 0 = .ok (.aload_n 0, 1) := dk_42 (dk_at dksX0_swing_0 0 rfl rfl)
theorem dX0_swing_1 : decode cX0_swing 1 = .ok (.bipush 12, 2) := dk_16 12 (dk_at dksX0_swing_0 1 rfl rfl)
theorem dX0_swing_3 : decode cX0_swing 3 = .ok (.iload_n 1, 1) := dk_27 (dk_at dksX0_swing_0 3 rfl rfl)
theorem dX0_swing_4 : decode cX0_swing 4 = .ok (.iconst 0, 1) := dk_3 (dk_at dksX0_swing_0 4 rfl rfl)
theorem dX0_swing_5 : decode cX0_swing 5 = .ok (.invokevirtual 429, 3) := dk_182 1 173 (dk_at dksX0_swing_0 5 rfl rfl)
theorem dX0_swing_8 : decode cX0_swing 8 = .ok (.ireturn, 1) := dk_172 (dk_at dksX0_swing_0 8 rfl rfl)
abbrev cX0_good : ByteArray := prog_1_method_57_code
def yX0_good : MethodName := ⟨RX0, "good", "(I)I"⟩
def dkwX0_good_0 : List UInt8 := [42, 16, 13, 27, 3, 182, 1, 173, 172]
abbrev dktX0_good_0 : List UInt8 := dkwX0_good_0 ++ []
theorem dksX0_good_0 : cX0_good.data.toList.drop 0 = dktX0_good_0 := by decide +kernel
theorem dX0_good_0 : decode cX0_good 0 = .ok (.aload_n 0, 1) := dk_42 (dk_at dksX0_good_0 0 rfl rfl)
theorem dX0_good_1 : decode cX0_good 1 = .ok (.bipush 13, 2) := dk_16 13 (dk_at dksX0_good_0 1 rfl rfl)
theorem dX0_good_3 : decode cX0_good 3 = .ok (.iload_n 1, 1) := dk_27 (dk_at dksX0_good_0 3 rfl rfl)
theorem dX0_good_4 : decode cX0_good 4 = .ok (.iconst 0, 1) := dk_3 (dk_at dksX0_good_0 4 rfl rfl)
theorem dX0_good_5 : decode cX0_good 5 = .ok (.invokevirtual 429, 3) := dk_182 1 173 (dk_at dksX0_good_0 5 rfl rfl)
theorem dX0_good_8 : decode cX0_good 8 = .ok (.ireturn, 1) := dk_172 (dk_at dksX0_good_0 8 rfl rfl)
abbrev cX0_again : ByteArray := prog_1_method_58_code
def yX0_again : MethodName := ⟨RX0, "again", "()I"⟩
def dkwX0_again_0 : List UInt8 := [42, 16, 14, 3, 3, 182, 1, 173, 172]
abbrev dktX0_again_0 : List UInt8 := dkwX0_again_0 ++ []
theorem dksX0_again_0 : cX0_again.data.toList.drop 0 = dktX0_again_0 := by decide +kernel
theorem dX0_again_0 : decode cX0_again 0 = .ok (.aload_n 0, 1) := dk_42 (dk_at dksX0_again_0 0 rfl rfl)
theorem dX0_again_1 : decode cX0_again 1 = .ok (.bipush 14, 2) := dk_16 14 (dk_at dksX0_again_0 1 rfl rfl)
theorem dX0_again_3 : decode cX0_again 3 = .ok (.iconst 0, 1) := dk_3 (dk_at dksX0_again_0 3 rfl rfl)
theorem dX0_again_4 : decode cX0_again 4 = .ok (.iconst 0, 1) := dk_3 (dk_at dksX0_again_0 4 rfl rfl)
theorem dX0_again_5 : decode cX0_again 5 = .ok (.invokevirtual 429, 3) := dk_182 1 173 (dk_at dksX0_again_0 5 rfl rfl)
theorem dX0_again_8 : decode cX0_again 8 = .ok (.ireturn, 1) := dk_172 (dk_at dksX0_again_0 8 rfl rfl)
abbrev cX0_gains : ByteArray := prog_1_method_59_code
def yX0_gains : MethodName := ⟨RX0, "gains", "(II)I"⟩
def dkwX0_gains_0 : List UInt8 := [42, 16, 15, 27, 28, 182, 1, 176, 172]
abbrev dktX0_gains_0 : List UInt8 := dkwX0_gains_0 ++ []
theorem dksX0_gains_0 : cX0_gains.data.toList.drop 0 = dktX0_gains_0 := by decide +kernel
theorem dX0_gains_0 : decode cX0_gains 0 = .ok (.aload_n 0, 1) := dk_42 (dk_at dksX0_gains_0 0 rfl rfl)
theorem dX0_gains_1 : decode cX0_gains 1 = .ok (.bipush 15, 2) := dk_16 15 (dk_at dksX0_gains_0 1 rfl rfl)
theorem dX0_gains_3 : decode cX0_gains 3 = .ok (.iload_n 1, 1) := dk_27 (dk_at dksX0_gains_0 3 rfl rfl)
theorem dX0_gains_4 : decode cX0_gains 4 = .ok (.iload_n 2, 1) := dk_28 (dk_at dksX0_gains_0 4 rfl rfl)
theorem dX0_gains_5 : decode cX0_gains 5 = .ok (.invokevirtual 432, 3) := dk_182 1 176 (dk_at dksX0_gains_0 5 rfl rfl)
theorem dX0_gains_8 : decode cX0_gains 8 = .ok (.ireturn, 1) := dk_172 (dk_at dksX0_gains_0 8 rfl rfl)
abbrev cX0_rests : ByteArray := prog_1_method_60_code
def yX0_rests : MethodName := ⟨RX0, "rests", "()I"⟩
def dkwX0_rests_0 : List UInt8 := [42, 16, 16, 3, 3, 182, 1, 173, 172]
abbrev dktX0_rests_0 : List UInt8 := dkwX0_rests_0 ++ []
theorem dksX0_rests_0 : cX0_rests.data.toList.drop 0 = dktX0_rests_0 := by decide +kernel
theorem dX0_rests_0 : decode cX0_rests 0 = .ok (.aload_n 0, 1) := dk_42 (dk_at dksX0_rests_0 0 rfl rfl)
theorem dX0_rests_1 : decode cX0_rests 1 = .ok (.bipush 16, 2) := dk_16 16 (dk_at dksX0_rests_0 1 rfl rfl)
theorem dX0_rests_3 : decode cX0_rests 3 = .ok (.iconst 0, 1) := dk_3 (dk_at dksX0_rests_0 3 rfl rfl)
theorem dX0_rests_4 : decode cX0_rests 4 = .ok (.iconst 0, 1) := dk_3 (dk_at dksX0_rests_0 4 rfl rfl)
theorem dX0_rests_5 : decode cX0_rests 5 = .ok (.invokevirtual 429, 3) := dk_182 1 173 (dk_at dksX0_rests_0 5 rfl rfl)
theorem dX0_rests_8 : decode cX0_rests 8 = .ok (.ireturn, 1) := dk_172 (dk_at dksX0_rests_0 8 rfl rfl)
abbrev cX0_rest : ByteArray := prog_1_method_61_code
def yX0_rest : MethodName := ⟨RX0, "rest", "(I)I"⟩
def dkwX0_rest_0 : List UInt8 := [42, 16, 17, 27, 3, 182, 1, 173, 172]
abbrev dktX0_rest_0 : List UInt8 := dkwX0_rest_0 ++ []
theorem dksX0_rest_0 : cX0_rest.data.toList.drop 0 = dktX0_rest_0 := by decide +kernel
theorem dX0_rest_0 : decode cX0_rest 0 = .ok (.aload_n 0, 1) := dk_42 (dk_at dksX0_rest_0 0 rfl rfl)
theorem dX0_rest_1 : decode cX0_rest 1 = .ok (.bipush 17, 2) := dk_16 17 (dk_at dksX0_rest_0 1 rfl rfl)
theorem dX0_rest_3 : decode cX0_rest 3 = .ok (.iload_n 1, 1) := dk_27 (dk_at dksX0_rest_0 3 rfl rfl)
theorem dX0_rest_4 : decode cX0_rest 4 = .ok (.iconst 0, 1) := dk_3 (dk_at dksX0_rest_0 4 rfl rfl)
theorem dX0_rest_5 : decode cX0_rest 5 = .ok (.invokevirtual 429, 3) := dk_182 1 173 (dk_at dksX0_rest_0 5 rfl rfl)
theorem dX0_rest_8 : decode cX0_rest 8 = .ok (.ireturn, 1) := dk_172 (dk_at dksX0_rest_0 8 rfl rfl)
abbrev cX0_best : ByteArray := prog_1_method_62_code
def yX0_best : MethodName := ⟨RX0, "best", "(I)I"⟩
def dkwX0_best_0 : List UInt8 := [42, 16, 18, 27, 3, 182, 1, 176, 172]
abbrev dktX0_best_0 : List UInt8 := dkwX0_best_0 ++ []
theorem dksX0_best_0 : cX0_best.data.toList.drop 0 = dktX0_best_0 := by decide +kernel
theorem dX0_best_0 : decode cX0_best 0 = .ok (.aload_n 0, 1) := dk_42 (dk_at dksX0_best_0 0 rfl rfl)
theorem dX0_best_1 : decode cX0_best 1 = .ok (.bipush 18, 2) := dk_16 18 (dk_at dksX0_best_0 1 rfl rfl)
theorem dX0_best_3 : decode cX0_best 3 = .ok (.iload_n 1, 1) := dk_27 (dk_at dksX0_best_0 3 rfl rfl)
theorem dX0_best_4 : decode cX0_best 4 = .ok (.iconst 0, 1) := dk_3 (dk_at dksX0_best_0 4 rfl rfl)
theorem dX0_best_5 : decode cX0_best 5 = .ok (.invokevirtual 432, 3) := dk_182 1 176 (dk_at dksX0_best_0 5 rfl rfl)
theorem dX0_best_8 : decode cX0_best 8 = .ok (.ireturn, 1) := dk_172 (dk_at dksX0_best_0 8 rfl rfl)
abbrev cX0_off : ByteArray := prog_1_method_63_code
def yX0_off : MethodName := ⟨RX0, "off", "()I"⟩
def dkwX0_off_0 : List UInt8 := [42, 16, 19, 3, 3, 182, 1, 173, 172]
abbrev dktX0_off_0 : List UInt8 := dkwX0_off_0 ++ []
theorem dksX0_off_0 : cX0_off.data.toList.drop 0 = dktX0_off_0 := by decide +kernel
theorem dX0_off_0 : decode cX0_off 0 = .ok (.aload_n 0, 1) := dk_42 (dk_at dksX0_off_0 0 rfl rfl)
theorem dX0_off_1 : decode cX0_off 1 = .ok (.bipush 19, 2) := dk_16 19 (dk_at dksX0_off_0 1 rfl rfl)
theorem dX0_off_3 : decode cX0_off 3 = .ok (.iconst 0, 1) := dk_3 (dk_at dksX0_off_0 3 rfl rfl)
theorem dX0_off_4 : decode cX0_off 4 = .ok (.iconst 0, 1) := dk_3 (dk_at dksX0_off_0 4 rfl rfl)
theorem dX0_off_5 : decode cX0_off 5 = .ok (.invokevirtual 429, 3) := dk_182 1 173 (dk_at dksX0_off_0 5 rfl rfl)
theorem dX0_off_8 : decode cX0_off 8 = .ok (.ireturn, 1) := dk_172 (dk_at dksX0_off_0 8 rfl rfl)
abbrev cX0_pennies : ByteArray := prog_1_method_64_code
def yX0_pennies : MethodName := ⟨RX0, "pennies", "()I"⟩
def dkwX0_pennies_0 : List UInt8 := [42, 16, 20, 3, 3, 182, 1, 173, 172]
abbrev dktX0_pennies_0 : List UInt8 := dkwX0_pennies_0 ++ []
theorem dksX0_pennies_0 : cX0_pennies.data.toList.drop 0 = dktX0_pennies_0 := by decide +kernel
theorem dX0_pennies_0 : decode cX0_pennies 0 = .ok (.aload_n 0, 1) := dk_42 (dk_at dksX0_pennies_0 0 rfl rfl)
theorem dX0_pennies_1 : decode cX0_pennies 1 = .ok (.bipush 20, 2) := dk_16 20 (dk_at dksX0_pennies_0 1 rfl rfl)
theorem dX0_pennies_3 : decode cX0_pennies 3 = .ok (.iconst 0, 1) := dk_3 (dk_at dksX0_pennies_0 3 rfl rfl)
theorem dX0_pennies_4 : decode cX0_pennies 4 = .ok (.iconst 0, 1) := dk_3 (dk_at dksX0_pennies_0 4 rfl rfl)
theorem dX0_pennies_5 : decode cX0_pennies 5 = .ok (.invokevirtual 429, 3) := dk_182 1 173 (dk_at dksX0_pennies_0 5 rfl rfl)
theorem dX0_pennies_8 : decode cX0_pennies 8 = .ok (.ireturn, 1) := dk_172 (dk_at dksX0_pennies_0 8 rfl rfl)
abbrev cX0_chairs : ByteArray := prog_1_method_65_code
def yX0_chairs : MethodName := ⟨RX0, "chairs", "()I"⟩
def dkwX0_chairs_0 : List UInt8 := [42, 16, 21, 3, 3, 182, 1, 173, 172]
abbrev dktX0_chairs_0 : List UInt8 := dkwX0_chairs_0 ++ []
theorem dksX0_chairs_0 : cX0_chairs.data.toList.drop 0 = dktX0_chairs_0 := by decide +kernel
theorem dX0_chairs_0 : decode cX0_chairs 0 = .ok (.aload_n 0, 1) := dk_42 (dk_at dksX0_chairs_0 0 rfl rfl)
theorem dX0_chairs_1 : decode cX0_chairs 1 = .ok (.bipush 21, 2) := dk_16 21 (dk_at dksX0_chairs_0 1 rfl rfl)
theorem dX0_chairs_3 : decode cX0_chairs 3 = .ok (.iconst 0, 1) := dk_3 (dk_at dksX0_chairs_0 3 rfl rfl)
theorem dX0_chairs_4 : decode cX0_chairs 4 = .ok (.iconst 0, 1) := dk_3 (dk_at dksX0_chairs_0 4 rfl rfl)
theorem dX0_chairs_5 : decode cX0_chairs 5 = .ok (.invokevirtual 429, 3) := dk_182 1 173 (dk_at dksX0_chairs_0 5 rfl rfl)
theorem dX0_chairs_8 : decode cX0_chairs 8 = .ok (.ireturn, 1) := dk_172 (dk_at dksX0_chairs_0 8 rfl rfl)
abbrev cX0_sees : ByteArray := prog_1_method_66_code
def yX0_sees : MethodName := ⟨RX0, "sees", "(IIII)I"⟩
def dkwX0_sees_0 : List UInt8 := [42, 27, 28, 29, 21, 4, 182, 1, 179, 172]
abbrev dktX0_sees_0 : List UInt8 := dkwX0_sees_0 ++ []
theorem dksX0_sees_0 : cX0_sees.data.toList.drop 0 = dktX0_sees_0 := by decide +kernel
theorem dX0_sees_0 : decode cX0_sees 0 = .ok (.aload_n 0, 1) := dk_42 (dk_at dksX0_sees_0 0 rfl rfl)
theorem dX0_sees_1 : decode cX0_sees 1 = .ok (.iload_n 1, 1) := dk_27 (dk_at dksX0_sees_0 1 rfl rfl)
theorem dX0_sees_2 : decode cX0_sees 2 = .ok (.iload_n 2, 1) := dk_28 (dk_at dksX0_sees_0 2 rfl rfl)
theorem dX0_sees_3 : decode cX0_sees 3 = .ok (.iload_n 3, 1) := dk_29 (dk_at dksX0_sees_0 3 rfl rfl)
theorem dX0_sees_4 : decode cX0_sees 4 = .ok (.iload 4, 2) := dk_21 4 (dk_at dksX0_sees_0 4 rfl rfl)
theorem dX0_sees_6 : decode cX0_sees 6 = .ok (.invokevirtual 435, 3) := dk_182 1 179 (dk_at dksX0_sees_0 6 rfl rfl)
theorem dX0_sees_9 : decode cX0_sees 9 = .ok (.ireturn, 1) := dk_172 (dk_at dksX0_sees_0 9 rfl rfl)
abbrev cX0_seesTold : ByteArray := prog_1_method_42_code
def yX0_seesTold : MethodName := ⟨RX0, "seesTold", "(IIII)I"⟩
def dkwX0_seesTold_4 : List UInt8 := [182, 1, 36, 182, 1, 39, 100, 172]
abbrev dktX0_seesTold_4 : List UInt8 := dkwX0_seesTold_4 ++ []
def dkwX0_seesTold_3 : List UInt8 := [16, 250, 184, 0, 9, 42, 27, 28, 29, 21, 4, 182, 1, 144, 172, 58, 5, 19, 1, 43, 42, 25, 5]
abbrev dktX0_seesTold_3 : List UInt8 := dkwX0_seesTold_3 ++ dktX0_seesTold_4
def dkwX0_seesTold_2 : List UInt8 := [21, 4, 16, 9, 163, 0, 18, 42, 180, 0, 73, 180, 0, 177, 7, 162, 0, 7, 4, 167, 0, 4, 3]
abbrev dktX0_seesTold_2 : List UInt8 := dkwX0_seesTold_2 ++ dktX0_seesTold_3
def dkwX0_seesTold_1 : List UInt8 := [16, 252, 184, 0, 9, 27, 16, 60, 163, 0, 37, 28, 16, 9, 163, 0, 31, 29, 16, 9, 163, 0, 25]
abbrev dktX0_seesTold_1 : List UInt8 := dkwX0_seesTold_1 ++ dktX0_seesTold_2
def dkwX0_seesTold_0 : List UInt8 := [27, 4, 161, 0, 20, 28, 155, 0, 16, 29, 155, 0, 12, 21, 4, 155, 0, 7, 4, 167, 0, 4, 3]
abbrev dktX0_seesTold_0 : List UInt8 := dkwX0_seesTold_0 ++ dktX0_seesTold_1
theorem dksX0_seesTold_0 : cX0_seesTold.data.toList.drop 0 = dktX0_seesTold_0 := by decide +kernel
theorem dksX0_seesTold_1 : cX0_seesTold.data.toList.drop 23 = dktX0_seesTold_1 := dk_seg dksX0_seesTold_0 23 rfl rfl
theorem dksX0_seesTold_2 : cX0_seesTold.data.toList.drop 46 = dktX0_seesTold_2 := dk_seg dksX0_seesTold_1 23 rfl rfl
theorem dksX0_seesTold_3 : cX0_seesTold.data.toList.drop 69 = dktX0_seesTold_3 := dk_seg dksX0_seesTold_2 23 rfl rfl
theorem dksX0_seesTold_4 : cX0_seesTold.data.toList.drop 92 = dktX0_seesTold_4 := dk_seg dksX0_seesTold_3 23 rfl rfl
theorem dX0_seesTold_0 : decode cX0_seesTold 0 = .ok (.iload_n 1, 1) := dk_27 (dk_at dksX0_seesTold_0 0 rfl rfl)
theorem dX0_seesTold_1 : decode cX0_seesTold 1 = .ok (.iconst 1, 1) := dk_4 (dk_at dksX0_seesTold_0 1 rfl rfl)
theorem dX0_seesTold_2 : decode cX0_seesTold 2 = .ok (.if_icmp .lt 20, 3) := dk_161 0 20 (dk_at dksX0_seesTold_0 2 rfl rfl)
theorem dX0_seesTold_5 : decode cX0_seesTold 5 = .ok (.iload_n 2, 1) := dk_28 (dk_at dksX0_seesTold_0 5 rfl rfl)
theorem dX0_seesTold_6 : decode cX0_seesTold 6 = .ok (.ifCond .lt 16, 3) := dk_155 0 16 (dk_at dksX0_seesTold_0 6 rfl rfl)
theorem dX0_seesTold_9 : decode cX0_seesTold 9 = .ok (.iload_n 3, 1) := dk_29 (dk_at dksX0_seesTold_0 9 rfl rfl)
theorem dX0_seesTold_10 : decode cX0_seesTold 10 = .ok (.ifCond .lt 12, 3) := dk_155 0 12 (dk_at dksX0_seesTold_0 10 rfl rfl)
theorem dX0_seesTold_13 : decode cX0_seesTold 13 = .ok (.iload 4, 2) := dk_21 4 (dk_at dksX0_seesTold_0 13 rfl rfl)
theorem dX0_seesTold_15 : decode cX0_seesTold 15 = .ok (.ifCond .lt 7, 3) := dk_155 0 7 (dk_at dksX0_seesTold_0 15 rfl rfl)
theorem dX0_seesTold_18 : decode cX0_seesTold 18 = .ok (.iconst 1, 1) := dk_4 (dk_at dksX0_seesTold_0 18 rfl rfl)
theorem dX0_seesTold_19 : decode cX0_seesTold 19 = .ok (.goto 4, 3) := dk_167 0 4 (dk_at dksX0_seesTold_0 19 rfl rfl)
theorem dX0_seesTold_22 : decode cX0_seesTold 22 = .ok (.iconst 0, 1) := dk_3 (dk_at dksX0_seesTold_0 22 rfl rfl)
theorem dX0_seesTold_23 : decode cX0_seesTold 23 = .ok (.bipush (-4), 2) := dk_16 252 (dk_at dksX0_seesTold_1 0 rfl rfl)
theorem dX0_seesTold_25 : decode cX0_seesTold 25 = .ok (.invokestatic 9, 3) := dk_184 0 9 (dk_at dksX0_seesTold_1 2 rfl rfl)
theorem dX0_seesTold_28 : decode cX0_seesTold 28 = .ok (.iload_n 1, 1) := dk_27 (dk_at dksX0_seesTold_1 5 rfl rfl)
theorem dX0_seesTold_29 : decode cX0_seesTold 29 = .ok (.bipush 60, 2) := dk_16 60 (dk_at dksX0_seesTold_1 6 rfl rfl)
theorem dX0_seesTold_31 : decode cX0_seesTold 31 = .ok (.if_icmp .gt 37, 3) := dk_163 0 37 (dk_at dksX0_seesTold_1 8 rfl rfl)
theorem dX0_seesTold_34 : decode cX0_seesTold 34 = .ok (.iload_n 2, 1) := dk_28 (dk_at dksX0_seesTold_1 11 rfl rfl)
theorem dX0_seesTold_35 : decode cX0_seesTold 35 = .ok (.bipush 9, 2) := dk_16 9 (dk_at dksX0_seesTold_1 12 rfl rfl)
theorem dX0_seesTold_37 : decode cX0_seesTold 37 = .ok (.if_icmp .gt 31, 3) := dk_163 0 31 (dk_at dksX0_seesTold_1 14 rfl rfl)
theorem dX0_seesTold_40 : decode cX0_seesTold 40 = .ok (.iload_n 3, 1) := dk_29 (dk_at dksX0_seesTold_1 17 rfl rfl)
theorem dX0_seesTold_41 : decode cX0_seesTold 41 = .ok (.bipush 9, 2) := dk_16 9 (dk_at dksX0_seesTold_1 18 rfl rfl)
theorem dX0_seesTold_43 : decode cX0_seesTold 43 = .ok (.if_icmp .gt 25, 3) := dk_163 0 25 (dk_at dksX0_seesTold_1 20 rfl rfl)
theorem dX0_seesTold_46 : decode cX0_seesTold 46 = .ok (.iload 4, 2) := dk_21 4 (dk_at dksX0_seesTold_2 0 rfl rfl)
theorem dX0_seesTold_48 : decode cX0_seesTold 48 = .ok (.bipush 9, 2) := dk_16 9 (dk_at dksX0_seesTold_2 2 rfl rfl)
theorem dX0_seesTold_50 : decode cX0_seesTold 50 = .ok (.if_icmp .gt 18, 3) := dk_163 0 18 (dk_at dksX0_seesTold_2 4 rfl rfl)
theorem dX0_seesTold_53 : decode cX0_seesTold 53 = .ok (.aload_n 0, 1) := dk_42 (dk_at dksX0_seesTold_2 7 rfl rfl)
theorem dX0_seesTold_54 : decode cX0_seesTold 54 = .ok (.getfield 73, 3) := dk_180 0 73 (dk_at dksX0_seesTold_2 8 rfl rfl)
theorem dX0_seesTold_57 : decode cX0_seesTold 57 = .ok (.getfield 177, 3) := dk_180 0 177 (dk_at dksX0_seesTold_2 11 rfl rfl)
theorem dX0_seesTold_60 : decode cX0_seesTold 60 = .ok (.iconst 4, 1) := dk_7 (dk_at dksX0_seesTold_2 14 rfl rfl)
theorem dX0_seesTold_61 : decode cX0_seesTold 61 = .ok (.if_icmp .ge 7, 3) := dk_162 0 7 (dk_at dksX0_seesTold_2 15 rfl rfl)
theorem dX0_seesTold_64 : decode cX0_seesTold 64 = .ok (.iconst 1, 1) := dk_4 (dk_at dksX0_seesTold_2 18 rfl rfl)
theorem dX0_seesTold_65 : decode cX0_seesTold 65 = .ok (.goto 4, 3) := dk_167 0 4 (dk_at dksX0_seesTold_2 19 rfl rfl)
theorem dX0_seesTold_68 : decode cX0_seesTold 68 = .ok (.iconst 0, 1) := dk_3 (dk_at dksX0_seesTold_2 22 rfl rfl)
theorem dX0_seesTold_69 : decode cX0_seesTold 69 = .ok (.bipush (-6), 2) := dk_16 250 (dk_at dksX0_seesTold_3 0 rfl rfl)
theorem dX0_seesTold_71 : decode cX0_seesTold 71 = .ok (.invokestatic 9, 3) := dk_184 0 9 (dk_at dksX0_seesTold_3 2 rfl rfl)
theorem dX0_seesTold_74 : decode cX0_seesTold 74 = .ok (.aload_n 0, 1) := dk_42 (dk_at dksX0_seesTold_3 5 rfl rfl)
theorem dX0_seesTold_75 : decode cX0_seesTold 75 = .ok (.iload_n 1, 1) := dk_27 (dk_at dksX0_seesTold_3 6 rfl rfl)
theorem dX0_seesTold_76 : decode cX0_seesTold 76 = .ok (.iload_n 2, 1) := dk_28 (dk_at dksX0_seesTold_3 7 rfl rfl)
theorem dX0_seesTold_77 : decode cX0_seesTold 77 = .ok (.iload_n 3, 1) := dk_29 (dk_at dksX0_seesTold_3 8 rfl rfl)
theorem dX0_seesTold_78 : decode cX0_seesTold 78 = .ok (.iload 4, 2) := dk_21 4 (dk_at dksX0_seesTold_3 9 rfl rfl)
theorem dX0_seesTold_80 : decode cX0_seesTold 80 = .ok (.invokevirtual 400, 3) := dk_182 1 144 (dk_at dksX0_seesTold_3 11 rfl rfl)
theorem dX0_seesTold_83 : decode cX0_seesTold 83 = .ok (.ireturn, 1) := dk_172 (dk_at dksX0_seesTold_3 14 rfl rfl)
theorem dX0_seesTold_84 : decode cX0_seesTold 84 = .ok (.astore 5, 2) := dk_58 5 (dk_at dksX0_seesTold_3 15 rfl rfl)
theorem dX0_seesTold_86 : decode cX0_seesTold 86 = .ok (.ldc_w 299, 3) := dk_19 1 43 (dk_at dksX0_seesTold_3 17 rfl rfl)
theorem dX0_seesTold_89 : decode cX0_seesTold 89 = .ok (.aload_n 0, 1) := dk_42 (dk_at dksX0_seesTold_3 20 rfl rfl)
theorem dX0_seesTold_90 : decode cX0_seesTold 90 = .ok (.aload 5, 2) := dk_25 5 (dk_at dksX0_seesTold_3 21 rfl rfl)
theorem dX0_seesTold_92 : decode cX0_seesTold 92 = .ok (.invokevirtual 292, 3) := dk_182 1 36 (dk_at dksX0_seesTold_4 0 rfl rfl)
theorem dX0_seesTold_95 : decode cX0_seesTold 95 = .ok (.invokevirtual 295, 3) := dk_182 1 39 (dk_at dksX0_seesTold_4 3 rfl rfl)
theorem dX0_seesTold_98 : decode cX0_seesTold 98 = .ok (.isub, 1) := dk_100 (dk_at dksX0_seesTold_4 6 rfl rfl)
theorem dX0_seesTold_99 : decode cX0_seesTold 99 = .ok (.ireturn, 1) := dk_172 (dk_at dksX0_seesTold_4 7 rfl rfl)
abbrev cX0_gainsOfSeer : ByteArray := prog_1_method_20_code
def yX0_gainsOfSeer : MethodName := ⟨RX0, "gainsOfSeer", "(IIII)I"⟩
def dkwX0_gainsOfSeer_2 : List UInt8 := [25, 5, 25, 5, 180, 0, 177, 4, 100, 27, 182, 0, 245, 172]
abbrev dktX0_gainsOfSeer_2 : List UInt8 := dkwX0_gainsOfSeer_2 ++ []
def dkwX0_gainsOfSeer_1 : List UInt8 := [8, 50, 4, 3, 28, 29, 21, 4, 183, 0, 242, 83, 25, 5, 89, 180, 0, 177, 4, 96, 181, 0, 177, 42]
abbrev dktX0_gainsOfSeer_1 : List UInt8 := dkwX0_gainsOfSeer_1 ++ dktX0_gainsOfSeer_2
def dkwX0_gainsOfSeer_0 : List UInt8 := [42, 182, 0, 142, 58, 5, 25, 5, 180, 0, 180, 25, 5, 180, 0, 177, 187, 0, 185, 89, 42, 180, 0, 66]
abbrev dktX0_gainsOfSeer_0 : List UInt8 := dkwX0_gainsOfSeer_0 ++ dktX0_gainsOfSeer_1
theorem dksX0_gainsOfSeer_0 : cX0_gainsOfSeer.data.toList.drop 0 = dktX0_gainsOfSeer_0 := by decide +kernel
theorem dksX0_gainsOfSeer_1 : cX0_gainsOfSeer.data.toList.drop 24 = dktX0_gainsOfSeer_1 := dk_seg dksX0_gainsOfSeer_0 24 rfl rfl
theorem dksX0_gainsOfSeer_2 : cX0_gainsOfSeer.data.toList.drop 48 = dktX0_gainsOfSeer_2 := dk_seg dksX0_gainsOfSeer_1 24 rfl rfl
theorem dX0_gainsOfSeer_0 : decode cX0_gainsOfSeer 0 = .ok (.aload_n 0, 1) := dk_42 (dk_at dksX0_gainsOfSeer_0 0 rfl rfl)
theorem dX0_gainsOfSeer_1 : decode cX0_gainsOfSeer 1 = .ok (.invokevirtual 142, 3) := dk_182 0 142 (dk_at dksX0_gainsOfSeer_0 1 rfl rfl)
theorem dX0_gainsOfSeer_4 : decode cX0_gainsOfSeer 4 = .ok (.astore 5, 2) := dk_58 5 (dk_at dksX0_gainsOfSeer_0 4 rfl rfl)
theorem dX0_gainsOfSeer_6 : decode cX0_gainsOfSeer 6 = .ok (.aload 5, 2) := dk_25 5 (dk_at dksX0_gainsOfSeer_0 6 rfl rfl)
theorem dX0_gainsOfSeer_8 : decode cX0_gainsOfSeer 8 = .ok (.getfield 180, 3) := dk_180 0 180 (dk_at dksX0_gainsOfSeer_0 8 rfl rfl)
theorem dX0_gainsOfSeer_11 : decode cX0_gainsOfSeer 11 = .ok (.aload 5, 2) := dk_25 5 (dk_at dksX0_gainsOfSeer_0 11 rfl rfl)
theorem dX0_gainsOfSeer_13 : decode cX0_gainsOfSeer 13 = .ok (.getfield 177, 3) := dk_180 0 177 (dk_at dksX0_gainsOfSeer_0 13 rfl rfl)
theorem dX0_gainsOfSeer_16 : decode cX0_gainsOfSeer 16 = .ok (.new 185, 3) := dk_187 0 185 (dk_at dksX0_gainsOfSeer_0 16 rfl rfl)
theorem dX0_gainsOfSeer_19 : decode cX0_gainsOfSeer 19 = .ok (.dup, 1) := dk_89 (dk_at dksX0_gainsOfSeer_0 19 rfl rfl)
theorem dX0_gainsOfSeer_20 : decode cX0_gainsOfSeer 20 = .ok (.aload_n 0, 1) := dk_42 (dk_at dksX0_gainsOfSeer_0 20 rfl rfl)
theorem dX0_gainsOfSeer_21 : decode cX0_gainsOfSeer 21 = .ok (.getfield 66, 3) := dk_180 0 66 (dk_at dksX0_gainsOfSeer_0 21 rfl rfl)
theorem dX0_gainsOfSeer_24 : decode cX0_gainsOfSeer 24 = .ok (.iconst 5, 1) := dk_8 (dk_at dksX0_gainsOfSeer_1 0 rfl rfl)
theorem dX0_gainsOfSeer_25 : decode cX0_gainsOfSeer 25 = .ok (.aaload, 1) := dk_50 (dk_at dksX0_gainsOfSeer_1 1 rfl rfl)
theorem dX0_gainsOfSeer_26 : decode cX0_gainsOfSeer 26 = .ok (.iconst 1, 1) := dk_4 (dk_at dksX0_gainsOfSeer_1 2 rfl rfl)
theorem dX0_gainsOfSeer_27 : decode cX0_gainsOfSeer 27 = .ok (.iconst 0, 1) := dk_3 (dk_at dksX0_gainsOfSeer_1 3 rfl rfl)
theorem dX0_gainsOfSeer_28 : decode cX0_gainsOfSeer 28 = .ok (.iload_n 2, 1) := dk_28 (dk_at dksX0_gainsOfSeer_1 4 rfl rfl)
theorem dX0_gainsOfSeer_29 : decode cX0_gainsOfSeer 29 = .ok (.iload_n 3, 1) := dk_29 (dk_at dksX0_gainsOfSeer_1 5 rfl rfl)
theorem dX0_gainsOfSeer_30 : decode cX0_gainsOfSeer 30 = .ok (.iload 4, 2) := dk_21 4 (dk_at dksX0_gainsOfSeer_1 6 rfl rfl)
theorem dX0_gainsOfSeer_32 : decode cX0_gainsOfSeer 32 = .ok (.invokespecial 242, 3) := dk_183 0 242 (dk_at dksX0_gainsOfSeer_1 8 rfl rfl)
theorem dX0_gainsOfSeer_35 : decode cX0_gainsOfSeer 35 = .ok (.aastore, 1) := dk_83 (dk_at dksX0_gainsOfSeer_1 11 rfl rfl)
theorem dX0_gainsOfSeer_36 : decode cX0_gainsOfSeer 36 = .ok (.aload 5, 2) := dk_25 5 (dk_at dksX0_gainsOfSeer_1 12 rfl rfl)
theorem dX0_gainsOfSeer_38 : decode cX0_gainsOfSeer 38 = .ok (.dup, 1) := dk_89 (dk_at dksX0_gainsOfSeer_1 14 rfl rfl)
theorem dX0_gainsOfSeer_39 : decode cX0_gainsOfSeer 39 = .ok (.getfield 177, 3) := dk_180 0 177 (dk_at dksX0_gainsOfSeer_1 15 rfl rfl)
theorem dX0_gainsOfSeer_42 : decode cX0_gainsOfSeer 42 = .ok (.iconst 1, 1) := dk_4 (dk_at dksX0_gainsOfSeer_1 18 rfl rfl)
theorem dX0_gainsOfSeer_43 : decode cX0_gainsOfSeer 43 = .ok (.iadd, 1) := dk_96 (dk_at dksX0_gainsOfSeer_1 19 rfl rfl)
theorem dX0_gainsOfSeer_44 : decode cX0_gainsOfSeer 44 = .ok (.putfield 177, 3) := dk_181 0 177 (dk_at dksX0_gainsOfSeer_1 20 rfl rfl)
theorem dX0_gainsOfSeer_47 : decode cX0_gainsOfSeer 47 = .ok (.aload_n 0, 1) := dk_42 (dk_at dksX0_gainsOfSeer_1 23 rfl rfl)
theorem dX0_gainsOfSeer_48 : decode cX0_gainsOfSeer 48 = .ok (.aload 5, 2) := dk_25 5 (dk_at dksX0_gainsOfSeer_2 0 rfl rfl)
theorem dX0_gainsOfSeer_50 : decode cX0_gainsOfSeer 50 = .ok (.aload 5, 2) := dk_25 5 (dk_at dksX0_gainsOfSeer_2 2 rfl rfl)
theorem dX0_gainsOfSeer_52 : decode cX0_gainsOfSeer 52 = .ok (.getfield 177, 3) := dk_180 0 177 (dk_at dksX0_gainsOfSeer_2 4 rfl rfl)
theorem dX0_gainsOfSeer_55 : decode cX0_gainsOfSeer 55 = .ok (.iconst 1, 1) := dk_4 (dk_at dksX0_gainsOfSeer_2 7 rfl rfl)
theorem dX0_gainsOfSeer_56 : decode cX0_gainsOfSeer 56 = .ok (.isub, 1) := dk_100 (dk_at dksX0_gainsOfSeer_2 8 rfl rfl)
theorem dX0_gainsOfSeer_57 : decode cX0_gainsOfSeer 57 = .ok (.iload_n 1, 1) := dk_27 (dk_at dksX0_gainsOfSeer_2 9 rfl rfl)
theorem dX0_gainsOfSeer_58 : decode cX0_gainsOfSeer 58 = .ok (.invokevirtual 245, 3) := dk_182 0 245 (dk_at dksX0_gainsOfSeer_2 10 rfl rfl)
theorem dX0_gainsOfSeer_61 : decode cX0_gainsOfSeer 61 = .ok (.ireturn, 1) := dk_172 (dk_at dksX0_gainsOfSeer_2 13 rfl rfl)
abbrev cX0_which : ByteArray := prog_1_method_67_code
def yX0_which : MethodName := ⟨RX0, "which", "(I)I"⟩
def dkwX0_which_0 : List UInt8 := [42, 16, 22, 27, 3, 182, 1, 173, 172]
abbrev dktX0_which_0 : List UInt8 := dkwX0_which_0 ++ []
theorem dksX0_which_0 : cX0_which.data.toList.drop 0 = dktX0_which_0 := by decide +kernel
theorem dX0_which_0 : decode cX0_which 0 = .ok (.aload_n 0, 1) := dk_42 (dk_at dksX0_which_0 0 rfl rfl)
theorem dX0_which_1 : decode cX0_which 1 = .ok (.bipush 22, 2) := dk_16 22 (dk_at dksX0_which_0 1 rfl rfl)
theorem dX0_which_3 : decode cX0_which 3 = .ok (.iload_n 1, 1) := dk_27 (dk_at dksX0_which_0 3 rfl rfl)
theorem dX0_which_4 : decode cX0_which 4 = .ok (.iconst 0, 1) := dk_3 (dk_at dksX0_which_0 4 rfl rfl)
theorem dX0_which_5 : decode cX0_which 5 = .ok (.invokevirtual 429, 3) := dk_182 1 173 (dk_at dksX0_which_0 5 rfl rfl)
theorem dX0_which_8 : decode cX0_which 8 = .ok (.ireturn, 1) := dk_172 (dk_at dksX0_which_0 8 rfl rfl)
abbrev cX0_longer : ByteArray := prog_1_method_68_code
def yX0_longer : MethodName := ⟨RX0, "longer", "(I)I"⟩
def dkwX0_longer_0 : List UInt8 := [42, 16, 23, 27, 3, 182, 1, 173, 172]
abbrev dktX0_longer_0 : List UInt8 := dkwX0_longer_0 ++ []
theorem dksX0_longer_0 : cX0_longer.data.toList.drop 0 = dktX0_longer_0 := by decide +kernel
theorem dX0_longer_0 : decode cX0_longer 0 = .ok (.aload_n 0, 1) := dk_42 (dk_at dksX0_longer_0 0 rfl rfl)
theorem dX0_longer_1 : decode cX0_longer 1 = .ok (.bipush 23, 2) := dk_16 23 (dk_at dksX0_longer_0 1 rfl rfl)
theorem dX0_longer_3 : decode cX0_longer 3 = .ok (.iload_n 1, 1) := dk_27 (dk_at dksX0_longer_0 3 rfl rfl)
theorem dX0_longer_4 : decode cX0_longer 4 = .ok (.iconst 0, 1) := dk_3 (dk_at dksX0_longer_0 4 rfl rfl)
theorem dX0_longer_5 : decode cX0_longer 5 = .ok (.invokevirtual 429, 3) := dk_182 1 173 (dk_at dksX0_longer_0 5 rfl rfl)
theorem dX0_longer_8 : decode cX0_longer 8 = .ok (.ireturn, 1) := dk_172 (dk_at dksX0_longer_0 8 rfl rfl)
abbrev cX0_seeds : ByteArray := prog_1_method_69_code
def yX0_seeds : MethodName := ⟨RX0, "seeds", "(II)I"⟩
def dkwX0_seeds_0 : List UInt8 := [42, 16, 24, 27, 28, 182, 1, 173, 172]
abbrev dktX0_seeds_0 : List UInt8 := dkwX0_seeds_0 ++ []
theorem dksX0_seeds_0 : cX0_seeds.data.toList.drop 0 = dktX0_seeds_0 := by decide +kernel
theorem dX0_seeds_0 : decode cX0_seeds 0 = .ok (.aload_n 0, 1) := dk_42 (dk_at dksX0_seeds_0 0 rfl rfl)
theorem dX0_seeds_1 : decode cX0_seeds 1 = .ok (.bipush 24, 2) := dk_16 24 (dk_at dksX0_seeds_0 1 rfl rfl)
theorem dX0_seeds_3 : decode cX0_seeds 3 = .ok (.iload_n 1, 1) := dk_27 (dk_at dksX0_seeds_0 3 rfl rfl)
theorem dX0_seeds_4 : decode cX0_seeds 4 = .ok (.iload_n 2, 1) := dk_28 (dk_at dksX0_seeds_0 4 rfl rfl)
theorem dX0_seeds_5 : decode cX0_seeds 5 = .ok (.invokevirtual 429, 3) := dk_182 1 173 (dk_at dksX0_seeds_0 5 rfl rfl)
theorem dX0_seeds_8 : decode cX0_seeds 8 = .ok (.ireturn, 1) := dk_172 (dk_at dksX0_seeds_0 8 rfl rfl)
abbrev cX0_row : ByteArray := prog_1_method_70_code
def yX0_row : MethodName := ⟨RX0, "row", "(I)I"⟩
def dkwX0_row_0 : List UInt8 := [42, 16, 25, 27, 3, 182, 1, 173, 172]
abbrev dktX0_row_0 : List UInt8 := dkwX0_row_0 ++ []
theorem dksX0_row_0 : cX0_row.data.toList.drop 0 = dktX0_row_0 := by decide +kernel
theorem dX0_row_0 : decode cX0_row 0 = .ok (.aload_n 0, 1) := dk_42 (dk_at dksX0_row_0 0 rfl rfl)
theorem dX0_row_1 : decode cX0_row 1 = .ok (.bipush 25, 2) := dk_16 25 (dk_at dksX0_row_0 1 rfl rfl)
theorem dX0_row_3 : decode cX0_row 3 = .ok (.iload_n 1, 1) := dk_27 (dk_at dksX0_row_0 3 rfl rfl)
theorem dX0_row_4 : decode cX0_row 4 = .ok (.iconst 0, 1) := dk_3 (dk_at dksX0_row_0 4 rfl rfl)
theorem dX0_row_5 : decode cX0_row 5 = .ok (.invokevirtual 429, 3) := dk_182 1 173 (dk_at dksX0_row_0 5 rfl rfl)
theorem dX0_row_8 : decode cX0_row 8 = .ok (.ireturn, 1) := dk_172 (dk_at dksX0_row_0 8 rfl rfl)
abbrev cX0_judge : ByteArray := prog_1_method_71_code
def yX0_judge : MethodName := ⟨RX0, "judge", "()I"⟩
def dkwX0_judge_0 : List UInt8 := [42, 16, 26, 3, 3, 182, 1, 173, 172]
abbrev dktX0_judge_0 : List UInt8 := dkwX0_judge_0 ++ []
theorem dksX0_judge_0 : cX0_judge.data.toList.drop 0 = dktX0_judge_0 := by decide +kernel
theorem dX0_judge_0 : decode cX0_judge 0 = .ok (.aload_n 0, 1) := dk_42 (dk_at dksX0_judge_0 0 rfl rfl)
theorem dX0_judge_1 : decode cX0_judge 1 = .ok (.bipush 26, 2) := dk_16 26 (dk_at dksX0_judge_0 1 rfl rfl)
theorem dX0_judge_3 : decode cX0_judge 3 = .ok (.iconst 0, 1) := dk_3 (dk_at dksX0_judge_0 3 rfl rfl)
theorem dX0_judge_4 : decode cX0_judge 4 = .ok (.iconst 0, 1) := dk_3 (dk_at dksX0_judge_0 4 rfl rfl)
theorem dX0_judge_5 : decode cX0_judge 5 = .ok (.invokevirtual 429, 3) := dk_182 1 173 (dk_at dksX0_judge_0 5 rfl rfl)
theorem dX0_judge_8 : decode cX0_judge 8 = .ok (.ireturn, 1) := dk_172 (dk_at dksX0_judge_0 8 rfl rfl)
abbrev cX0_image : ByteArray := prog_1_method_72_code
def yX0_image : MethodName := ⟨RX0, "image", "()I"⟩
def dkwX0_image_0 : List UInt8 := [42, 16, 27, 3, 3, 182, 1, 173, 172]
abbrev dktX0_image_0 : List UInt8 := dkwX0_image_0 ++ []
theorem dksX0_image_0 : cX0_image.data.toList.drop 0 = dktX0_image_0 := by decide +kernel
theorem dX0_image_0 : decode cX0_image 0 = .ok (.aload_n 0, 1) := dk_42 (dk_at dksX0_image_0 0 rfl rfl)
theorem dX0_image_1 : decode cX0_image 1 = .ok (.bipush 27, 2) := dk_16 27 (dk_at dksX0_image_0 1 rfl rfl)
theorem dX0_image_3 : decode cX0_image 3 = .ok (.iconst 0, 1) := dk_3 (dk_at dksX0_image_0 3 rfl rfl)
theorem dX0_image_4 : decode cX0_image 4 = .ok (.iconst 0, 1) := dk_3 (dk_at dksX0_image_0 4 rfl rfl)
theorem dX0_image_5 : decode cX0_image 5 = .ok (.invokevirtual 429, 3) := dk_182 1 173 (dk_at dksX0_image_0 5 rfl rfl)
theorem dX0_image_8 : decode cX0_image 8 = .ok (.ireturn, 1) := dk_172 (dk_at dksX0_image_0 8 rfl rfl)
abbrev cX0_on : ByteArray := prog_1_method_73_code
def yX0_on : MethodName := ⟨RX0, "on", "()I"⟩
def dkwX0_on_0 : List UInt8 := [42, 16, 28, 3, 3, 182, 1, 173, 172]
abbrev dktX0_on_0 : List UInt8 := dkwX0_on_0 ++ []
theorem dksX0_on_0 : cX0_on.data.toList.drop 0 = dktX0_on_0 := by decide +kernel
theorem dX0_on_0 : decode cX0_on 0 = .ok (.aload_n 0, 1) := dk_42 (dk_at dksX0_on_0 0 rfl rfl)
theorem dX0_on_1 : decode cX0_on 1 = .ok (.bipush 28, 2) := dk_16 28 (dk_at dksX0_on_0 1 rfl rfl)
theorem dX0_on_3 : decode cX0_on 3 = .ok (.iconst 0, 1) := dk_3 (dk_at dksX0_on_0 3 rfl rfl)
theorem dX0_on_4 : decode cX0_on 4 = .ok (.iconst 0, 1) := dk_3 (dk_at dksX0_on_0 4 rfl rfl)
theorem dX0_on_5 : decode cX0_on 5 = .ok (.invokevirtual 429, 3) := dk_182 1 173 (dk_at dksX0_on_0 5 rfl rfl)
theorem dX0_on_8 : decode cX0_on 8 = .ok (.ireturn, 1) := dk_172 (dk_at dksX0_on_0 8 rfl rfl)
abbrev cX0_count : ByteArray := prog_1_method_74_code
def yX0_count : MethodName := ⟨RX0, "count", "(I)I"⟩
def dkwX0_count_5 : List UInt8 := [20, 1, 184, 184, 0, 13, 153, 0, 15, 42, 180, 0, 91, 27, 16, 10, 100, 46, 167, 0, 5, 16, 247, 172]
abbrev dktX0_count_5 : List UInt8 := dkwX0_count_5 ++ []
def dkwX0_count_4 : List UInt8 := [42, 180, 0, 73, 180, 0, 236, 172, 42, 180, 1, 18, 172, 42, 180, 0, 112, 172, 27, 133, 20, 1, 182]
abbrev dktX0_count_4 : List UInt8 := dkwX0_count_4 ++ dktX0_count_5
def dkwX0_count_3 : List UInt8 := [42, 180, 0, 73, 180, 0, 171, 172, 42, 180, 0, 73, 180, 1, 168, 172, 42, 180, 0, 73, 180, 1, 6, 172]
abbrev dktX0_count_3 : List UInt8 := dkwX0_count_3 ++ dktX0_count_4
def dkwX0_count_2 : List UInt8 := [42, 180, 0, 73, 180, 0, 177, 172, 42, 180, 0, 73, 180, 0, 252, 172, 42, 180, 0, 73, 182, 1, 15, 172]
abbrev dktX0_count_2 : List UInt8 := dkwX0_count_2 ++ dktX0_count_3
def dkwX0_count_1 : List UInt8 := [170, 0, 0, 0, 0, 0, 117, 0, 0, 0, 0, 0, 0, 0, 8, 0, 0, 0, 51, 0, 0, 0, 59, 0, 0, 0, 67, 0, 0, 0, 75, 0, 0, 0, 83, 0, 0, 0, 91, 0, 0, 0, 99, 0, 0, 0, 107, 0, 0, 0, 112]
abbrev dktX0_count_1 : List UInt8 := dkwX0_count_1 ++ dktX0_count_2
def dkwX0_count_0 : List UInt8 := [27]
abbrev dktX0_count_0 : List UInt8 := dkwX0_count_0 ++ dktX0_count_1
theorem dksX0_count_0 : cX0_count.data.toList.drop 0 = dktX0_count_0 := by decide +kernel
theorem dksX0_count_1 : cX0_count.data.toList.drop 1 = dktX0_count_1 := dk_seg dksX0_count_0 1 rfl rfl
theorem dksX0_count_2 : cX0_count.data.toList.drop 52 = dktX0_count_2 := dk_seg dksX0_count_1 51 rfl rfl
theorem dksX0_count_3 : cX0_count.data.toList.drop 76 = dktX0_count_3 := dk_seg dksX0_count_2 24 rfl rfl
theorem dksX0_count_4 : cX0_count.data.toList.drop 100 = dktX0_count_4 := dk_seg dksX0_count_3 24 rfl rfl
theorem dksX0_count_5 : cX0_count.data.toList.drop 123 = dktX0_count_5 := dk_seg dksX0_count_4 23 rfl rfl
theorem dX0_count_0 : decode cX0_count 0 = .ok (.iload_n 1, 1) := dk_27 (dk_at dksX0_count_0 0 rfl rfl)
theorem dX0_count_1 : decode cX0_count 1 = .ok (.tableswitch 117 0 8 #[51, 59, 67, 75, 83, 91, 99, 107, 112], 51) := by decide +kernel
theorem dX0_count_52 : decode cX0_count 52 = .ok (.aload_n 0, 1) := dk_42 (dk_at dksX0_count_2 0 rfl rfl)
theorem dX0_count_53 : decode cX0_count 53 = .ok (.getfield 73, 3) := dk_180 0 73 (dk_at dksX0_count_2 1 rfl rfl)
theorem dX0_count_56 : decode cX0_count 56 = .ok (.getfield 177, 3) := dk_180 0 177 (dk_at dksX0_count_2 4 rfl rfl)
theorem dX0_count_59 : decode cX0_count 59 = .ok (.ireturn, 1) := dk_172 (dk_at dksX0_count_2 7 rfl rfl)
theorem dX0_count_60 : decode cX0_count 60 = .ok (.aload_n 0, 1) := dk_42 (dk_at dksX0_count_2 8 rfl rfl)
theorem dX0_count_61 : decode cX0_count 61 = .ok (.getfield 73, 3) := dk_180 0 73 (dk_at dksX0_count_2 9 rfl rfl)
theorem dX0_count_64 : decode cX0_count 64 = .ok (.getfield 252, 3) := dk_180 0 252 (dk_at dksX0_count_2 12 rfl rfl)
theorem dX0_count_67 : decode cX0_count 67 = .ok (.ireturn, 1) := dk_172 (dk_at dksX0_count_2 15 rfl rfl)
theorem dX0_count_68 : decode cX0_count 68 = .ok (.aload_n 0, 1) := dk_42 (dk_at dksX0_count_2 16 rfl rfl)
theorem dX0_count_69 : decode cX0_count 69 = .ok (.getfield 73, 3) := dk_180 0 73 (dk_at dksX0_count_2 17 rfl rfl)
theorem dX0_count_72 : decode cX0_count 72 = .ok (.invokevirtual 271, 3) := dk_182 1 15 (dk_at dksX0_count_2 20 rfl rfl)
theorem dX0_count_75 : decode cX0_count 75 = .ok (.ireturn, 1) := dk_172 (dk_at dksX0_count_2 23 rfl rfl)
theorem dX0_count_76 : decode cX0_count 76 = .ok (.aload_n 0, 1) := dk_42 (dk_at dksX0_count_3 0 rfl rfl)
theorem dX0_count_77 : decode cX0_count 77 = .ok (.getfield 73, 3) := dk_180 0 73 (dk_at dksX0_count_3 1 rfl rfl)
theorem dX0_count_80 : decode cX0_count 80 = .ok (.getfield 171, 3) := dk_180 0 171 (dk_at dksX0_count_3 4 rfl rfl)
theorem dX0_count_83 : decode cX0_count 83 = .ok (.ireturn, 1) := dk_172 (dk_at dksX0_count_3 7 rfl rfl)
theorem dX0_count_84 : decode cX0_count 84 = .ok (.aload_n 0, 1) := dk_42 (dk_at dksX0_count_3 8 rfl rfl)
theorem dX0_count_85 : decode cX0_count 85 = .ok (.getfield 73, 3) := dk_180 0 73 (dk_at dksX0_count_3 9 rfl rfl)
theorem dX0_count_88 : decode cX0_count 88 = .ok (.getfield 424, 3) := dk_180 1 168 (dk_at dksX0_count_3 12 rfl rfl)
theorem dX0_count_91 : decode cX0_count 91 = .ok (.ireturn, 1) := dk_172 (dk_at dksX0_count_3 15 rfl rfl)
theorem dX0_count_92 : decode cX0_count 92 = .ok (.aload_n 0, 1) := dk_42 (dk_at dksX0_count_3 16 rfl rfl)
theorem dX0_count_93 : decode cX0_count 93 = .ok (.getfield 73, 3) := dk_180 0 73 (dk_at dksX0_count_3 17 rfl rfl)
theorem dX0_count_96 : decode cX0_count 96 = .ok (.getfield 262, 3) := dk_180 1 6 (dk_at dksX0_count_3 20 rfl rfl)
theorem dX0_count_99 : decode cX0_count 99 = .ok (.ireturn, 1) := dk_172 (dk_at dksX0_count_3 23 rfl rfl)
theorem dX0_count_100 : decode cX0_count 100 = .ok (.aload_n 0, 1) := dk_42 (dk_at dksX0_count_4 0 rfl rfl)
theorem dX0_count_101 : decode cX0_count 101 = .ok (.getfield 73, 3) := dk_180 0 73 (dk_at dksX0_count_4 1 rfl rfl)
theorem dX0_count_104 : decode cX0_count 104 = .ok (.getfield 236, 3) := dk_180 0 236 (dk_at dksX0_count_4 4 rfl rfl)
theorem dX0_count_107 : decode cX0_count 107 = .ok (.ireturn, 1) := dk_172 (dk_at dksX0_count_4 7 rfl rfl)
theorem dX0_count_108 : decode cX0_count 108 = .ok (.aload_n 0, 1) := dk_42 (dk_at dksX0_count_4 8 rfl rfl)
theorem dX0_count_109 : decode cX0_count 109 = .ok (.getfield 274, 3) := dk_180 1 18 (dk_at dksX0_count_4 9 rfl rfl)
theorem dX0_count_112 : decode cX0_count 112 = .ok (.ireturn, 1) := dk_172 (dk_at dksX0_count_4 12 rfl rfl)
theorem dX0_count_113 : decode cX0_count 113 = .ok (.aload_n 0, 1) := dk_42 (dk_at dksX0_count_4 13 rfl rfl)
theorem dX0_count_114 : decode cX0_count 114 = .ok (.getfield 112, 3) := dk_180 0 112 (dk_at dksX0_count_4 14 rfl rfl)
theorem dX0_count_117 : decode cX0_count 117 = .ok (.ireturn, 1) := dk_172 (dk_at dksX0_count_4 17 rfl rfl)
theorem dX0_count_118 : decode cX0_count 118 = .ok (.iload_n 1, 1) := dk_27 (dk_at dksX0_count_4 18 rfl rfl)
theorem dX0_count_119 : decode cX0_count 119 = .ok (.i2l, 1) := dk_133 (dk_at dksX0_count_4 19 rfl rfl)
theorem dX0_count_120 : decode cX0_count 120 = .ok (.ldc2_w 438, 3) := dk_20 1 182 (dk_at dksX0_count_4 20 rfl rfl)
theorem dX0_count_123 : decode cX0_count 123 = .ok (.ldc2_w 440, 3) := dk_20 1 184 (dk_at dksX0_count_5 0 rfl rfl)
theorem dX0_count_126 : decode cX0_count 126 = .ok (.invokestatic 13, 3) := dk_184 0 13 (dk_at dksX0_count_5 3 rfl rfl)
theorem dX0_count_129 : decode cX0_count 129 = .ok (.ifCond .eq 15, 3) := dk_153 0 15 (dk_at dksX0_count_5 6 rfl rfl)
theorem dX0_count_132 : decode cX0_count 132 = .ok (.aload_n 0, 1) := dk_42 (dk_at dksX0_count_5 9 rfl rfl)
theorem dX0_count_133 : decode cX0_count 133 = .ok (.getfield 91, 3) := dk_180 0 91 (dk_at dksX0_count_5 10 rfl rfl)
theorem dX0_count_136 : decode cX0_count 136 = .ok (.iload_n 1, 1) := dk_27 (dk_at dksX0_count_5 13 rfl rfl)
theorem dX0_count_137 : decode cX0_count 137 = .ok (.bipush 10, 2) := dk_16 10 (dk_at dksX0_count_5 14 rfl rfl)
theorem dX0_count_139 : decode cX0_count 139 = .ok (.isub, 1) := dk_100 (dk_at dksX0_count_5 16 rfl rfl)
theorem dX0_count_140 : decode cX0_count 140 = .ok (.iaload, 1) := dk_46 (dk_at dksX0_count_5 17 rfl rfl)
theorem dX0_count_141 : decode cX0_count 141 = .ok (.goto 5, 3) := dk_167 0 5 (dk_at dksX0_count_5 18 rfl rfl)
theorem dX0_count_144 : decode cX0_count 144 = .ok (.bipush (-9), 2) := dk_16 247 (dk_at dksX0_count_5 21 rfl rfl)
theorem dX0_count_146 : decode cX0_count 146 = .ok (.ireturn, 1) := dk_172 (dk_at dksX0_count_5 23 rfl rfl)
theorem q76 : (Jvm.Cond.initialized "GoodHalfEmpty") ∈ lw_all := lw_g (lw_at lw_m1 1 rfl) rfl
theorem q109 : (Jvm.Cond.instantiable "GoodHalfEmpty" (24 : Nat)) ∈ lw_all := lw_g (lw_at lw_m1 34 rfl) rfl
theorem q111 : (Jvm.Cond.instanceMethod ({ cls := "GoodHalfEmpty", name := "<init>", desc := "()V" } : Jvm.MethodName)) ∈ lw_all := lw_g (lw_at lw_m1 36 rfl) rfl
theorem q112 : (Jvm.Cond.code ({ cls := "GoodHalfEmpty", name := "<init>", desc := "()V" } : Jvm.MethodName) prog_1_method_5_code (1 : Nat) (Option.none : Option Jvm.ClassFile.FieldType)) ∈ lw_all := lw_g (lw_at lw_m1 37 rfl) rfl
theorem q113 : (Jvm.Cond.methodLink "GoodHalfEmpty" (17 : Nat) ({ cls := "java/lang/Object", name := "<init>", desc := "()V" } : Jvm.MethodName)) ∈ lw_all := lw_g (lw_at lw_m1 38 rfl) rfl
theorem q116 : (Jvm.Cond.classLink "GoodHalfEmpty" (22 : Nat) "GoodHalfEmpty$Rule") ∈ lw_all := lw_g (lw_at lw_m1 41 rfl) rfl
theorem q118 : (Jvm.Cond.classLink "GoodHalfEmpty" (24 : Nat) "GoodHalfEmpty$Last") ∈ lw_all := lw_g (lw_at lw_m1 43 rfl) rfl
theorem q120 : (Jvm.Cond.methodLinkNest "GoodHalfEmpty" (26 : Nat) ({ cls := "GoodHalfEmpty$Last", name := "<init>", desc := "()V" } : Jvm.MethodName) "GoodHalfEmpty") ∈ lw_tbl := lw_at lw_m1 45 rfl
theorem q128 : (Jvm.Cond.classLink "GoodHalfEmpty" (27 : Nat) "GoodHalfEmpty$OtherWay") ∈ lw_all := lw_g (lw_at lw_m1 53 rfl) rfl
theorem q130 : (Jvm.Cond.methodLinkNest "GoodHalfEmpty" (29 : Nat) ({ cls := "GoodHalfEmpty$OtherWay", name := "<init>", desc := "()V" } : Jvm.MethodName) "GoodHalfEmpty") ∈ lw_tbl := lw_at lw_m1 55 rfl
theorem q135 : (Jvm.Cond.classLink "GoodHalfEmpty" (30 : Nat) "GoodHalfEmpty$Mean") ∈ lw_all := lw_g (lw_at lw_m1 60 rfl) rfl
theorem q137 : (Jvm.Cond.methodLinkNest "GoodHalfEmpty" (32 : Nat) ({ cls := "GoodHalfEmpty$Mean", name := "<init>", desc := "()V" } : Jvm.MethodName) "GoodHalfEmpty") ∈ lw_tbl := lw_at lw_m1 62 rfl
theorem q142 : (Jvm.Cond.classLink "GoodHalfEmpty" (33 : Nat) "GoodHalfEmpty$Trend") ∈ lw_all := lw_g (lw_at lw_m1 67 rfl) rfl
theorem q144 : (Jvm.Cond.methodLinkNest "GoodHalfEmpty" (35 : Nat) ({ cls := "GoodHalfEmpty$Trend", name := "<init>", desc := "()V" } : Jvm.MethodName) "GoodHalfEmpty") ∈ lw_tbl := lw_at lw_m1 69 rfl
theorem q149 : (Jvm.Cond.classLink "GoodHalfEmpty" (36 : Nat) "GoodHalfEmpty$Below") ∈ lw_all := lw_g (lw_at lw_m1 74 rfl) rfl
theorem q151 : (Jvm.Cond.methodLinkNest "GoodHalfEmpty" (38 : Nat) ({ cls := "GoodHalfEmpty$Below", name := "<init>", desc := "()V" } : Jvm.MethodName) "GoodHalfEmpty") ∈ lw_tbl := lw_at lw_m1 76 rfl
theorem q156 : (Jvm.Cond.classLink "GoodHalfEmpty" (39 : Nat) "GoodHalfEmpty$Flat") ∈ lw_all := lw_g (lw_at lw_m1 81 rfl) rfl
theorem q158 : (Jvm.Cond.methodLinkNest "GoodHalfEmpty" (41 : Nat) ({ cls := "GoodHalfEmpty$Flat", name := "<init>", desc := "()V" } : Jvm.MethodName) "GoodHalfEmpty") ∈ lw_tbl := lw_at lw_m1 83 rfl
theorem q163 : (Jvm.Cond.classLink "GoodHalfEmpty" (46 : Nat) "GoodHalfEmpty$Goer") ∈ lw_all := lw_g (lw_at lw_m1 88 rfl) rfl
theorem q165 : (Jvm.Cond.classLink "GoodHalfEmpty" (48 : Nat) "GoodHalfEmpty$Always") ∈ lw_all := lw_g (lw_at lw_m1 90 rfl) rfl
theorem q167 : (Jvm.Cond.methodLinkNest "GoodHalfEmpty" (50 : Nat) ({ cls := "GoodHalfEmpty$Always", name := "<init>", desc := "()V" } : Jvm.MethodName) "GoodHalfEmpty") ∈ lw_tbl := lw_at lw_m1 92 rfl
theorem q175 : (Jvm.Cond.classLink "GoodHalfEmpty" (51 : Nat) "GoodHalfEmpty$Never") ∈ lw_all := lw_g (lw_at lw_m1 100 rfl) rfl
theorem q177 : (Jvm.Cond.methodLinkNest "GoodHalfEmpty" (53 : Nat) ({ cls := "GoodHalfEmpty$Never", name := "<init>", desc := "()V" } : Jvm.MethodName) "GoodHalfEmpty") ∈ lw_tbl := lw_at lw_m1 102 rfl
theorem q182 : (Jvm.Cond.classLink "GoodHalfEmpty" (54 : Nat) "GoodHalfEmpty$Ruler") ∈ lw_all := lw_g (lw_at lw_m1 107 rfl) rfl
theorem q184 : (Jvm.Cond.methodLinkNest "GoodHalfEmpty" (56 : Nat) ({ cls := "GoodHalfEmpty$Ruler", name := "<init>", desc := "()V" } : Jvm.MethodName) "GoodHalfEmpty") ∈ lw_tbl := lw_at lw_m1 109 rfl
theorem q189 : (Jvm.Cond.classLink "GoodHalfEmpty" (57 : Nat) "GoodHalfEmpty$Hat") ∈ lw_all := lw_g (lw_at lw_m1 114 rfl) rfl
theorem q191 : (Jvm.Cond.methodLinkNest "GoodHalfEmpty" (59 : Nat) ({ cls := "GoodHalfEmpty$Hat", name := "<init>", desc := "()V" } : Jvm.MethodName) "GoodHalfEmpty") ∈ lw_tbl := lw_at lw_m1 116 rfl
theorem q196 : (Jvm.Cond.classLink "GoodHalfEmpty" (60 : Nat) "GoodHalfEmpty$Turn") ∈ lw_all := lw_g (lw_at lw_m1 121 rfl) rfl
theorem q198 : (Jvm.Cond.methodLinkNest "GoodHalfEmpty" (62 : Nat) ({ cls := "GoodHalfEmpty$Turn", name := "<init>", desc := "()V" } : Jvm.MethodName) "GoodHalfEmpty") ∈ lw_tbl := lw_at lw_m1 123 rfl
theorem q203 : (Jvm.Cond.classLink "GoodHalfEmpty" (63 : Nat) "GoodHalfEmpty$Seer") ∈ lw_all := lw_g (lw_at lw_m1 128 rfl) rfl
theorem q205 : (Jvm.Cond.methodLinkNest "GoodHalfEmpty" (65 : Nat) ({ cls := "GoodHalfEmpty$Seer", name := "<init>", desc := "()V" } : Jvm.MethodName) "GoodHalfEmpty") ∈ lw_tbl := lw_at lw_m1 130 rfl
theorem q210 : (Jvm.Cond.classLink "GoodHalfEmpty" (70 : Nat) "GoodHalfEmpty$Town") ∈ lw_all := lw_g (lw_at lw_m1 135 rfl) rfl
theorem q212 : (Jvm.Cond.methodLinkNest "GoodHalfEmpty" (72 : Nat) ({ cls := "GoodHalfEmpty$Town", name := "<init>", desc := "()V" } : Jvm.MethodName) "GoodHalfEmpty") ∈ lw_tbl := lw_at lw_m1 137 rfl
theorem q223 : (Jvm.Cond.fieldLinkNest "GoodHalfEmpty" (171 : Nat) "GoodHalfEmpty$Town" "chairs" "I" "GoodHalfEmpty") ∈ lw_tbl := lw_at lw_m1 148 rfl
theorem q226 : (Jvm.Cond.fieldLinkNest "GoodHalfEmpty" (177 : Nat) "GoodHalfEmpty$Town" "sorts" "I" "GoodHalfEmpty") ∈ lw_tbl := lw_at lw_m1 151 rfl
theorem q229 : (Jvm.Cond.fieldLinkNest "GoodHalfEmpty" (180 : Nat) "GoodHalfEmpty$Town" "sort" "[LGoodHalfEmpty$Sort;" "GoodHalfEmpty") ∈ lw_tbl := lw_at lw_m1 154 rfl
theorem q234 : (Jvm.Cond.fieldLinkNest "GoodHalfEmpty" (252 : Nat) "GoodHalfEmpty$Town" "rules" "I" "GoodHalfEmpty") ∈ lw_tbl := lw_at lw_m1 159 rfl
theorem q237 : (Jvm.Cond.fieldLinkNest "GoodHalfEmpty" (334 : Nat) "GoodHalfEmpty$Town" "rule" "[LGoodHalfEmpty$Rule;" "GoodHalfEmpty") ∈ lw_tbl := lw_at lw_m1 162 rfl
theorem q240 : (Jvm.Cond.fieldLinkNest "GoodHalfEmpty" (255 : Nat) "GoodHalfEmpty$Town" "spans" "[I" "GoodHalfEmpty") ∈ lw_tbl := lw_at lw_m1 165 rfl
theorem q244 : (Jvm.Cond.fieldLinkNest "GoodHalfEmpty" (338 : Nat) "GoodHalfEmpty$Town" "right" "[I" "GoodHalfEmpty") ∈ lw_tbl := lw_at lw_m1 169 rfl
theorem q246 : (Jvm.Cond.fieldLinkNest "GoodHalfEmpty" (262 : Nat) "GoodHalfEmpty$Town" "weeks" "I" "GoodHalfEmpty") ∈ lw_tbl := lw_at lw_m1 171 rfl
theorem q248 : (Jvm.Cond.fieldLinkNest "GoodHalfEmpty" (267 : Nat) "GoodHalfEmpty$Town" "memory" "[I" "GoodHalfEmpty") ∈ lw_tbl := lw_at lw_m1 173 rfl
theorem q251 : (Jvm.Cond.fieldLinkNest "GoodHalfEmpty" (424 : Nat) "GoodHalfEmpty$Town" "number" "I" "GoodHalfEmpty") ∈ lw_tbl := lw_at lw_m1 176 rfl
theorem q253 : (Jvm.Cond.fieldLinkNest "GoodHalfEmpty" (236 : Nat) "GoodHalfEmpty$Town" "penny" "I" "GoodHalfEmpty") ∈ lw_tbl := lw_at lw_m1 178 rfl
theorem q257 : (Jvm.Cond.fieldLinkNest "GoodHalfEmpty" (347 : Nat) "GoodHalfEmpty$Town" "go" "[Z" "GoodHalfEmpty") ∈ lw_tbl := lw_at lw_m1 182 rfl
theorem q290 : (Jvm.Cond.fieldLink "GoodHalfEmpty" (42 : Nat) "GoodHalfEmpty" "ruleKinds" "[LGoodHalfEmpty$Rule;") ∈ lw_all := lw_g (lw_at lw_m1 215 rfl) rfl
theorem q292 : (Jvm.Cond.fieldLink "GoodHalfEmpty" (66 : Nat) "GoodHalfEmpty" "goerKinds" "[LGoodHalfEmpty$Goer;") ∈ lw_all := lw_g (lw_at lw_m1 217 rfl) rfl
theorem q294 : (Jvm.Cond.fieldLink "GoodHalfEmpty" (73 : Nat) "GoodHalfEmpty" "town" "LGoodHalfEmpty$Town;") ∈ lw_all := lw_g (lw_at lw_m1 219 rfl) rfl
theorem q295 : (Jvm.Cond.fieldLink "GoodHalfEmpty" (77 : Nat) "GoodHalfEmpty" "mind" "LGoodHalfEmpty$Town;") ∈ lw_all := lw_g (lw_at lw_m1 220 rfl) rfl
theorem q296 : (Jvm.Cond.fieldLink "GoodHalfEmpty" (80 : Nat) "GoodHalfEmpty" "imaged" "LGoodHalfEmpty$Town;") ∈ lw_all := lw_g (lw_at lw_m1 221 rfl) rfl
theorem q297 : (Jvm.Cond.fieldLink "GoodHalfEmpty" (420 : Nat) "GoodHalfEmpty" "hasImage" "Z") ∈ lw_all := lw_g (lw_at lw_m1 222 rfl) rfl
theorem q298 : (Jvm.Cond.fieldLink "GoodHalfEmpty" (83 : Nat) "GoodHalfEmpty" "row" "[B") ∈ lw_all := lw_g (lw_at lw_m1 223 rfl) rfl
theorem q299 : (Jvm.Cond.fieldLink "GoodHalfEmpty" (274 : Nat) "GoodHalfEmpty" "rowMany" "I") ∈ lw_all := lw_g (lw_at lw_m1 224 rfl) rfl
theorem q301 : (Jvm.Cond.fieldLink "GoodHalfEmpty" (87 : Nat) "GoodHalfEmpty" "letters" "[C") ∈ lw_all := lw_g (lw_at lw_m1 226 rfl) rfl
theorem q303 : (Jvm.Cond.fieldLink "GoodHalfEmpty" (112 : Nat) "GoodHalfEmpty" "letterMany" "I") ∈ lw_all := lw_g (lw_at lw_m1 228 rfl) rfl
theorem q304 : (Jvm.Cond.fieldLink "GoodHalfEmpty" (91 : Nat) "GoodHalfEmpty" "refused" "[I") ∈ lw_all := lw_g (lw_at lw_m1 229 rfl) rfl
theorem q305 : (Jvm.Cond.fieldLink "GoodHalfEmpty" (150 : Nat) "GoodHalfEmpty" "sumOf" "I") ∈ lw_all := lw_g (lw_at lw_m1 230 rfl) rfl
theorem q306 : (Jvm.Cond.fieldLink "GoodHalfEmpty" (156 : Nat) "GoodHalfEmpty" "mostOf" "I") ∈ lw_all := lw_g (lw_at lw_m1 231 rfl) rfl
theorem q307 : (Jvm.Cond.fieldLink "GoodHalfEmpty" (165 : Nat) "GoodHalfEmpty" "leastOf" "I") ∈ lw_all := lw_g (lw_at lw_m1 232 rfl) rfl
theorem q308 : (Jvm.Cond.fieldLink "GoodHalfEmpty" (153 : Nat) "GoodHalfEmpty" "goodOf" "I") ∈ lw_all := lw_g (lw_at lw_m1 233 rfl) rfl
theorem q309 : (Jvm.Cond.fieldLink "GoodHalfEmpty" (95 : Nat) "GoodHalfEmpty" "ahead" "[I") ∈ lw_all := lw_g (lw_at lw_m1 234 rfl) rfl
theorem q310 : (Jvm.Cond.fieldLink "GoodHalfEmpty" (98 : Nat) "GoodHalfEmpty" "plan" "[I") ∈ lw_all := lw_g (lw_at lw_m1 235 rfl) rfl
theorem q311 : (Jvm.Cond.fieldLink "GoodHalfEmpty" (101 : Nat) "GoodHalfEmpty" "firstPlan" "[I") ∈ lw_all := lw_g (lw_at lw_m1 236 rfl) rfl
theorem q312 : (Jvm.Cond.fieldLink "GoodHalfEmpty" (196 : Nat) "GoodHalfEmpty" "restMany" "I") ∈ lw_all := lw_g (lw_at lw_m1 237 rfl) rfl
theorem q313 : (Jvm.Cond.fieldLink "GoodHalfEmpty" (224 : Nat) "GoodHalfEmpty" "restPresent" "I") ∈ lw_all := lw_g (lw_at lw_m1 238 rfl) rfl
theorem q314 : (Jvm.Cond.fieldLink "GoodHalfEmpty" (227 : Nat) "GoodHalfEmpty" "restMost" "I") ∈ lw_all := lw_g (lw_at lw_m1 239 rfl) rfl
theorem q315 : (Jvm.Cond.fieldLink "GoodHalfEmpty" (206 : Nat) "GoodHalfEmpty" "planMost" "I") ∈ lw_all := lw_g (lw_at lw_m2 0 rfl) rfl
theorem q316 : (Jvm.Cond.fieldLink "GoodHalfEmpty" (209 : Nat) "GoodHalfEmpty" "planPresent" "I") ∈ lw_all := lw_g (lw_at lw_m2 1 rfl) rfl
theorem q317 : (Jvm.Cond.fieldLink "GoodHalfEmpty" (104 : Nat) "GoodHalfEmpty" "rights" "[I") ∈ lw_all := lw_g (lw_at lw_m2 2 rfl) rfl
theorem q318 : (Jvm.Cond.laysFinal "GoodHalfEmpty" "GoodHalfEmpty" "ruleKinds" "[LGoodHalfEmpty$Rule;") ∈ lw_all := lw_g (lw_at lw_m2 3 rfl) rfl
theorem q319 : (Jvm.Cond.soleField "GoodHalfEmpty" "ruleKinds") ∈ lw_all := lw_g (lw_at lw_m2 4 rfl) rfl
theorem q320 : (Jvm.Cond.laysFinal "GoodHalfEmpty" "GoodHalfEmpty" "goerKinds" "[LGoodHalfEmpty$Goer;") ∈ lw_all := lw_g (lw_at lw_m2 5 rfl) rfl
theorem q321 : (Jvm.Cond.soleField "GoodHalfEmpty" "goerKinds") ∈ lw_all := lw_g (lw_at lw_m2 6 rfl) rfl
theorem q322 : (Jvm.Cond.laysFinal "GoodHalfEmpty" "GoodHalfEmpty" "town" "LGoodHalfEmpty$Town;") ∈ lw_all := lw_g (lw_at lw_m2 7 rfl) rfl
theorem q323 : (Jvm.Cond.soleField "GoodHalfEmpty" "town") ∈ lw_all := lw_g (lw_at lw_m2 8 rfl) rfl
theorem q324 : (Jvm.Cond.laysFinal "GoodHalfEmpty" "GoodHalfEmpty" "mind" "LGoodHalfEmpty$Town;") ∈ lw_all := lw_g (lw_at lw_m2 9 rfl) rfl
theorem q325 : (Jvm.Cond.soleField "GoodHalfEmpty" "mind") ∈ lw_all := lw_g (lw_at lw_m2 10 rfl) rfl
theorem q326 : (Jvm.Cond.laysFinal "GoodHalfEmpty" "GoodHalfEmpty" "imaged" "LGoodHalfEmpty$Town;") ∈ lw_all := lw_g (lw_at lw_m2 11 rfl) rfl
theorem q327 : (Jvm.Cond.soleField "GoodHalfEmpty" "imaged") ∈ lw_all := lw_g (lw_at lw_m2 12 rfl) rfl
theorem q328 : (Jvm.Cond.lays "GoodHalfEmpty" "GoodHalfEmpty" "hasImage" "Z") ∈ lw_all := lw_g (lw_at lw_m2 13 rfl) rfl
theorem q329 : (Jvm.Cond.soleField "GoodHalfEmpty" "hasImage") ∈ lw_all := lw_g (lw_at lw_m2 14 rfl) rfl
theorem q330 : (Jvm.Cond.laysFinal "GoodHalfEmpty" "GoodHalfEmpty" "row" "[B") ∈ lw_all := lw_g (lw_at lw_m2 15 rfl) rfl
theorem q331 : (Jvm.Cond.soleField "GoodHalfEmpty" "row") ∈ lw_all := lw_g (lw_at lw_m2 16 rfl) rfl
theorem q332 : (Jvm.Cond.lays "GoodHalfEmpty" "GoodHalfEmpty" "rowMany" "I") ∈ lw_all := lw_g (lw_at lw_m2 17 rfl) rfl
theorem q333 : (Jvm.Cond.soleField "GoodHalfEmpty" "rowMany") ∈ lw_all := lw_g (lw_at lw_m2 18 rfl) rfl
theorem q334 : (Jvm.Cond.laysFinal "GoodHalfEmpty" "GoodHalfEmpty" "letters" "[C") ∈ lw_all := lw_g (lw_at lw_m2 19 rfl) rfl
theorem q335 : (Jvm.Cond.soleField "GoodHalfEmpty" "letters") ∈ lw_all := lw_g (lw_at lw_m2 20 rfl) rfl
theorem q336 : (Jvm.Cond.lays "GoodHalfEmpty" "GoodHalfEmpty" "letterMany" "I") ∈ lw_all := lw_g (lw_at lw_m2 21 rfl) rfl
theorem q337 : (Jvm.Cond.soleField "GoodHalfEmpty" "letterMany") ∈ lw_all := lw_g (lw_at lw_m2 22 rfl) rfl
theorem q338 : (Jvm.Cond.laysFinal "GoodHalfEmpty" "GoodHalfEmpty" "refused" "[I") ∈ lw_all := lw_g (lw_at lw_m2 23 rfl) rfl
theorem q339 : (Jvm.Cond.soleField "GoodHalfEmpty" "refused") ∈ lw_all := lw_g (lw_at lw_m2 24 rfl) rfl
theorem q340 : (Jvm.Cond.lays "GoodHalfEmpty" "GoodHalfEmpty" "sumOf" "I") ∈ lw_all := lw_g (lw_at lw_m2 25 rfl) rfl
theorem q341 : (Jvm.Cond.soleField "GoodHalfEmpty" "sumOf") ∈ lw_all := lw_g (lw_at lw_m2 26 rfl) rfl
theorem q342 : (Jvm.Cond.lays "GoodHalfEmpty" "GoodHalfEmpty" "mostOf" "I") ∈ lw_all := lw_g (lw_at lw_m2 27 rfl) rfl
theorem q343 : (Jvm.Cond.soleField "GoodHalfEmpty" "mostOf") ∈ lw_all := lw_g (lw_at lw_m2 28 rfl) rfl
theorem q344 : (Jvm.Cond.lays "GoodHalfEmpty" "GoodHalfEmpty" "leastOf" "I") ∈ lw_all := lw_g (lw_at lw_m2 29 rfl) rfl
theorem q345 : (Jvm.Cond.soleField "GoodHalfEmpty" "leastOf") ∈ lw_all := lw_g (lw_at lw_m2 30 rfl) rfl
theorem q346 : (Jvm.Cond.lays "GoodHalfEmpty" "GoodHalfEmpty" "goodOf" "I") ∈ lw_all := lw_g (lw_at lw_m2 31 rfl) rfl
theorem q347 : (Jvm.Cond.soleField "GoodHalfEmpty" "goodOf") ∈ lw_all := lw_g (lw_at lw_m2 32 rfl) rfl
theorem q348 : (Jvm.Cond.laysFinal "GoodHalfEmpty" "GoodHalfEmpty" "ahead" "[I") ∈ lw_all := lw_g (lw_at lw_m2 33 rfl) rfl
theorem q349 : (Jvm.Cond.soleField "GoodHalfEmpty" "ahead") ∈ lw_all := lw_g (lw_at lw_m2 34 rfl) rfl
theorem q350 : (Jvm.Cond.laysFinal "GoodHalfEmpty" "GoodHalfEmpty" "plan" "[I") ∈ lw_all := lw_g (lw_at lw_m2 35 rfl) rfl
theorem q351 : (Jvm.Cond.soleField "GoodHalfEmpty" "plan") ∈ lw_all := lw_g (lw_at lw_m2 36 rfl) rfl
theorem q352 : (Jvm.Cond.laysFinal "GoodHalfEmpty" "GoodHalfEmpty" "firstPlan" "[I") ∈ lw_all := lw_g (lw_at lw_m2 37 rfl) rfl
theorem q353 : (Jvm.Cond.soleField "GoodHalfEmpty" "firstPlan") ∈ lw_all := lw_g (lw_at lw_m2 38 rfl) rfl
theorem q354 : (Jvm.Cond.lays "GoodHalfEmpty" "GoodHalfEmpty" "restMany" "I") ∈ lw_all := lw_g (lw_at lw_m2 39 rfl) rfl
theorem q355 : (Jvm.Cond.soleField "GoodHalfEmpty" "restMany") ∈ lw_all := lw_g (lw_at lw_m2 40 rfl) rfl
theorem q356 : (Jvm.Cond.lays "GoodHalfEmpty" "GoodHalfEmpty" "restPresent" "I") ∈ lw_all := lw_g (lw_at lw_m2 41 rfl) rfl
theorem q357 : (Jvm.Cond.soleField "GoodHalfEmpty" "restPresent") ∈ lw_all := lw_g (lw_at lw_m2 42 rfl) rfl
theorem q358 : (Jvm.Cond.lays "GoodHalfEmpty" "GoodHalfEmpty" "restMost" "I") ∈ lw_all := lw_g (lw_at lw_m2 43 rfl) rfl
theorem q359 : (Jvm.Cond.soleField "GoodHalfEmpty" "restMost") ∈ lw_all := lw_g (lw_at lw_m2 44 rfl) rfl
theorem q360 : (Jvm.Cond.lays "GoodHalfEmpty" "GoodHalfEmpty" "planMost" "I") ∈ lw_all := lw_g (lw_at lw_m2 45 rfl) rfl
theorem q361 : (Jvm.Cond.soleField "GoodHalfEmpty" "planMost") ∈ lw_all := lw_g (lw_at lw_m2 46 rfl) rfl
theorem q362 : (Jvm.Cond.lays "GoodHalfEmpty" "GoodHalfEmpty" "planPresent" "I") ∈ lw_all := lw_g (lw_at lw_m2 47 rfl) rfl
theorem q363 : (Jvm.Cond.soleField "GoodHalfEmpty" "planPresent") ∈ lw_all := lw_g (lw_at lw_m2 48 rfl) rfl
theorem q364 : (Jvm.Cond.laysFinal "GoodHalfEmpty" "GoodHalfEmpty" "rights" "[I") ∈ lw_all := lw_g (lw_at lw_m2 49 rfl) rfl
theorem q365 : (Jvm.Cond.soleField "GoodHalfEmpty" "rights") ∈ lw_all := lw_g (lw_at lw_m2 50 rfl) rfl
theorem q366 : (Jvm.Cond.superclass "GoodHalfEmpty" "java/lang/Object") ∈ lw_all := lw_g (lw_at lw_m2 51 rfl) rfl
theorem q370 : (Jvm.Cond.instanceMethod ({ cls := "GoodHalfEmpty", name := "letter", desc := "(I)I" } : Jvm.MethodName)) ∈ lw_all := lw_g (lw_at lw_m2 55 rfl) rfl
theorem q371 : (Jvm.Cond.selects "GoodHalfEmpty" ({ cls := "GoodHalfEmpty", name := "letter", desc := "(I)I" } : Jvm.MethodName) ({ cls := "GoodHalfEmpty", name := "letter", desc := "(I)I" } : Jvm.MethodName)) ∈ lw_all := lw_g (lw_at lw_m2 56 rfl) rfl
theorem q372 : (Jvm.Cond.code ({ cls := "GoodHalfEmpty", name := "letter", desc := "(I)I" } : Jvm.MethodName) prog_1_method_44_code (2 : Nat) (Option.some Jvm.ClassFile.FieldType.int)) ∈ lw_all := lw_g (lw_at lw_m2 57 rfl) rfl
theorem q373 : (Jvm.Cond.methodLink "GoodHalfEmpty" (429 : Nat) ({ cls := "GoodHalfEmpty", name := "act", desc := "(III)I" } : Jvm.MethodName)) ∈ lw_all := lw_g (lw_at lw_m2 58 rfl) rfl
theorem q374 : (Jvm.Cond.privateMethod ({ cls := "GoodHalfEmpty", name := "act", desc := "(III)I" } : Jvm.MethodName)) ∈ lw_tbl := lw_at lw_m2 59 rfl
theorem q375 : (Jvm.Cond.instanceMethod ({ cls := "GoodHalfEmpty", name := "act", desc := "(III)I" } : Jvm.MethodName)) ∈ lw_all := lw_g (lw_at lw_m2 60 rfl) rfl
theorem q376 : (Jvm.Cond.codeWith ({ cls := "GoodHalfEmpty", name := "act", desc := "(III)I" } : Jvm.MethodName) prog_1_method_27_code (5 : Nat) (Option.some Jvm.ClassFile.FieldType.int) [((0 : Nat), (7 : Nat), (8 : Nat), (290 : Nat))]) ∈ lw_all := lw_g (lw_at lw_m2 61 rfl) rfl
theorem q377 : (Jvm.Cond.classLink "GoodHalfEmpty" (290 : Nat) "GoodHalfEmpty$Refusal") ∈ lw_all := lw_g (lw_at lw_m2 62 rfl) rfl
theorem q378 : (Jvm.Cond.methodLink "GoodHalfEmpty" (287 : Nat) ({ cls := "GoodHalfEmpty", name := "doIt", desc := "(III)I" } : Jvm.MethodName)) ∈ lw_all := lw_g (lw_at lw_m2 63 rfl) rfl
theorem q379 : (Jvm.Cond.privateMethod ({ cls := "GoodHalfEmpty", name := "doIt", desc := "(III)I" } : Jvm.MethodName)) ∈ lw_tbl := lw_at lw_m2 64 rfl
theorem q380 : (Jvm.Cond.instanceMethod ({ cls := "GoodHalfEmpty", name := "doIt", desc := "(III)I" } : Jvm.MethodName)) ∈ lw_all := lw_g (lw_at lw_m2 65 rfl) rfl
theorem q381 : (Jvm.Cond.code ({ cls := "GoodHalfEmpty", name := "doIt", desc := "(III)I" } : Jvm.MethodName) prog_1_method_26_code (4 : Nat) (Option.some Jvm.ClassFile.FieldType.int)) ∈ lw_all := lw_g (lw_at lw_m2 66 rfl) rfl
theorem q382 : (Jvm.Cond.methodLink "GoodHalfEmpty" (277 : Nat) ({ cls := "GoodHalfEmpty", name := "ofTown", desc := "(III)I" } : Jvm.MethodName)) ∈ lw_all := lw_g (lw_at lw_m2 67 rfl) rfl
theorem q383 : (Jvm.Cond.privateMethod ({ cls := "GoodHalfEmpty", name := "ofTown", desc := "(III)I" } : Jvm.MethodName)) ∈ lw_tbl := lw_at lw_m2 68 rfl
theorem q384 : (Jvm.Cond.instanceMethod ({ cls := "GoodHalfEmpty", name := "ofTown", desc := "(III)I" } : Jvm.MethodName)) ∈ lw_all := lw_g (lw_at lw_m2 69 rfl) rfl
theorem q385 : (Jvm.Cond.code ({ cls := "GoodHalfEmpty", name := "ofTown", desc := "(III)I" } : Jvm.MethodName) prog_1_method_36_code (5 : Nat) (Option.some Jvm.ClassFile.FieldType.int)) ∈ lw_all := lw_g (lw_at lw_m2 70 rfl) rfl
theorem q386 : (Jvm.Cond.methodLink "GoodHalfEmpty" (351 : Nat) ({ cls := "GoodHalfEmpty", name := "letterIt", desc := "(I)I" } : Jvm.MethodName)) ∈ lw_all := lw_g (lw_at lw_m2 71 rfl) rfl
theorem q387 : (Jvm.Cond.privateMethod ({ cls := "GoodHalfEmpty", name := "letterIt", desc := "(I)I" } : Jvm.MethodName)) ∈ lw_tbl := lw_at lw_m2 72 rfl
theorem q388 : (Jvm.Cond.instanceMethod ({ cls := "GoodHalfEmpty", name := "letterIt", desc := "(I)I" } : Jvm.MethodName)) ∈ lw_all := lw_g (lw_at lw_m2 73 rfl) rfl
theorem q389 : (Jvm.Cond.code ({ cls := "GoodHalfEmpty", name := "letterIt", desc := "(I)I" } : Jvm.MethodName) prog_1_method_31_code (2 : Nat) (Option.some Jvm.ClassFile.FieldType.int)) ∈ lw_all := lw_g (lw_at lw_m2 74 rfl) rfl
theorem q390 : (Jvm.Cond.constantLong "GoodHalfEmpty" (309 : Nat) (255 : Int64)) ∈ lw_all := lw_g (lw_at lw_m2 75 rfl) rfl
theorem q391 : (Jvm.Cond.methodLink "GoodHalfEmpty" (305 : Nat) ({ cls := "GoodHalfEmpty", name := "within", desc := "(JJJ)V" } : Jvm.MethodName)) ∈ lw_all := lw_g (lw_at lw_m2 76 rfl) rfl
theorem q392 : (Jvm.Cond.static ({ cls := "GoodHalfEmpty", name := "within", desc := "(JJJ)V" } : Jvm.MethodName)) ∈ lw_all := lw_g (lw_at lw_m2 77 rfl) rfl
theorem q393 : (Jvm.Cond.code ({ cls := "GoodHalfEmpty", name := "within", desc := "(JJJ)V" } : Jvm.MethodName) prog_1_method_3_code (6 : Nat) (Option.none : Option Jvm.ClassFile.FieldType)) ∈ lw_all := lw_g (lw_at lw_m2 78 rfl) rfl
theorem q394 : (Jvm.Cond.methodLink "GoodHalfEmpty" (9 : Nat) ({ cls := "GoodHalfEmpty", name := "must", desc := "(ZI)V" } : Jvm.MethodName)) ∈ lw_all := lw_g (lw_at lw_m2 79 rfl) rfl
theorem q395 : (Jvm.Cond.static ({ cls := "GoodHalfEmpty", name := "must", desc := "(ZI)V" } : Jvm.MethodName)) ∈ lw_all := lw_g (lw_at lw_m2 80 rfl) rfl
theorem q396 : (Jvm.Cond.code ({ cls := "GoodHalfEmpty", name := "must", desc := "(ZI)V" } : Jvm.MethodName) prog_1_method_2_code (2 : Nat) (Option.none : Option Jvm.ClassFile.FieldType)) ∈ lw_all := lw_g (lw_at lw_m2 81 rfl) rfl
theorem q397 : (Jvm.Cond.classLink "GoodHalfEmpty" (1 : Nat) "GoodHalfEmpty$Refused") ∈ lw_all := lw_g (lw_at lw_m2 82 rfl) rfl
theorem q438 : (Jvm.Cond.methodLink "GoodHalfEmpty" (3 : Nat) ({ cls := "GoodHalfEmpty$Refused", name := "<init>", desc := "(I)V" } : Jvm.MethodName)) ∈ lw_all := lw_g (lw_at lw_m2 123 rfl) rfl
theorem q466 : (Jvm.Cond.methodLink "GoodHalfEmpty" (354 : Nat) ({ cls := "GoodHalfEmpty", name := "readTown", desc := "()I" } : Jvm.MethodName)) ∈ lw_all := lw_g (lw_at lw_m2 151 rfl) rfl
theorem q467 : (Jvm.Cond.privateMethod ({ cls := "GoodHalfEmpty", name := "readTown", desc := "()I" } : Jvm.MethodName)) ∈ lw_tbl := lw_at lw_m2 152 rfl
theorem q468 : (Jvm.Cond.instanceMethod ({ cls := "GoodHalfEmpty", name := "readTown", desc := "()I" } : Jvm.MethodName)) ∈ lw_all := lw_g (lw_at lw_m2 153 rfl) rfl
theorem q469 : (Jvm.Cond.code ({ cls := "GoodHalfEmpty", name := "readTown", desc := "()I" } : Jvm.MethodName) prog_1_method_6_code (5 : Nat) (Option.some Jvm.ClassFile.FieldType.int)) ∈ lw_all := lw_g (lw_at lw_m2 154 rfl) rfl
theorem q470 : (Jvm.Cond.classLink "GoodHalfEmpty" (107 : Nat) "GoodHalfEmpty$Reader") ∈ lw_all := lw_g (lw_at lw_m2 155 rfl) rfl
theorem q472 : (Jvm.Cond.methodLinkNest "GoodHalfEmpty" (109 : Nat) ({ cls := "GoodHalfEmpty$Reader", name := "<init>", desc := "(LGoodHalfEmpty;)V" } : Jvm.MethodName) "GoodHalfEmpty") ∈ lw_tbl := lw_at lw_m2 157 rfl
theorem q477 : (Jvm.Cond.fieldLinkNest "GoodHalfEmpty" (125 : Nat) "GoodHalfEmpty$Reader" "size" "I" "GoodHalfEmpty") ∈ lw_tbl := lw_at lw_m2 162 rfl
theorem q479 : (Jvm.Cond.fieldLinkNest "GoodHalfEmpty" (122 : Nat) "GoodHalfEmpty$Reader" "at" "I" "GoodHalfEmpty") ∈ lw_tbl := lw_at lw_m2 164 rfl
theorem q488 : (Jvm.Cond.classLink "GoodHalfEmpty" (116 : Nat) "GoodHalfEmpty$Told") ∈ lw_all := lw_g (lw_at lw_m2 173 rfl) rfl
theorem q490 : (Jvm.Cond.methodLink "GoodHalfEmpty" (118 : Nat) ({ cls := "GoodHalfEmpty$Reader", name := "statement", desc := "()LGoodHalfEmpty$Told;" } : Jvm.MethodName)) ∈ lw_all := lw_g (lw_at lw_m2 175 rfl) rfl
theorem q533 : (Jvm.Cond.static ({ cls := "GoodHalfEmpty", name := "in", desc := "(JJJ)Z" } : Jvm.MethodName)) ∈ lw_all := lw_g (lw_at lw_m2 218 rfl) rfl
theorem q534 : (Jvm.Cond.code ({ cls := "GoodHalfEmpty", name := "in", desc := "(JJJ)Z" } : Jvm.MethodName) prog_1_method_1_code (6 : Nat) (Option.some Jvm.ClassFile.FieldType.boolean)) ∈ lw_all := lw_g (lw_at lw_m2 219 rfl) rfl
theorem q546 : (Jvm.Cond.fieldLink "GoodHalfEmpty" (138 : Nat) "GoodHalfEmpty$Told" "start" "I") ∈ lw_all := lw_g (lw_at lw_m2 231 rfl) rfl
theorem q584 : (Jvm.Cond.fieldLinkNest "GoodHalfEmpty" (316 : Nat) "GoodHalfEmpty$Sort" "goer" "LGoodHalfEmpty$Goer;" "GoodHalfEmpty") ∈ lw_tbl := lw_at lw_m3 29 rfl
theorem q589 : (Jvm.Cond.fieldLinkNest "GoodHalfEmpty" (184 : Nat) "GoodHalfEmpty$Sort" "many" "I" "GoodHalfEmpty") ∈ lw_tbl := lw_at lw_m3 34 rfl
theorem q594 : (Jvm.Cond.fieldLinkNest "GoodHalfEmpty" (323 : Nat) "GoodHalfEmpty$Sort" "figure" "I" "GoodHalfEmpty") ∈ lw_tbl := lw_at lw_m3 39 rfl
theorem q597 : (Jvm.Cond.fieldLinkNest "GoodHalfEmpty" (326 : Nat) "GoodHalfEmpty$Sort" "few" "I" "GoodHalfEmpty") ∈ lw_tbl := lw_at lw_m3 42 rfl
theorem q600 : (Jvm.Cond.fieldLinkNest "GoodHalfEmpty" (329 : Nat) "GoodHalfEmpty$Sort" "full" "I" "GoodHalfEmpty") ∈ lw_tbl := lw_at lw_m3 45 rfl
theorem q603 : (Jvm.Cond.fieldLinkNest "GoodHalfEmpty" (189 : Nat) "GoodHalfEmpty$Sort" "home" "I" "GoodHalfEmpty") ∈ lw_tbl := lw_at lw_m3 48 rfl
theorem q648 : (Jvm.Cond.methodLink "GoodHalfEmpty" (128 : Nat) ({ cls := "GoodHalfEmpty$Town", name := "set", desc := "(LGoodHalfEmpty$Town;)V" } : Jvm.MethodName)) ∈ lw_all := lw_g (lw_at lw_m3 93 rfl) rfl
theorem q655 : (Jvm.Cond.methodLink "GoodHalfEmpty" (132 : Nat) ({ cls := "GoodHalfEmpty$Told", name := "comes", desc := "(LGoodHalfEmpty$Town;)Z" } : Jvm.MethodName)) ∈ lw_all := lw_g (lw_at lw_m3 100 rfl) rfl
theorem q697 : (Jvm.Cond.classLink "GoodHalfEmpty" (136 : Nat) "GoodHalfEmpty$Fault") ∈ lw_all := lw_g (lw_at lw_m3 142 rfl) rfl
theorem q698 : (Jvm.Cond.methodLink "GoodHalfEmpty" (141 : Nat) ({ cls := "GoodHalfEmpty$Fault", name := "<init>", desc := "(I)V" } : Jvm.MethodName)) ∈ lw_all := lw_g (lw_at lw_m3 143 rfl) rfl
theorem q699 : (Jvm.Cond.methodLink "GoodHalfEmpty" (357 : Nat) ({ cls := "GoodHalfEmpty", name := "sortTold", desc := "(II)I" } : Jvm.MethodName)) ∈ lw_all := lw_g (lw_at lw_m3 144 rfl) rfl
theorem q700 : (Jvm.Cond.privateMethod ({ cls := "GoodHalfEmpty", name := "sortTold", desc := "(II)I" } : Jvm.MethodName)) ∈ lw_tbl := lw_at lw_m3 145 rfl
theorem q701 : (Jvm.Cond.instanceMethod ({ cls := "GoodHalfEmpty", name := "sortTold", desc := "(II)I" } : Jvm.MethodName)) ∈ lw_all := lw_g (lw_at lw_m3 146 rfl) rfl
theorem q702 : (Jvm.Cond.code ({ cls := "GoodHalfEmpty", name := "sortTold", desc := "(II)I" } : Jvm.MethodName) prog_1_method_32_code (4 : Nat) (Option.some Jvm.ClassFile.FieldType.int)) ∈ lw_all := lw_g (lw_at lw_m3 147 rfl) rfl
theorem q703 : (Jvm.Cond.methodLink "GoodHalfEmpty" (311 : Nat) ({ cls := "GoodHalfEmpty", name := "mustBeSort", desc := "(I)V" } : Jvm.MethodName)) ∈ lw_all := lw_g (lw_at lw_m3 148 rfl) rfl
theorem q704 : (Jvm.Cond.privateMethod ({ cls := "GoodHalfEmpty", name := "mustBeSort", desc := "(I)V" } : Jvm.MethodName)) ∈ lw_tbl := lw_at lw_m3 149 rfl
theorem q705 : (Jvm.Cond.instanceMethod ({ cls := "GoodHalfEmpty", name := "mustBeSort", desc := "(I)V" } : Jvm.MethodName)) ∈ lw_all := lw_g (lw_at lw_m3 150 rfl) rfl
theorem q706 : (Jvm.Cond.code ({ cls := "GoodHalfEmpty", name := "mustBeSort", desc := "(I)V" } : Jvm.MethodName) prog_1_method_29_code (2 : Nat) (Option.none : Option Jvm.ClassFile.FieldType)) ∈ lw_all := lw_g (lw_at lw_m3 151 rfl) rfl
theorem q707 : (Jvm.Cond.methodLink "GoodHalfEmpty" (300 : Nat) ({ cls := "GoodHalfEmpty", name := "mustBe", desc := "(II)V" } : Jvm.MethodName)) ∈ lw_all := lw_g (lw_at lw_m3 152 rfl) rfl
theorem q708 : (Jvm.Cond.static ({ cls := "GoodHalfEmpty", name := "mustBe", desc := "(II)V" } : Jvm.MethodName)) ∈ lw_all := lw_g (lw_at lw_m3 153 rfl) rfl
theorem q709 : (Jvm.Cond.code ({ cls := "GoodHalfEmpty", name := "mustBe", desc := "(II)V" } : Jvm.MethodName) prog_1_method_4_code (2 : Nat) (Option.none : Option Jvm.ClassFile.FieldType)) ∈ lw_all := lw_g (lw_at lw_m3 154 rfl) rfl
theorem q710 : (Jvm.Cond.methodLink "GoodHalfEmpty" (13 : Nat) ({ cls := "GoodHalfEmpty", name := "in", desc := "(JJJ)Z" } : Jvm.MethodName)) ∈ lw_all := lw_g (lw_at lw_m3 155 rfl) rfl
theorem q711 : (Jvm.Cond.constantLong "GoodHalfEmpty" (314 : Nat) (5 : Int64)) ∈ lw_all := lw_g (lw_at lw_m3 156 rfl) rfl
theorem q712 : (Jvm.Cond.methodLink "GoodHalfEmpty" (320 : Nat) ({ cls := "GoodHalfEmpty$Goer", name := "kind", desc := "()I" } : Jvm.MethodName)) ∈ lw_all := lw_g (lw_at lw_m3 157 rfl) rfl
theorem q733 : (Jvm.Cond.methodLink "GoodHalfEmpty" (360 : Nat) ({ cls := "GoodHalfEmpty", name := "ruleTold", desc := "(II)I" } : Jvm.MethodName)) ∈ lw_all := lw_g (lw_at lw_m3 178 rfl) rfl
theorem q734 : (Jvm.Cond.privateMethod ({ cls := "GoodHalfEmpty", name := "ruleTold", desc := "(II)I" } : Jvm.MethodName)) ∈ lw_tbl := lw_at lw_m3 179 rfl
theorem q735 : (Jvm.Cond.instanceMethod ({ cls := "GoodHalfEmpty", name := "ruleTold", desc := "(II)I" } : Jvm.MethodName)) ∈ lw_all := lw_g (lw_at lw_m3 180 rfl) rfl
theorem q736 : (Jvm.Cond.code ({ cls := "GoodHalfEmpty", name := "ruleTold", desc := "(II)I" } : Jvm.MethodName) prog_1_method_33_code (3 : Nat) (Option.some Jvm.ClassFile.FieldType.int)) ∈ lw_all := lw_g (lw_at lw_m3 181 rfl) rfl
theorem q737 : (Jvm.Cond.constantLong "GoodHalfEmpty" (332 : Nat) (3 : Int64)) ∈ lw_all := lw_g (lw_at lw_m3 182 rfl) rfl
theorem q738 : (Jvm.Cond.methodLink "GoodHalfEmpty" (337 : Nat) ({ cls := "GoodHalfEmpty$Rule", name := "kind", desc := "()I" } : Jvm.MethodName)) ∈ lw_all := lw_g (lw_at lw_m3 183 rfl) rfl
theorem q759 : (Jvm.Cond.methodLink "GoodHalfEmpty" (341 : Nat) ({ cls := "GoodHalfEmpty$Town", name := "foretold", desc := "(I)I" } : Jvm.MethodName)) ∈ lw_all := lw_g (lw_at lw_m3 204 rfl) rfl
theorem q808 : (Jvm.Cond.constantLong "GoodHalfEmpty" (363 : Nat) (8 : Int64)) ∈ lw_all := lw_g (lw_at lw_m4 13 rfl) rfl
theorem q809 : (Jvm.Cond.methodLink "GoodHalfEmpty" (365 : Nat) ({ cls := "GoodHalfEmpty$Town", name := "ago", desc := "(I)I" } : Jvm.MethodName)) ∈ lw_all := lw_g (lw_at lw_m4 14 rfl) rfl
theorem q810 : (Jvm.Cond.constantLong "GoodHalfEmpty" (368 : Nat) (9 : Int64)) ∈ lw_all := lw_g (lw_at lw_m4 15 rfl) rfl
theorem q811 : (Jvm.Cond.methodLink "GoodHalfEmpty" (146 : Nat) ({ cls := "GoodHalfEmpty$Town", name := "week", desc := "()I" } : Jvm.MethodName)) ∈ lw_all := lw_g (lw_at lw_m4 16 rfl) rfl
theorem q866 : (Jvm.Cond.methodLink "GoodHalfEmpty" (344 : Nat) ({ cls := "GoodHalfEmpty$Town", name := "askAll", desc := "()I" } : Jvm.MethodName)) ∈ lw_all := lw_g (lw_at lw_m4 71 rfl) rfl
theorem q867 : (Jvm.Cond.methodLink "GoodHalfEmpty" (370 : Nat) ({ cls := "GoodHalfEmpty", name := "goesNext", desc := "(I)I" } : Jvm.MethodName)) ∈ lw_all := lw_g (lw_at lw_m4 72 rfl) rfl
theorem q868 : (Jvm.Cond.privateMethod ({ cls := "GoodHalfEmpty", name := "goesNext", desc := "(I)I" } : Jvm.MethodName)) ∈ lw_tbl := lw_at lw_m4 73 rfl
theorem q869 : (Jvm.Cond.instanceMethod ({ cls := "GoodHalfEmpty", name := "goesNext", desc := "(I)I" } : Jvm.MethodName)) ∈ lw_all := lw_g (lw_at lw_m4 74 rfl) rfl
theorem q870 : (Jvm.Cond.code ({ cls := "GoodHalfEmpty", name := "goesNext", desc := "(I)I" } : Jvm.MethodName) prog_1_method_35_code (2 : Nat) (Option.some Jvm.ClassFile.FieldType.int)) ∈ lw_all := lw_g (lw_at lw_m4 75 rfl) rfl
theorem q871 : (Jvm.Cond.methodLink "GoodHalfEmpty" (373 : Nat) ({ cls := "GoodHalfEmpty", name := "worthNext", desc := "(I)I" } : Jvm.MethodName)) ∈ lw_all := lw_g (lw_at lw_m4 76 rfl) rfl
theorem q872 : (Jvm.Cond.privateMethod ({ cls := "GoodHalfEmpty", name := "worthNext", desc := "(I)I" } : Jvm.MethodName)) ∈ lw_tbl := lw_at lw_m4 77 rfl
theorem q873 : (Jvm.Cond.instanceMethod ({ cls := "GoodHalfEmpty", name := "worthNext", desc := "(I)I" } : Jvm.MethodName)) ∈ lw_all := lw_g (lw_at lw_m4 78 rfl) rfl
theorem q874 : (Jvm.Cond.code ({ cls := "GoodHalfEmpty", name := "worthNext", desc := "(I)I" } : Jvm.MethodName) prog_1_method_34_code (5 : Nat) (Option.some Jvm.ClassFile.FieldType.int)) ∈ lw_all := lw_g (lw_at lw_m4 79 rfl) rfl
theorem q875 : (Jvm.Cond.methodLink "GoodHalfEmpty" (174 : Nat) ({ cls := "GoodHalfEmpty$Town", name := "worth", desc := "(II)I" } : Jvm.MethodName)) ∈ lw_all := lw_g (lw_at lw_m4 80 rfl) rfl
theorem q883 : (Jvm.Cond.methodLink "GoodHalfEmpty" (281 : Nat) ({ cls := "GoodHalfEmpty", name := "ofWeeks", desc := "(III)I" } : Jvm.MethodName)) ∈ lw_all := lw_g (lw_at lw_m4 88 rfl) rfl
theorem q884 : (Jvm.Cond.privateMethod ({ cls := "GoodHalfEmpty", name := "ofWeeks", desc := "(III)I" } : Jvm.MethodName)) ∈ lw_tbl := lw_at lw_m4 89 rfl
theorem q885 : (Jvm.Cond.instanceMethod ({ cls := "GoodHalfEmpty", name := "ofWeeks", desc := "(III)I" } : Jvm.MethodName)) ∈ lw_all := lw_g (lw_at lw_m4 90 rfl) rfl
theorem q886 : (Jvm.Cond.code ({ cls := "GoodHalfEmpty", name := "ofWeeks", desc := "(III)I" } : Jvm.MethodName) prog_1_method_38_code (4 : Nat) (Option.some Jvm.ClassFile.FieldType.int)) ∈ lw_all := lw_g (lw_at lw_m4 91 rfl) rfl
theorem q887 : (Jvm.Cond.methodLink "GoodHalfEmpty" (376 : Nat) ({ cls := "GoodHalfEmpty", name := "mustBeWeeks", desc := "(I)V" } : Jvm.MethodName)) ∈ lw_all := lw_g (lw_at lw_m4 92 rfl) rfl
theorem q888 : (Jvm.Cond.static ({ cls := "GoodHalfEmpty", name := "mustBeWeeks", desc := "(I)V" } : Jvm.MethodName)) ∈ lw_all := lw_g (lw_at lw_m4 93 rfl) rfl
theorem q889 : (Jvm.Cond.code ({ cls := "GoodHalfEmpty", name := "mustBeWeeks", desc := "(I)V" } : Jvm.MethodName) prog_1_method_30_code (1 : Nat) (Option.none : Option Jvm.ClassFile.FieldType)) ∈ lw_all := lw_g (lw_at lw_m4 94 rfl) rfl
theorem q890 : (Jvm.Cond.constantLong "GoodHalfEmpty" (303 : Nat) (60 : Int64)) ∈ lw_all := lw_g (lw_at lw_m4 95 rfl) rfl
theorem q891 : (Jvm.Cond.methodLink "GoodHalfEmpty" (379 : Nat) ({ cls := "GoodHalfEmpty", name := "afterWeeks", desc := "(I)I" } : Jvm.MethodName)) ∈ lw_all := lw_g (lw_at lw_m4 96 rfl) rfl
theorem q892 : (Jvm.Cond.privateMethod ({ cls := "GoodHalfEmpty", name := "afterWeeks", desc := "(I)I" } : Jvm.MethodName)) ∈ lw_tbl := lw_at lw_m4 97 rfl
theorem q893 : (Jvm.Cond.instanceMethod ({ cls := "GoodHalfEmpty", name := "afterWeeks", desc := "(I)I" } : Jvm.MethodName)) ∈ lw_all := lw_g (lw_at lw_m4 98 rfl) rfl
theorem q894 : (Jvm.Cond.code ({ cls := "GoodHalfEmpty", name := "afterWeeks", desc := "(I)I" } : Jvm.MethodName) prog_1_method_8_code (5 : Nat) (Option.some Jvm.ClassFile.FieldType.int)) ∈ lw_all := lw_g (lw_at lw_m4 99 rfl) rfl
theorem q895 : (Jvm.Cond.methodLink "GoodHalfEmpty" (142 : Nat) ({ cls := "GoodHalfEmpty", name := "openMind", desc := "()LGoodHalfEmpty$Town;" } : Jvm.MethodName)) ∈ lw_all := lw_g (lw_at lw_m4 100 rfl) rfl
theorem q896 : (Jvm.Cond.privateMethod ({ cls := "GoodHalfEmpty", name := "openMind", desc := "()LGoodHalfEmpty$Town;" } : Jvm.MethodName)) ∈ lw_tbl := lw_at lw_m4 101 rfl
theorem q897 : (Jvm.Cond.instanceMethod ({ cls := "GoodHalfEmpty", name := "openMind", desc := "()LGoodHalfEmpty$Town;" } : Jvm.MethodName)) ∈ lw_all := lw_g (lw_at lw_m4 102 rfl) rfl
theorem q898 : (Jvm.Cond.code ({ cls := "GoodHalfEmpty", name := "openMind", desc := "()LGoodHalfEmpty$Town;" } : Jvm.MethodName) prog_1_method_7_code (1 : Nat) (Option.some (Jvm.ClassFile.FieldType.object "GoodHalfEmpty$Town"))) ∈ lw_all := lw_g (lw_at lw_m4 103 rfl) rfl
theorem q899 : (Jvm.Cond.methodLink "GoodHalfEmpty" (382 : Nat) ({ cls := "GoodHalfEmpty", name := "againBehind", desc := "()I" } : Jvm.MethodName)) ∈ lw_all := lw_g (lw_at lw_m4 104 rfl) rfl
theorem q900 : (Jvm.Cond.privateMethod ({ cls := "GoodHalfEmpty", name := "againBehind", desc := "()I" } : Jvm.MethodName)) ∈ lw_tbl := lw_at lw_m4 105 rfl
theorem q901 : (Jvm.Cond.instanceMethod ({ cls := "GoodHalfEmpty", name := "againBehind", desc := "()I" } : Jvm.MethodName)) ∈ lw_all := lw_g (lw_at lw_m4 106 rfl) rfl
theorem q902 : (Jvm.Cond.code ({ cls := "GoodHalfEmpty", name := "againBehind", desc := "()I" } : Jvm.MethodName) prog_1_method_10_code (4 : Nat) (Option.some Jvm.ClassFile.FieldType.int)) ∈ lw_all := lw_g (lw_at lw_m4 107 rfl) rfl
theorem q903 : (Jvm.Cond.methodLink "GoodHalfEmpty" (245 : Nat) ({ cls := "GoodHalfEmpty", name := "gainsOf", desc := "(LGoodHalfEmpty$Town;II)I" } : Jvm.MethodName)) ∈ lw_all := lw_g (lw_at lw_m4 108 rfl) rfl
theorem q904 : (Jvm.Cond.privateMethod ({ cls := "GoodHalfEmpty", name := "gainsOf", desc := "(LGoodHalfEmpty$Town;II)I" } : Jvm.MethodName)) ∈ lw_tbl := lw_at lw_m4 109 rfl
theorem q905 : (Jvm.Cond.instanceMethod ({ cls := "GoodHalfEmpty", name := "gainsOf", desc := "(LGoodHalfEmpty$Town;II)I" } : Jvm.MethodName)) ∈ lw_all := lw_g (lw_at lw_m4 110 rfl) rfl
theorem q906 : (Jvm.Cond.code ({ cls := "GoodHalfEmpty", name := "gainsOf", desc := "(LGoodHalfEmpty$Town;II)I" } : Jvm.MethodName) prog_1_method_11_code (7 : Nat) (Option.some Jvm.ClassFile.FieldType.int)) ∈ lw_all := lw_g (lw_at lw_m4 111 rfl) rfl
theorem q907 : (Jvm.Cond.methodLink "GoodHalfEmpty" (385 : Nat) ({ cls := "GoodHalfEmpty", name := "lookTold", desc := "(II)I" } : Jvm.MethodName)) ∈ lw_all := lw_g (lw_at lw_m4 112 rfl) rfl
theorem q908 : (Jvm.Cond.privateMethod ({ cls := "GoodHalfEmpty", name := "lookTold", desc := "(II)I" } : Jvm.MethodName)) ∈ lw_tbl := lw_at lw_m4 113 rfl
theorem q909 : (Jvm.Cond.instanceMethod ({ cls := "GoodHalfEmpty", name := "lookTold", desc := "(II)I" } : Jvm.MethodName)) ∈ lw_all := lw_g (lw_at lw_m4 114 rfl) rfl
theorem q910 : (Jvm.Cond.code ({ cls := "GoodHalfEmpty", name := "lookTold", desc := "(II)I" } : Jvm.MethodName) prog_1_method_37_code (3 : Nat) (Option.some Jvm.ClassFile.FieldType.int)) ∈ lw_all := lw_g (lw_at lw_m4 115 rfl) rfl
theorem q911 : (Jvm.Cond.methodLink "GoodHalfEmpty" (258 : Nat) ({ cls := "GoodHalfEmpty", name := "look", desc := "(LGoodHalfEmpty$Town;I)V" } : Jvm.MethodName)) ∈ lw_all := lw_g (lw_at lw_m4 116 rfl) rfl
theorem q912 : (Jvm.Cond.privateMethod ({ cls := "GoodHalfEmpty", name := "look", desc := "(LGoodHalfEmpty$Town;I)V" } : Jvm.MethodName)) ∈ lw_tbl := lw_at lw_m4 117 rfl
theorem q913 : (Jvm.Cond.instanceMethod ({ cls := "GoodHalfEmpty", name := "look", desc := "(LGoodHalfEmpty$Town;I)V" } : Jvm.MethodName)) ∈ lw_all := lw_g (lw_at lw_m4 118 rfl) rfl
theorem q914 : (Jvm.Cond.code ({ cls := "GoodHalfEmpty", name := "look", desc := "(LGoodHalfEmpty$Town;I)V" } : Jvm.MethodName) prog_1_method_9_code (5 : Nat) (Option.none : Option Jvm.ClassFile.FieldType)) ∈ lw_all := lw_g (lw_at lw_m4 119 rfl) rfl
theorem q915 : (Jvm.Cond.methodLink "GoodHalfEmpty" (159 : Nat) ({ cls := "java/lang/Math", name := "max", desc := "(II)I" } : Jvm.MethodName)) ∈ lw_all := lw_g (lw_at lw_m4 120 rfl) rfl
theorem q916 : (Jvm.Cond.methodLink "GoodHalfEmpty" (168 : Nat) ({ cls := "java/lang/Math", name := "min", desc := "(II)I" } : Jvm.MethodName)) ∈ lw_all := lw_g (lw_at lw_m4 121 rfl) rfl
theorem q917 : (Jvm.Cond.methodLink "GoodHalfEmpty" (284 : Nat) ({ cls := "GoodHalfEmpty", name := "ofRest", desc := "(III)I" } : Jvm.MethodName)) ∈ lw_all := lw_g (lw_at lw_m4 122 rfl) rfl
theorem q918 : (Jvm.Cond.privateMethod ({ cls := "GoodHalfEmpty", name := "ofRest", desc := "(III)I" } : Jvm.MethodName)) ∈ lw_tbl := lw_at lw_m4 123 rfl
theorem q919 : (Jvm.Cond.instanceMethod ({ cls := "GoodHalfEmpty", name := "ofRest", desc := "(III)I" } : Jvm.MethodName)) ∈ lw_all := lw_g (lw_at lw_m4 124 rfl) rfl
theorem q920 : (Jvm.Cond.code ({ cls := "GoodHalfEmpty", name := "ofRest", desc := "(III)I" } : Jvm.MethodName) prog_1_method_43_code (4 : Nat) (Option.some Jvm.ClassFile.FieldType.int)) ∈ lw_all := lw_g (lw_at lw_m4 125 rfl) rfl
theorem q921 : (Jvm.Cond.methodLink "GoodHalfEmpty" (404 : Nat) ({ cls := "GoodHalfEmpty", name := "mostRight", desc := "(I)I" } : Jvm.MethodName)) ∈ lw_all := lw_g (lw_at lw_m4 126 rfl) rfl
theorem q922 : (Jvm.Cond.privateMethod ({ cls := "GoodHalfEmpty", name := "mostRight", desc := "(I)I" } : Jvm.MethodName)) ∈ lw_tbl := lw_at lw_m4 127 rfl
theorem q923 : (Jvm.Cond.instanceMethod ({ cls := "GoodHalfEmpty", name := "mostRight", desc := "(I)I" } : Jvm.MethodName)) ∈ lw_all := lw_g (lw_at lw_m4 128 rfl) rfl
theorem q924 : (Jvm.Cond.code ({ cls := "GoodHalfEmpty", name := "mostRight", desc := "(I)I" } : Jvm.MethodName) prog_1_method_21_code (8 : Nat) (Option.some Jvm.ClassFile.FieldType.int)) ∈ lw_all := lw_g (lw_at lw_m4 129 rfl) rfl
theorem q925 : (Jvm.Cond.methodLink "GoodHalfEmpty" (249 : Nat) ({ cls := "GoodHalfEmpty$Rule", name := "foretells", desc := "(LGoodHalfEmpty$Town;I)I" } : Jvm.MethodName)) ∈ lw_all := lw_g (lw_at lw_m4 130 rfl) rfl
theorem q926 : (Jvm.Cond.methodLink "GoodHalfEmpty" (407 : Nat) ({ cls := "GoodHalfEmpty", name := "swingOfLonger", desc := "(I)I" } : Jvm.MethodName)) ∈ lw_all := lw_g (lw_at lw_m4 131 rfl) rfl
theorem q927 : (Jvm.Cond.privateMethod ({ cls := "GoodHalfEmpty", name := "swingOfLonger", desc := "(I)I" } : Jvm.MethodName)) ∈ lw_tbl := lw_at lw_m4 132 rfl
theorem q928 : (Jvm.Cond.instanceMethod ({ cls := "GoodHalfEmpty", name := "swingOfLonger", desc := "(I)I" } : Jvm.MethodName)) ∈ lw_all := lw_g (lw_at lw_m4 133 rfl) rfl
theorem q929 : (Jvm.Cond.code ({ cls := "GoodHalfEmpty", name := "swingOfLonger", desc := "(I)I" } : Jvm.MethodName) prog_1_method_22_code (4 : Nat) (Option.some Jvm.ClassFile.FieldType.int)) ∈ lw_all := lw_g (lw_at lw_m4 134 rfl) rfl
theorem q930 : (Jvm.Cond.constantLong "GoodHalfEmpty" (410 : Nat) (20 : Int64)) ∈ lw_all := lw_g (lw_at lw_m4 135 rfl) rfl
theorem q931 : (Jvm.Cond.methodLink "GoodHalfEmpty" (412 : Nat) ({ cls := "GoodHalfEmpty", name := "bySeeds", desc := "(II)I" } : Jvm.MethodName)) ∈ lw_all := lw_g (lw_at lw_m4 136 rfl) rfl
theorem q932 : (Jvm.Cond.privateMethod ({ cls := "GoodHalfEmpty", name := "bySeeds", desc := "(II)I" } : Jvm.MethodName)) ∈ lw_tbl := lw_at lw_m4 137 rfl
theorem q933 : (Jvm.Cond.instanceMethod ({ cls := "GoodHalfEmpty", name := "bySeeds", desc := "(II)I" } : Jvm.MethodName)) ∈ lw_all := lw_g (lw_at lw_m4 138 rfl) rfl
theorem q934 : (Jvm.Cond.code ({ cls := "GoodHalfEmpty", name := "bySeeds", desc := "(II)I" } : Jvm.MethodName) prog_1_method_23_code (8 : Nat) (Option.some Jvm.ClassFile.FieldType.int)) ∈ lw_all := lw_g (lw_at lw_m4 139 rfl) rfl
theorem q935 : (Jvm.Cond.constant "GoodHalfEmpty" (265 : Nat) (1664525 : Int32)) ∈ lw_all := lw_g (lw_at lw_m4 140 rfl) rfl
theorem q936 : (Jvm.Cond.constant "GoodHalfEmpty" (266 : Nat) (1013904223 : Int32)) ∈ lw_all := lw_g (lw_at lw_m4 141 rfl) rfl
theorem q937 : (Jvm.Cond.constant "GoodHalfEmpty" (270 : Nat) (2147483647 : Int32)) ∈ lw_all := lw_g (lw_at lw_m4 142 rfl) rfl
theorem q938 : (Jvm.Cond.methodLink "GoodHalfEmpty" (271 : Nat) ({ cls := "GoodHalfEmpty$Town", name := "people", desc := "()I" } : Jvm.MethodName)) ∈ lw_all := lw_g (lw_at lw_m4 143 rfl) rfl
theorem q939 : (Jvm.Cond.constantLong "GoodHalfEmpty" (415 : Nat) (99 : Int64)) ∈ lw_all := lw_g (lw_at lw_m4 144 rfl) rfl
theorem q940 : (Jvm.Cond.methodLink "GoodHalfEmpty" (417 : Nat) ({ cls := "GoodHalfEmpty", name := "judgeRow", desc := "()I" } : Jvm.MethodName)) ∈ lw_all := lw_g (lw_at lw_m4 145 rfl) rfl
theorem q941 : (Jvm.Cond.privateMethod ({ cls := "GoodHalfEmpty", name := "judgeRow", desc := "()I" } : Jvm.MethodName)) ∈ lw_tbl := lw_at lw_m4 146 rfl
theorem q942 : (Jvm.Cond.instanceMethod ({ cls := "GoodHalfEmpty", name := "judgeRow", desc := "()I" } : Jvm.MethodName)) ∈ lw_all := lw_g (lw_at lw_m4 147 rfl) rfl
theorem q943 : (Jvm.Cond.code ({ cls := "GoodHalfEmpty", name := "judgeRow", desc := "()I" } : Jvm.MethodName) prog_1_method_24_code (4 : Nat) (Option.some Jvm.ClassFile.FieldType.int)) ∈ lw_all := lw_g (lw_at lw_m4 148 rfl) rfl
theorem q944 : (Jvm.Cond.methodLink "GoodHalfEmpty" (426 : Nat) ({ cls := "GoodHalfEmpty", name := "ofPlans", desc := "(II)I" } : Jvm.MethodName)) ∈ lw_all := lw_g (lw_at lw_m4 149 rfl) rfl
theorem q945 : (Jvm.Cond.privateMethod ({ cls := "GoodHalfEmpty", name := "ofPlans", desc := "(II)I" } : Jvm.MethodName)) ∈ lw_tbl := lw_at lw_m4 150 rfl
theorem q946 : (Jvm.Cond.instanceMethod ({ cls := "GoodHalfEmpty", name := "ofPlans", desc := "(II)I" } : Jvm.MethodName)) ∈ lw_all := lw_g (lw_at lw_m4 151 rfl) rfl
theorem q947 : (Jvm.Cond.code ({ cls := "GoodHalfEmpty", name := "ofPlans", desc := "(II)I" } : Jvm.MethodName) prog_1_method_41_code (3 : Nat) (Option.some Jvm.ClassFile.FieldType.int)) ∈ lw_all := lw_g (lw_at lw_m4 152 rfl) rfl
theorem q948 : (Jvm.Cond.methodLink "GoodHalfEmpty" (239 : Nat) ({ cls := "GoodHalfEmpty", name := "findPlans", desc := "(LGoodHalfEmpty$Town;)V" } : Jvm.MethodName)) ∈ lw_all := lw_g (lw_at lw_m4 153 rfl) rfl
theorem q949 : (Jvm.Cond.privateMethod ({ cls := "GoodHalfEmpty", name := "findPlans", desc := "(LGoodHalfEmpty$Town;)V" } : Jvm.MethodName)) ∈ lw_tbl := lw_at lw_m4 154 rfl
theorem q950 : (Jvm.Cond.instanceMethod ({ cls := "GoodHalfEmpty", name := "findPlans", desc := "(LGoodHalfEmpty$Town;)V" } : Jvm.MethodName)) ∈ lw_all := lw_g (lw_at lw_m4 155 rfl) rfl
theorem q951 : (Jvm.Cond.code ({ cls := "GoodHalfEmpty", name := "findPlans", desc := "(LGoodHalfEmpty$Town;)V" } : Jvm.MethodName) prog_1_method_16_code (6 : Nat) (Option.none : Option Jvm.ClassFile.FieldType)) ∈ lw_all := lw_g (lw_at lw_m4 156 rfl) rfl
theorem q952 : (Jvm.Cond.methodLink "GoodHalfEmpty" (199 : Nat) ({ cls := "GoodHalfEmpty", name := "presentOf", desc := "()I" } : Jvm.MethodName)) ∈ lw_all := lw_g (lw_at lw_m4 157 rfl) rfl
theorem q953 : (Jvm.Cond.privateMethod ({ cls := "GoodHalfEmpty", name := "presentOf", desc := "()I" } : Jvm.MethodName)) ∈ lw_tbl := lw_at lw_m4 158 rfl
theorem q954 : (Jvm.Cond.instanceMethod ({ cls := "GoodHalfEmpty", name := "presentOf", desc := "()I" } : Jvm.MethodName)) ∈ lw_all := lw_g (lw_at lw_m4 159 rfl) rfl
theorem q955 : (Jvm.Cond.code ({ cls := "GoodHalfEmpty", name := "presentOf", desc := "()I" } : Jvm.MethodName) prog_1_method_12_code (3 : Nat) (Option.some Jvm.ClassFile.FieldType.int)) ∈ lw_all := lw_g (lw_at lw_m4 160 rfl) rfl
theorem q956 : (Jvm.Cond.methodLink "GoodHalfEmpty" (202 : Nat) ({ cls := "GoodHalfEmpty", name := "worthOfPlan", desc := "(LGoodHalfEmpty$Town;I)I" } : Jvm.MethodName)) ∈ lw_all := lw_g (lw_at lw_m4 161 rfl) rfl
theorem q957 : (Jvm.Cond.privateMethod ({ cls := "GoodHalfEmpty", name := "worthOfPlan", desc := "(LGoodHalfEmpty$Town;I)I" } : Jvm.MethodName)) ∈ lw_tbl := lw_at lw_m4 162 rfl
theorem q958 : (Jvm.Cond.instanceMethod ({ cls := "GoodHalfEmpty", name := "worthOfPlan", desc := "(LGoodHalfEmpty$Town;I)I" } : Jvm.MethodName)) ∈ lw_all := lw_g (lw_at lw_m4 163 rfl) rfl
theorem q959 : (Jvm.Cond.code ({ cls := "GoodHalfEmpty", name := "worthOfPlan", desc := "(LGoodHalfEmpty$Town;I)I" } : Jvm.MethodName) prog_1_method_15_code (6 : Nat) (Option.some Jvm.ClassFile.FieldType.int)) ∈ lw_all := lw_g (lw_at lw_m4 164 rfl) rfl
theorem q960 : (Jvm.Cond.methodLink "GoodHalfEmpty" (192 : Nat) ({ cls := "GoodHalfEmpty$Town", name := "worthOfGoing", desc := "(LGoodHalfEmpty$Sort;I)I" } : Jvm.MethodName)) ∈ lw_all := lw_g (lw_at lw_m4 165 rfl) rfl
theorem q961 : (Jvm.Cond.methodLink "GoodHalfEmpty" (212 : Nat) ({ cls := "GoodHalfEmpty", name := "doesRest", desc := "(LGoodHalfEmpty$Town;I)Z" } : Jvm.MethodName)) ∈ lw_all := lw_g (lw_at lw_m4 166 rfl) rfl
theorem q962 : (Jvm.Cond.privateMethod ({ cls := "GoodHalfEmpty", name := "doesRest", desc := "(LGoodHalfEmpty$Town;I)Z" } : Jvm.MethodName)) ∈ lw_tbl := lw_at lw_m4 167 rfl
theorem q963 : (Jvm.Cond.instanceMethod ({ cls := "GoodHalfEmpty", name := "doesRest", desc := "(LGoodHalfEmpty$Town;I)Z" } : Jvm.MethodName)) ∈ lw_all := lw_g (lw_at lw_m4 168 rfl) rfl
theorem q964 : (Jvm.Cond.code ({ cls := "GoodHalfEmpty", name := "doesRest", desc := "(LGoodHalfEmpty$Town;I)Z" } : Jvm.MethodName) prog_1_method_14_code (6 : Nat) (Option.some Jvm.ClassFile.FieldType.boolean)) ∈ lw_all := lw_g (lw_at lw_m4 169 rfl) rfl
theorem q965 : (Jvm.Cond.methodLink "GoodHalfEmpty" (216 : Nat) ({ cls := "GoodHalfEmpty", name := "keepRest", desc := "(II)V" } : Jvm.MethodName)) ∈ lw_all := lw_g (lw_at lw_m4 170 rfl) rfl
theorem q966 : (Jvm.Cond.privateMethod ({ cls := "GoodHalfEmpty", name := "keepRest", desc := "(II)V" } : Jvm.MethodName)) ∈ lw_tbl := lw_at lw_m4 171 rfl
theorem q967 : (Jvm.Cond.instanceMethod ({ cls := "GoodHalfEmpty", name := "keepRest", desc := "(II)V" } : Jvm.MethodName)) ∈ lw_all := lw_g (lw_at lw_m4 172 rfl) rfl
theorem q968 : (Jvm.Cond.code ({ cls := "GoodHalfEmpty", name := "keepRest", desc := "(II)V" } : Jvm.MethodName) prog_1_method_17_code (3 : Nat) (Option.none : Option Jvm.ClassFile.FieldType)) ∈ lw_all := lw_g (lw_at lw_m4 173 rfl) rfl
theorem q969 : (Jvm.Cond.methodLink "GoodHalfEmpty" (230 : Nat) ({ cls := "java/lang/System", name := "arraycopy", desc := "(Ljava/lang/Object;ILjava/lang/Object;II)V" } : Jvm.MethodName)) ∈ lw_all := lw_g (lw_at lw_m4 174 rfl) rfl
theorem q970 : (Jvm.Cond.methodLink "GoodHalfEmpty" (220 : Nat) ({ cls := "GoodHalfEmpty", name := "nextPlan", desc := "()Z" } : Jvm.MethodName)) ∈ lw_all := lw_g (lw_at lw_m4 175 rfl) rfl
theorem q971 : (Jvm.Cond.privateMethod ({ cls := "GoodHalfEmpty", name := "nextPlan", desc := "()Z" } : Jvm.MethodName)) ∈ lw_tbl := lw_at lw_m4 176 rfl
theorem q972 : (Jvm.Cond.instanceMethod ({ cls := "GoodHalfEmpty", name := "nextPlan", desc := "()Z" } : Jvm.MethodName)) ∈ lw_all := lw_g (lw_at lw_m4 177 rfl) rfl
theorem q973 : (Jvm.Cond.code ({ cls := "GoodHalfEmpty", name := "nextPlan", desc := "()Z" } : Jvm.MethodName) prog_1_method_13_code (2 : Nat) (Option.some Jvm.ClassFile.FieldType.boolean)) ∈ lw_all := lw_g (lw_at lw_m4 178 rfl) rfl
theorem q974 : (Jvm.Cond.methodLink "GoodHalfEmpty" (388 : Nat) ({ cls := "GoodHalfEmpty", name := "restTold", desc := "(I)I" } : Jvm.MethodName)) ∈ lw_all := lw_g (lw_at lw_m4 179 rfl) rfl
theorem q975 : (Jvm.Cond.privateMethod ({ cls := "GoodHalfEmpty", name := "restTold", desc := "(I)I" } : Jvm.MethodName)) ∈ lw_tbl := lw_at lw_m4 180 rfl
theorem q976 : (Jvm.Cond.instanceMethod ({ cls := "GoodHalfEmpty", name := "restTold", desc := "(I)I" } : Jvm.MethodName)) ∈ lw_all := lw_g (lw_at lw_m4 181 rfl) rfl
theorem q977 : (Jvm.Cond.code ({ cls := "GoodHalfEmpty", name := "restTold", desc := "(I)I" } : Jvm.MethodName) prog_1_method_39_code (2 : Nat) (Option.some Jvm.ClassFile.FieldType.int)) ∈ lw_all := lw_g (lw_at lw_m4 182 rfl) rfl
theorem q978 : (Jvm.Cond.methodLink "GoodHalfEmpty" (391 : Nat) ({ cls := "GoodHalfEmpty", name := "bestTold", desc := "(I)I" } : Jvm.MethodName)) ∈ lw_all := lw_g (lw_at lw_m4 183 rfl) rfl
theorem q979 : (Jvm.Cond.privateMethod ({ cls := "GoodHalfEmpty", name := "bestTold", desc := "(I)I" } : Jvm.MethodName)) ∈ lw_tbl := lw_at lw_m4 184 rfl
theorem q980 : (Jvm.Cond.instanceMethod ({ cls := "GoodHalfEmpty", name := "bestTold", desc := "(I)I" } : Jvm.MethodName)) ∈ lw_all := lw_g (lw_at lw_m4 185 rfl) rfl
theorem q981 : (Jvm.Cond.code ({ cls := "GoodHalfEmpty", name := "bestTold", desc := "(I)I" } : Jvm.MethodName) prog_1_method_40_code (2 : Nat) (Option.some Jvm.ClassFile.FieldType.int)) ∈ lw_all := lw_g (lw_at lw_m4 186 rfl) rfl
theorem q982 : (Jvm.Cond.methodLink "GoodHalfEmpty" (394 : Nat) ({ cls := "GoodHalfEmpty", name := "bestPenny", desc := "()I" } : Jvm.MethodName)) ∈ lw_all := lw_g (lw_at lw_m4 187 rfl) rfl
theorem q983 : (Jvm.Cond.privateMethod ({ cls := "GoodHalfEmpty", name := "bestPenny", desc := "()I" } : Jvm.MethodName)) ∈ lw_tbl := lw_at lw_m4 188 rfl
theorem q984 : (Jvm.Cond.instanceMethod ({ cls := "GoodHalfEmpty", name := "bestPenny", desc := "()I" } : Jvm.MethodName)) ∈ lw_all := lw_g (lw_at lw_m4 189 rfl) rfl
theorem q985 : (Jvm.Cond.code ({ cls := "GoodHalfEmpty", name := "bestPenny", desc := "()I" } : Jvm.MethodName) prog_1_method_18_code (6 : Nat) (Option.some Jvm.ClassFile.FieldType.int)) ∈ lw_all := lw_g (lw_at lw_m4 190 rfl) rfl
theorem q986 : (Jvm.Cond.methodLink "GoodHalfEmpty" (397 : Nat) ({ cls := "GoodHalfEmpty", name := "bestChairs", desc := "()I" } : Jvm.MethodName)) ∈ lw_all := lw_g (lw_at lw_m4 191 rfl) rfl
theorem q987 : (Jvm.Cond.privateMethod ({ cls := "GoodHalfEmpty", name := "bestChairs", desc := "()I" } : Jvm.MethodName)) ∈ lw_tbl := lw_at lw_m4 192 rfl
theorem q988 : (Jvm.Cond.instanceMethod ({ cls := "GoodHalfEmpty", name := "bestChairs", desc := "()I" } : Jvm.MethodName)) ∈ lw_all := lw_g (lw_at lw_m4 193 rfl) rfl
theorem q989 : (Jvm.Cond.code ({ cls := "GoodHalfEmpty", name := "bestChairs", desc := "()I" } : Jvm.MethodName) prog_1_method_19_code (6 : Nat) (Option.some Jvm.ClassFile.FieldType.int)) ∈ lw_all := lw_g (lw_at lw_m4 194 rfl) rfl
theorem q990 : (Jvm.Cond.methodLink "GoodHalfEmpty" (292 : Nat) ({ cls := "GoodHalfEmpty$Refusal", name := "number", desc := "()I" } : Jvm.MethodName)) ∈ lw_all := lw_g (lw_at lw_m4 195 rfl) rfl
theorem q999 : (Jvm.Cond.methodLink "GoodHalfEmpty" (295 : Nat) ({ cls := "GoodHalfEmpty", name := "refuse", desc := "(I)I" } : Jvm.MethodName)) ∈ lw_all := lw_g (lw_at lw_m4 204 rfl) rfl
theorem q1000 : (Jvm.Cond.privateMethod ({ cls := "GoodHalfEmpty", name := "refuse", desc := "(I)I" } : Jvm.MethodName)) ∈ lw_tbl := lw_at lw_m4 205 rfl
theorem q1001 : (Jvm.Cond.instanceMethod ({ cls := "GoodHalfEmpty", name := "refuse", desc := "(I)I" } : Jvm.MethodName)) ∈ lw_all := lw_g (lw_at lw_m4 206 rfl) rfl
theorem q1002 : (Jvm.Cond.code ({ cls := "GoodHalfEmpty", name := "refuse", desc := "(I)I" } : Jvm.MethodName) prog_1_method_25_code (2 : Nat) (Option.some Jvm.ClassFile.FieldType.int)) ∈ lw_all := lw_g (lw_at lw_m4 207 rfl) rfl
theorem q1004 : (Jvm.Cond.instanceMethod ({ cls := "GoodHalfEmpty", name := "town", desc := "()I" } : Jvm.MethodName)) ∈ lw_all := lw_g (lw_at lw_m4 209 rfl) rfl
theorem q1005 : (Jvm.Cond.selects "GoodHalfEmpty" ({ cls := "GoodHalfEmpty", name := "town", desc := "()I" } : Jvm.MethodName) ({ cls := "GoodHalfEmpty", name := "town", desc := "()I" } : Jvm.MethodName)) ∈ lw_all := lw_g (lw_at lw_m4 210 rfl) rfl
theorem q1006 : (Jvm.Cond.code ({ cls := "GoodHalfEmpty", name := "town", desc := "()I" } : Jvm.MethodName) prog_1_method_45_code (1 : Nat) (Option.some Jvm.ClassFile.FieldType.int)) ∈ lw_all := lw_g (lw_at lw_m4 211 rfl) rfl
theorem q1008 : (Jvm.Cond.instanceMethod ({ cls := "GoodHalfEmpty", name := "sort", desc := "(II)I" } : Jvm.MethodName)) ∈ lw_all := lw_g (lw_at lw_m4 213 rfl) rfl
theorem q1009 : (Jvm.Cond.selects "GoodHalfEmpty" ({ cls := "GoodHalfEmpty", name := "sort", desc := "(II)I" } : Jvm.MethodName) ({ cls := "GoodHalfEmpty", name := "sort", desc := "(II)I" } : Jvm.MethodName)) ∈ lw_all := lw_g (lw_at lw_m4 214 rfl) rfl
theorem q1010 : (Jvm.Cond.code ({ cls := "GoodHalfEmpty", name := "sort", desc := "(II)I" } : Jvm.MethodName) prog_1_method_46_code (3 : Nat) (Option.some Jvm.ClassFile.FieldType.int)) ∈ lw_all := lw_g (lw_at lw_m4 215 rfl) rfl
theorem q1012 : (Jvm.Cond.instanceMethod ({ cls := "GoodHalfEmpty", name := "rule", desc := "(II)I" } : Jvm.MethodName)) ∈ lw_all := lw_g (lw_at lw_m4 217 rfl) rfl
theorem q1013 : (Jvm.Cond.selects "GoodHalfEmpty" ({ cls := "GoodHalfEmpty", name := "rule", desc := "(II)I" } : Jvm.MethodName) ({ cls := "GoodHalfEmpty", name := "rule", desc := "(II)I" } : Jvm.MethodName)) ∈ lw_all := lw_g (lw_at lw_m4 218 rfl) rfl
theorem q1014 : (Jvm.Cond.code ({ cls := "GoodHalfEmpty", name := "rule", desc := "(II)I" } : Jvm.MethodName) prog_1_method_47_code (3 : Nat) (Option.some Jvm.ClassFile.FieldType.int)) ∈ lw_all := lw_g (lw_at lw_m4 219 rfl) rfl
theorem q1016 : (Jvm.Cond.instanceMethod ({ cls := "GoodHalfEmpty", name := "remembered", desc := "(I)I" } : Jvm.MethodName)) ∈ lw_all := lw_g (lw_at lw_m4 221 rfl) rfl
theorem q1017 : (Jvm.Cond.selects "GoodHalfEmpty" ({ cls := "GoodHalfEmpty", name := "remembered", desc := "(I)I" } : Jvm.MethodName) ({ cls := "GoodHalfEmpty", name := "remembered", desc := "(I)I" } : Jvm.MethodName)) ∈ lw_all := lw_g (lw_at lw_m4 222 rfl) rfl
theorem q1018 : (Jvm.Cond.code ({ cls := "GoodHalfEmpty", name := "remembered", desc := "(I)I" } : Jvm.MethodName) prog_1_method_48_code (2 : Nat) (Option.some Jvm.ClassFile.FieldType.int)) ∈ lw_all := lw_g (lw_at lw_m4 223 rfl) rfl
theorem q1020 : (Jvm.Cond.instanceMethod ({ cls := "GoodHalfEmpty", name := "penny", desc := "(I)I" } : Jvm.MethodName)) ∈ lw_all := lw_g (lw_at lw_m4 225 rfl) rfl
theorem q1021 : (Jvm.Cond.selects "GoodHalfEmpty" ({ cls := "GoodHalfEmpty", name := "penny", desc := "(I)I" } : Jvm.MethodName) ({ cls := "GoodHalfEmpty", name := "penny", desc := "(I)I" } : Jvm.MethodName)) ∈ lw_all := lw_g (lw_at lw_m4 226 rfl) rfl
theorem q1022 : (Jvm.Cond.code ({ cls := "GoodHalfEmpty", name := "penny", desc := "(I)I" } : Jvm.MethodName) prog_1_method_49_code (2 : Nat) (Option.some Jvm.ClassFile.FieldType.int)) ∈ lw_all := lw_g (lw_at lw_m4 227 rfl) rfl
theorem q1024 : (Jvm.Cond.instanceMethod ({ cls := "GoodHalfEmpty", name := "week", desc := "()I" } : Jvm.MethodName)) ∈ lw_all := lw_g (lw_at lw_m4 229 rfl) rfl
theorem q1025 : (Jvm.Cond.selects "GoodHalfEmpty" ({ cls := "GoodHalfEmpty", name := "week", desc := "()I" } : Jvm.MethodName) ({ cls := "GoodHalfEmpty", name := "week", desc := "()I" } : Jvm.MethodName)) ∈ lw_all := lw_g (lw_at lw_m4 230 rfl) rfl
theorem q1026 : (Jvm.Cond.code ({ cls := "GoodHalfEmpty", name := "week", desc := "()I" } : Jvm.MethodName) prog_1_method_50_code (1 : Nat) (Option.some Jvm.ClassFile.FieldType.int)) ∈ lw_all := lw_g (lw_at lw_m4 231 rfl) rfl
theorem q1028 : (Jvm.Cond.instanceMethod ({ cls := "GoodHalfEmpty", name := "next", desc := "()I" } : Jvm.MethodName)) ∈ lw_all := lw_g (lw_at lw_m4 233 rfl) rfl
theorem q1029 : (Jvm.Cond.selects "GoodHalfEmpty" ({ cls := "GoodHalfEmpty", name := "next", desc := "()I" } : Jvm.MethodName) ({ cls := "GoodHalfEmpty", name := "next", desc := "()I" } : Jvm.MethodName)) ∈ lw_all := lw_g (lw_at lw_m4 234 rfl) rfl
theorem q1030 : (Jvm.Cond.code ({ cls := "GoodHalfEmpty", name := "next", desc := "()I" } : Jvm.MethodName) prog_1_method_51_code (1 : Nat) (Option.some Jvm.ClassFile.FieldType.int)) ∈ lw_all := lw_g (lw_at lw_m4 235 rfl) rfl
theorem q1032 : (Jvm.Cond.instanceMethod ({ cls := "GoodHalfEmpty", name := "goes", desc := "(I)I" } : Jvm.MethodName)) ∈ lw_all := lw_g (lw_at lw_m4 237 rfl) rfl
theorem q1033 : (Jvm.Cond.selects "GoodHalfEmpty" ({ cls := "GoodHalfEmpty", name := "goes", desc := "(I)I" } : Jvm.MethodName) ({ cls := "GoodHalfEmpty", name := "goes", desc := "(I)I" } : Jvm.MethodName)) ∈ lw_all := lw_g (lw_at lw_m4 238 rfl) rfl
theorem q1034 : (Jvm.Cond.code ({ cls := "GoodHalfEmpty", name := "goes", desc := "(I)I" } : Jvm.MethodName) prog_1_method_52_code (2 : Nat) (Option.some Jvm.ClassFile.FieldType.int)) ∈ lw_all := lw_g (lw_at lw_m4 239 rfl) rfl
theorem q1036 : (Jvm.Cond.instanceMethod ({ cls := "GoodHalfEmpty", name := "worth", desc := "(I)I" } : Jvm.MethodName)) ∈ lw_all := lw_g (lw_at lw_m5 1 rfl) rfl
theorem q1037 : (Jvm.Cond.selects "GoodHalfEmpty" ({ cls := "GoodHalfEmpty", name := "worth", desc := "(I)I" } : Jvm.MethodName) ({ cls := "GoodHalfEmpty", name := "worth", desc := "(I)I" } : Jvm.MethodName)) ∈ lw_all := lw_g (lw_at lw_m5 2 rfl) rfl
theorem q1038 : (Jvm.Cond.code ({ cls := "GoodHalfEmpty", name := "worth", desc := "(I)I" } : Jvm.MethodName) prog_1_method_53_code (2 : Nat) (Option.some Jvm.ClassFile.FieldType.int)) ∈ lw_all := lw_g (lw_at lw_m5 3 rfl) rfl
theorem q1039 : (Jvm.Cond.methodLink "GoodHalfEmpty" (432 : Nat) ({ cls := "GoodHalfEmpty", name := "actFar", desc := "(III)I" } : Jvm.MethodName)) ∈ lw_all := lw_g (lw_at lw_m5 4 rfl) rfl
theorem q1040 : (Jvm.Cond.privateMethod ({ cls := "GoodHalfEmpty", name := "actFar", desc := "(III)I" } : Jvm.MethodName)) ∈ lw_tbl := lw_at lw_m5 5 rfl
theorem q1041 : (Jvm.Cond.instanceMethod ({ cls := "GoodHalfEmpty", name := "actFar", desc := "(III)I" } : Jvm.MethodName)) ∈ lw_all := lw_g (lw_at lw_m5 6 rfl) rfl
theorem q1042 : (Jvm.Cond.codeWith ({ cls := "GoodHalfEmpty", name := "actFar", desc := "(III)I" } : Jvm.MethodName) prog_1_method_28_code (5 : Nat) (Option.some Jvm.ClassFile.FieldType.int) [((0 : Nat), (7 : Nat), (8 : Nat), (290 : Nat))]) ∈ lw_all := lw_g (lw_at lw_m5 7 rfl) rfl
theorem q1043 : (Jvm.Cond.constant "GoodHalfEmpty" (299 : Nat) (1000000000 : Int32)) ∈ lw_all := lw_g (lw_at lw_m5 8 rfl) rfl
theorem q1045 : (Jvm.Cond.instanceMethod ({ cls := "GoodHalfEmpty", name := "after", desc := "(I)I" } : Jvm.MethodName)) ∈ lw_all := lw_g (lw_at lw_m5 10 rfl) rfl
theorem q1046 : (Jvm.Cond.selects "GoodHalfEmpty" ({ cls := "GoodHalfEmpty", name := "after", desc := "(I)I" } : Jvm.MethodName) ({ cls := "GoodHalfEmpty", name := "after", desc := "(I)I" } : Jvm.MethodName)) ∈ lw_all := lw_g (lw_at lw_m5 11 rfl) rfl
theorem q1047 : (Jvm.Cond.code ({ cls := "GoodHalfEmpty", name := "after", desc := "(I)I" } : Jvm.MethodName) prog_1_method_54_code (2 : Nat) (Option.some Jvm.ClassFile.FieldType.int)) ∈ lw_all := lw_g (lw_at lw_m5 12 rfl) rfl
theorem q1049 : (Jvm.Cond.instanceMethod ({ cls := "GoodHalfEmpty", name := "mean", desc := "(I)I" } : Jvm.MethodName)) ∈ lw_all := lw_g (lw_at lw_m5 14 rfl) rfl
theorem q1050 : (Jvm.Cond.selects "GoodHalfEmpty" ({ cls := "GoodHalfEmpty", name := "mean", desc := "(I)I" } : Jvm.MethodName) ({ cls := "GoodHalfEmpty", name := "mean", desc := "(I)I" } : Jvm.MethodName)) ∈ lw_all := lw_g (lw_at lw_m5 15 rfl) rfl
theorem q1051 : (Jvm.Cond.code ({ cls := "GoodHalfEmpty", name := "mean", desc := "(I)I" } : Jvm.MethodName) prog_1_method_55_code (2 : Nat) (Option.some Jvm.ClassFile.FieldType.int)) ∈ lw_all := lw_g (lw_at lw_m5 16 rfl) rfl
theorem q1053 : (Jvm.Cond.instanceMethod ({ cls := "GoodHalfEmpty", name := "swing", desc := "(I)I" } : Jvm.MethodName)) ∈ lw_all := lw_g (lw_at lw_m5 18 rfl) rfl
theorem q1054 : (Jvm.Cond.selects "GoodHalfEmpty" ({ cls := "GoodHalfEmpty", name := "swing", desc := "(I)I" } : Jvm.MethodName) ({ cls := "GoodHalfEmpty", name := "swing", desc := "(I)I" } : Jvm.MethodName)) ∈ lw_all := lw_g (lw_at lw_m5 19 rfl) rfl
theorem q1055 : (Jvm.Cond.code ({ cls := "GoodHalfEmpty", name := "swing", desc := "(I)I" } : Jvm.MethodName) prog_1_method_56_code (2 : Nat) (Option.some Jvm.ClassFile.FieldType.int)) ∈ lw_all := lw_g (lw_at lw_m5 20 rfl) rfl
theorem q1057 : (Jvm.Cond.instanceMethod ({ cls := "GoodHalfEmpty", name := "good", desc := "(I)I" } : Jvm.MethodName)) ∈ lw_all := lw_g (lw_at lw_m5 22 rfl) rfl
theorem q1058 : (Jvm.Cond.selects "GoodHalfEmpty" ({ cls := "GoodHalfEmpty", name := "good", desc := "(I)I" } : Jvm.MethodName) ({ cls := "GoodHalfEmpty", name := "good", desc := "(I)I" } : Jvm.MethodName)) ∈ lw_all := lw_g (lw_at lw_m5 23 rfl) rfl
theorem q1059 : (Jvm.Cond.code ({ cls := "GoodHalfEmpty", name := "good", desc := "(I)I" } : Jvm.MethodName) prog_1_method_57_code (2 : Nat) (Option.some Jvm.ClassFile.FieldType.int)) ∈ lw_all := lw_g (lw_at lw_m5 24 rfl) rfl
theorem q1061 : (Jvm.Cond.instanceMethod ({ cls := "GoodHalfEmpty", name := "again", desc := "()I" } : Jvm.MethodName)) ∈ lw_all := lw_g (lw_at lw_m5 26 rfl) rfl
theorem q1062 : (Jvm.Cond.selects "GoodHalfEmpty" ({ cls := "GoodHalfEmpty", name := "again", desc := "()I" } : Jvm.MethodName) ({ cls := "GoodHalfEmpty", name := "again", desc := "()I" } : Jvm.MethodName)) ∈ lw_all := lw_g (lw_at lw_m5 27 rfl) rfl
theorem q1063 : (Jvm.Cond.code ({ cls := "GoodHalfEmpty", name := "again", desc := "()I" } : Jvm.MethodName) prog_1_method_58_code (1 : Nat) (Option.some Jvm.ClassFile.FieldType.int)) ∈ lw_all := lw_g (lw_at lw_m5 28 rfl) rfl
theorem q1065 : (Jvm.Cond.instanceMethod ({ cls := "GoodHalfEmpty", name := "gains", desc := "(II)I" } : Jvm.MethodName)) ∈ lw_all := lw_g (lw_at lw_m5 30 rfl) rfl
theorem q1066 : (Jvm.Cond.selects "GoodHalfEmpty" ({ cls := "GoodHalfEmpty", name := "gains", desc := "(II)I" } : Jvm.MethodName) ({ cls := "GoodHalfEmpty", name := "gains", desc := "(II)I" } : Jvm.MethodName)) ∈ lw_all := lw_g (lw_at lw_m5 31 rfl) rfl
theorem q1067 : (Jvm.Cond.code ({ cls := "GoodHalfEmpty", name := "gains", desc := "(II)I" } : Jvm.MethodName) prog_1_method_59_code (3 : Nat) (Option.some Jvm.ClassFile.FieldType.int)) ∈ lw_all := lw_g (lw_at lw_m5 32 rfl) rfl
theorem q1069 : (Jvm.Cond.instanceMethod ({ cls := "GoodHalfEmpty", name := "rests", desc := "()I" } : Jvm.MethodName)) ∈ lw_all := lw_g (lw_at lw_m5 34 rfl) rfl
theorem q1070 : (Jvm.Cond.selects "GoodHalfEmpty" ({ cls := "GoodHalfEmpty", name := "rests", desc := "()I" } : Jvm.MethodName) ({ cls := "GoodHalfEmpty", name := "rests", desc := "()I" } : Jvm.MethodName)) ∈ lw_all := lw_g (lw_at lw_m5 35 rfl) rfl
theorem q1071 : (Jvm.Cond.code ({ cls := "GoodHalfEmpty", name := "rests", desc := "()I" } : Jvm.MethodName) prog_1_method_60_code (1 : Nat) (Option.some Jvm.ClassFile.FieldType.int)) ∈ lw_all := lw_g (lw_at lw_m5 36 rfl) rfl
theorem q1073 : (Jvm.Cond.instanceMethod ({ cls := "GoodHalfEmpty", name := "rest", desc := "(I)I" } : Jvm.MethodName)) ∈ lw_all := lw_g (lw_at lw_m5 38 rfl) rfl
theorem q1074 : (Jvm.Cond.selects "GoodHalfEmpty" ({ cls := "GoodHalfEmpty", name := "rest", desc := "(I)I" } : Jvm.MethodName) ({ cls := "GoodHalfEmpty", name := "rest", desc := "(I)I" } : Jvm.MethodName)) ∈ lw_all := lw_g (lw_at lw_m5 39 rfl) rfl
theorem q1075 : (Jvm.Cond.code ({ cls := "GoodHalfEmpty", name := "rest", desc := "(I)I" } : Jvm.MethodName) prog_1_method_61_code (2 : Nat) (Option.some Jvm.ClassFile.FieldType.int)) ∈ lw_all := lw_g (lw_at lw_m5 40 rfl) rfl
theorem q1077 : (Jvm.Cond.instanceMethod ({ cls := "GoodHalfEmpty", name := "best", desc := "(I)I" } : Jvm.MethodName)) ∈ lw_all := lw_g (lw_at lw_m5 42 rfl) rfl
theorem q1078 : (Jvm.Cond.selects "GoodHalfEmpty" ({ cls := "GoodHalfEmpty", name := "best", desc := "(I)I" } : Jvm.MethodName) ({ cls := "GoodHalfEmpty", name := "best", desc := "(I)I" } : Jvm.MethodName)) ∈ lw_all := lw_g (lw_at lw_m5 43 rfl) rfl
theorem q1079 : (Jvm.Cond.code ({ cls := "GoodHalfEmpty", name := "best", desc := "(I)I" } : Jvm.MethodName) prog_1_method_62_code (2 : Nat) (Option.some Jvm.ClassFile.FieldType.int)) ∈ lw_all := lw_g (lw_at lw_m5 44 rfl) rfl
theorem q1081 : (Jvm.Cond.instanceMethod ({ cls := "GoodHalfEmpty", name := "off", desc := "()I" } : Jvm.MethodName)) ∈ lw_all := lw_g (lw_at lw_m5 46 rfl) rfl
theorem q1082 : (Jvm.Cond.selects "GoodHalfEmpty" ({ cls := "GoodHalfEmpty", name := "off", desc := "()I" } : Jvm.MethodName) ({ cls := "GoodHalfEmpty", name := "off", desc := "()I" } : Jvm.MethodName)) ∈ lw_all := lw_g (lw_at lw_m5 47 rfl) rfl
theorem q1083 : (Jvm.Cond.code ({ cls := "GoodHalfEmpty", name := "off", desc := "()I" } : Jvm.MethodName) prog_1_method_63_code (1 : Nat) (Option.some Jvm.ClassFile.FieldType.int)) ∈ lw_all := lw_g (lw_at lw_m5 48 rfl) rfl
theorem q1085 : (Jvm.Cond.instanceMethod ({ cls := "GoodHalfEmpty", name := "pennies", desc := "()I" } : Jvm.MethodName)) ∈ lw_all := lw_g (lw_at lw_m5 50 rfl) rfl
theorem q1086 : (Jvm.Cond.selects "GoodHalfEmpty" ({ cls := "GoodHalfEmpty", name := "pennies", desc := "()I" } : Jvm.MethodName) ({ cls := "GoodHalfEmpty", name := "pennies", desc := "()I" } : Jvm.MethodName)) ∈ lw_all := lw_g (lw_at lw_m5 51 rfl) rfl
theorem q1087 : (Jvm.Cond.code ({ cls := "GoodHalfEmpty", name := "pennies", desc := "()I" } : Jvm.MethodName) prog_1_method_64_code (1 : Nat) (Option.some Jvm.ClassFile.FieldType.int)) ∈ lw_all := lw_g (lw_at lw_m5 52 rfl) rfl
theorem q1089 : (Jvm.Cond.instanceMethod ({ cls := "GoodHalfEmpty", name := "chairs", desc := "()I" } : Jvm.MethodName)) ∈ lw_all := lw_g (lw_at lw_m5 54 rfl) rfl
theorem q1090 : (Jvm.Cond.selects "GoodHalfEmpty" ({ cls := "GoodHalfEmpty", name := "chairs", desc := "()I" } : Jvm.MethodName) ({ cls := "GoodHalfEmpty", name := "chairs", desc := "()I" } : Jvm.MethodName)) ∈ lw_all := lw_g (lw_at lw_m5 55 rfl) rfl
theorem q1091 : (Jvm.Cond.code ({ cls := "GoodHalfEmpty", name := "chairs", desc := "()I" } : Jvm.MethodName) prog_1_method_65_code (1 : Nat) (Option.some Jvm.ClassFile.FieldType.int)) ∈ lw_all := lw_g (lw_at lw_m5 56 rfl) rfl
theorem q1093 : (Jvm.Cond.instanceMethod ({ cls := "GoodHalfEmpty", name := "sees", desc := "(IIII)I" } : Jvm.MethodName)) ∈ lw_all := lw_g (lw_at lw_m5 58 rfl) rfl
theorem q1094 : (Jvm.Cond.selects "GoodHalfEmpty" ({ cls := "GoodHalfEmpty", name := "sees", desc := "(IIII)I" } : Jvm.MethodName) ({ cls := "GoodHalfEmpty", name := "sees", desc := "(IIII)I" } : Jvm.MethodName)) ∈ lw_all := lw_g (lw_at lw_m5 59 rfl) rfl
theorem q1095 : (Jvm.Cond.code ({ cls := "GoodHalfEmpty", name := "sees", desc := "(IIII)I" } : Jvm.MethodName) prog_1_method_66_code (5 : Nat) (Option.some Jvm.ClassFile.FieldType.int)) ∈ lw_all := lw_g (lw_at lw_m5 60 rfl) rfl
theorem q1096 : (Jvm.Cond.methodLink "GoodHalfEmpty" (435 : Nat) ({ cls := "GoodHalfEmpty", name := "seesTold", desc := "(IIII)I" } : Jvm.MethodName)) ∈ lw_all := lw_g (lw_at lw_m5 61 rfl) rfl
theorem q1097 : (Jvm.Cond.privateMethod ({ cls := "GoodHalfEmpty", name := "seesTold", desc := "(IIII)I" } : Jvm.MethodName)) ∈ lw_tbl := lw_at lw_m5 62 rfl
theorem q1098 : (Jvm.Cond.instanceMethod ({ cls := "GoodHalfEmpty", name := "seesTold", desc := "(IIII)I" } : Jvm.MethodName)) ∈ lw_all := lw_g (lw_at lw_m5 63 rfl) rfl
theorem q1099 : (Jvm.Cond.codeWith ({ cls := "GoodHalfEmpty", name := "seesTold", desc := "(IIII)I" } : Jvm.MethodName) prog_1_method_42_code (6 : Nat) (Option.some Jvm.ClassFile.FieldType.int) [((0 : Nat), (83 : Nat), (84 : Nat), (290 : Nat))]) ∈ lw_all := lw_g (lw_at lw_m5 64 rfl) rfl
theorem q1100 : (Jvm.Cond.methodLink "GoodHalfEmpty" (400 : Nat) ({ cls := "GoodHalfEmpty", name := "gainsOfSeer", desc := "(IIII)I" } : Jvm.MethodName)) ∈ lw_all := lw_g (lw_at lw_m5 65 rfl) rfl
theorem q1101 : (Jvm.Cond.privateMethod ({ cls := "GoodHalfEmpty", name := "gainsOfSeer", desc := "(IIII)I" } : Jvm.MethodName)) ∈ lw_tbl := lw_at lw_m5 66 rfl
theorem q1102 : (Jvm.Cond.instanceMethod ({ cls := "GoodHalfEmpty", name := "gainsOfSeer", desc := "(IIII)I" } : Jvm.MethodName)) ∈ lw_all := lw_g (lw_at lw_m5 67 rfl) rfl
theorem q1103 : (Jvm.Cond.code ({ cls := "GoodHalfEmpty", name := "gainsOfSeer", desc := "(IIII)I" } : Jvm.MethodName) prog_1_method_20_code (6 : Nat) (Option.some Jvm.ClassFile.FieldType.int)) ∈ lw_all := lw_g (lw_at lw_m5 68 rfl) rfl
theorem q1104 : (Jvm.Cond.classLink "GoodHalfEmpty" (185 : Nat) "GoodHalfEmpty$Sort") ∈ lw_all := lw_g (lw_at lw_m5 69 rfl) rfl
theorem q1105 : (Jvm.Cond.methodLink "GoodHalfEmpty" (242 : Nat) ({ cls := "GoodHalfEmpty$Sort", name := "<init>", desc := "(LGoodHalfEmpty$Goer;IIIII)V" } : Jvm.MethodName)) ∈ lw_all := lw_g (lw_at lw_m5 70 rfl) rfl
theorem q1107 : (Jvm.Cond.instanceMethod ({ cls := "GoodHalfEmpty", name := "which", desc := "(I)I" } : Jvm.MethodName)) ∈ lw_all := lw_g (lw_at lw_m5 72 rfl) rfl
theorem q1108 : (Jvm.Cond.selects "GoodHalfEmpty" ({ cls := "GoodHalfEmpty", name := "which", desc := "(I)I" } : Jvm.MethodName) ({ cls := "GoodHalfEmpty", name := "which", desc := "(I)I" } : Jvm.MethodName)) ∈ lw_all := lw_g (lw_at lw_m5 73 rfl) rfl
theorem q1109 : (Jvm.Cond.code ({ cls := "GoodHalfEmpty", name := "which", desc := "(I)I" } : Jvm.MethodName) prog_1_method_67_code (2 : Nat) (Option.some Jvm.ClassFile.FieldType.int)) ∈ lw_all := lw_g (lw_at lw_m5 74 rfl) rfl
theorem q1111 : (Jvm.Cond.instanceMethod ({ cls := "GoodHalfEmpty", name := "longer", desc := "(I)I" } : Jvm.MethodName)) ∈ lw_all := lw_g (lw_at lw_m5 76 rfl) rfl
theorem q1112 : (Jvm.Cond.selects "GoodHalfEmpty" ({ cls := "GoodHalfEmpty", name := "longer", desc := "(I)I" } : Jvm.MethodName) ({ cls := "GoodHalfEmpty", name := "longer", desc := "(I)I" } : Jvm.MethodName)) ∈ lw_all := lw_g (lw_at lw_m5 77 rfl) rfl
theorem q1113 : (Jvm.Cond.code ({ cls := "GoodHalfEmpty", name := "longer", desc := "(I)I" } : Jvm.MethodName) prog_1_method_68_code (2 : Nat) (Option.some Jvm.ClassFile.FieldType.int)) ∈ lw_all := lw_g (lw_at lw_m5 78 rfl) rfl
theorem q1115 : (Jvm.Cond.instanceMethod ({ cls := "GoodHalfEmpty", name := "seeds", desc := "(II)I" } : Jvm.MethodName)) ∈ lw_all := lw_g (lw_at lw_m5 80 rfl) rfl
theorem q1116 : (Jvm.Cond.selects "GoodHalfEmpty" ({ cls := "GoodHalfEmpty", name := "seeds", desc := "(II)I" } : Jvm.MethodName) ({ cls := "GoodHalfEmpty", name := "seeds", desc := "(II)I" } : Jvm.MethodName)) ∈ lw_all := lw_g (lw_at lw_m5 81 rfl) rfl
theorem q1117 : (Jvm.Cond.code ({ cls := "GoodHalfEmpty", name := "seeds", desc := "(II)I" } : Jvm.MethodName) prog_1_method_69_code (3 : Nat) (Option.some Jvm.ClassFile.FieldType.int)) ∈ lw_all := lw_g (lw_at lw_m5 82 rfl) rfl
theorem q1119 : (Jvm.Cond.instanceMethod ({ cls := "GoodHalfEmpty", name := "row", desc := "(I)I" } : Jvm.MethodName)) ∈ lw_all := lw_g (lw_at lw_m5 84 rfl) rfl
theorem q1120 : (Jvm.Cond.selects "GoodHalfEmpty" ({ cls := "GoodHalfEmpty", name := "row", desc := "(I)I" } : Jvm.MethodName) ({ cls := "GoodHalfEmpty", name := "row", desc := "(I)I" } : Jvm.MethodName)) ∈ lw_all := lw_g (lw_at lw_m5 85 rfl) rfl
theorem q1121 : (Jvm.Cond.code ({ cls := "GoodHalfEmpty", name := "row", desc := "(I)I" } : Jvm.MethodName) prog_1_method_70_code (2 : Nat) (Option.some Jvm.ClassFile.FieldType.int)) ∈ lw_all := lw_g (lw_at lw_m5 86 rfl) rfl
theorem q1123 : (Jvm.Cond.instanceMethod ({ cls := "GoodHalfEmpty", name := "judge", desc := "()I" } : Jvm.MethodName)) ∈ lw_all := lw_g (lw_at lw_m5 88 rfl) rfl
theorem q1124 : (Jvm.Cond.selects "GoodHalfEmpty" ({ cls := "GoodHalfEmpty", name := "judge", desc := "()I" } : Jvm.MethodName) ({ cls := "GoodHalfEmpty", name := "judge", desc := "()I" } : Jvm.MethodName)) ∈ lw_all := lw_g (lw_at lw_m5 89 rfl) rfl
theorem q1125 : (Jvm.Cond.code ({ cls := "GoodHalfEmpty", name := "judge", desc := "()I" } : Jvm.MethodName) prog_1_method_71_code (1 : Nat) (Option.some Jvm.ClassFile.FieldType.int)) ∈ lw_all := lw_g (lw_at lw_m5 90 rfl) rfl
theorem q1127 : (Jvm.Cond.instanceMethod ({ cls := "GoodHalfEmpty", name := "image", desc := "()I" } : Jvm.MethodName)) ∈ lw_all := lw_g (lw_at lw_m5 92 rfl) rfl
theorem q1128 : (Jvm.Cond.selects "GoodHalfEmpty" ({ cls := "GoodHalfEmpty", name := "image", desc := "()I" } : Jvm.MethodName) ({ cls := "GoodHalfEmpty", name := "image", desc := "()I" } : Jvm.MethodName)) ∈ lw_all := lw_g (lw_at lw_m5 93 rfl) rfl
theorem q1129 : (Jvm.Cond.code ({ cls := "GoodHalfEmpty", name := "image", desc := "()I" } : Jvm.MethodName) prog_1_method_72_code (1 : Nat) (Option.some Jvm.ClassFile.FieldType.int)) ∈ lw_all := lw_g (lw_at lw_m5 94 rfl) rfl
theorem q1131 : (Jvm.Cond.instanceMethod ({ cls := "GoodHalfEmpty", name := "on", desc := "()I" } : Jvm.MethodName)) ∈ lw_all := lw_g (lw_at lw_m5 96 rfl) rfl
theorem q1132 : (Jvm.Cond.selects "GoodHalfEmpty" ({ cls := "GoodHalfEmpty", name := "on", desc := "()I" } : Jvm.MethodName) ({ cls := "GoodHalfEmpty", name := "on", desc := "()I" } : Jvm.MethodName)) ∈ lw_all := lw_g (lw_at lw_m5 97 rfl) rfl
theorem q1133 : (Jvm.Cond.code ({ cls := "GoodHalfEmpty", name := "on", desc := "()I" } : Jvm.MethodName) prog_1_method_73_code (1 : Nat) (Option.some Jvm.ClassFile.FieldType.int)) ∈ lw_all := lw_g (lw_at lw_m5 98 rfl) rfl
theorem q1135 : (Jvm.Cond.instanceMethod ({ cls := "GoodHalfEmpty", name := "count", desc := "(I)I" } : Jvm.MethodName)) ∈ lw_all := lw_g (lw_at lw_m5 100 rfl) rfl
theorem q1136 : (Jvm.Cond.selects "GoodHalfEmpty" ({ cls := "GoodHalfEmpty", name := "count", desc := "(I)I" } : Jvm.MethodName) ({ cls := "GoodHalfEmpty", name := "count", desc := "(I)I" } : Jvm.MethodName)) ∈ lw_all := lw_g (lw_at lw_m5 101 rfl) rfl
theorem q1137 : (Jvm.Cond.code ({ cls := "GoodHalfEmpty", name := "count", desc := "(I)I" } : Jvm.MethodName) prog_1_method_74_code (2 : Nat) (Option.some Jvm.ClassFile.FieldType.int)) ∈ lw_all := lw_g (lw_at lw_m5 102 rfl) rfl
theorem q1138 : (Jvm.Cond.constantLong "GoodHalfEmpty" (438 : Nat) (11 : Int64)) ∈ lw_all := lw_g (lw_at lw_m5 103 rfl) rfl
theorem q1139 : (Jvm.Cond.constantLong "GoodHalfEmpty" (440 : Nat) (16 : Int64)) ∈ lw_all := lw_g (lw_at lw_m5 104 rfl) rfl
theorem in_X0 : ∀ w ∈ wsX00, w ∈ lw_all := lw_in wsX00 [318, 320, 322, 324, 326, 328, 330, 332, 334, 336, 338, 340, 342, 344, 346, 348, 350, 352, 354, 356, 358, 360, 362, 364] (by decide +kernel) (by decide +kernel)

