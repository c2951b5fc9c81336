set_option maxRecDepth 100000
abbrev cX16_which : ByteArray := prog_28_method_55_code
def yX16_which : MethodName := ⟨RX16, "which", "(I)I"⟩
def dkwX16_which_7 : List UInt8 := [21, 5, 96, 61, 21, 6, 62, 132, 5, 1, 167, 255, 125, 132, 4, 1, 167, 255, 109, 28, 172]
abbrev dktX16_which_7 : List UInt8 := dkwX16_which_7 ++ []
def dkwX16_which_6 : List UInt8 := [180, 0, 11, 184, 0, 17, 28, 16, 247, 159, 0, 9, 21, 6, 29, 164, 0, 15, 16, 10, 21, 4, 104]
abbrev dktX16_which_6 : List UInt8 := dkwX16_which_6 ++ dktX16_which_7
def dkwX16_which_5 : List UInt8 := [160, 0, 7, 4, 167, 0, 4, 3, 96, 54, 6, 132, 7, 1, 167, 255, 190, 42, 180, 0, 63, 42]
abbrev dktX16_which_5 : List UInt8 := dkwX16_which_5 ++ dktX16_which_6
def dkwX16_which_4 : List UInt8 := [21, 6, 42, 182, 0, 145, 42, 180, 0, 11, 5, 46, 163, 0, 7, 4, 167, 0, 4, 3, 21, 8]
abbrev dktX16_which_4 : List UInt8 := dkwX16_which_4 ++ dktX16_which_5
def dkwX16_which_3 : List UInt8 := [21, 4, 21, 5, 182, 0, 126, 42, 180, 0, 11, 5, 46, 163, 0, 7, 4, 167, 0, 4, 3, 54, 8]
abbrev dktX16_which_3 : List UInt8 := dkwX16_which_3 ++ dktX16_which_4
def dkwX16_which_2 : List UInt8 := [180, 0, 11, 42, 180, 0, 63, 184, 0, 17, 3, 54, 6, 3, 54, 7, 21, 7, 27, 162, 0, 66, 42]
abbrev dktX16_which_2 : List UInt8 := dkwX16_which_2 ++ dktX16_which_3
def dkwX16_which_1 : List UInt8 := [61, 3, 62, 3, 54, 4, 21, 4, 16, 6, 162, 0, 146, 4, 54, 5, 21, 5, 16, 7, 162, 0, 130, 42]
abbrev dktX16_which_1 : List UInt8 := dkwX16_which_1 ++ dktX16_which_2
def dkwX16_which_0 : List UInt8 := [42, 27, 16, 60, 182, 0, 155, 153, 0, 15, 42, 42, 27, 16, 60, 182, 0, 155, 182, 0, 21, 172, 16, 247]
abbrev dktX16_which_0 : List UInt8 := dkwX16_which_0 ++ dktX16_which_1
theorem dksX16_which_0 : cX16_which.data.toList.drop 0 = dktX16_which_0 := by decide +kernel
theorem dksX16_which_1 : cX16_which.data.toList.drop 24 = dktX16_which_1 := dk_seg dksX16_which_0 24 rfl rfl
theorem dksX16_which_2 : cX16_which.data.toList.drop 48 = dktX16_which_2 := dk_seg dksX16_which_1 24 rfl rfl
theorem dksX16_which_3 : cX16_which.data.toList.drop 71 = dktX16_which_3 := dk_seg dksX16_which_2 23 rfl rfl
theorem dksX16_which_4 : cX16_which.data.toList.drop 94 = dktX16_which_4 := dk_seg dksX16_which_3 23 rfl rfl
theorem dksX16_which_5 : cX16_which.data.toList.drop 116 = dktX16_which_5 := dk_seg dksX16_which_4 22 rfl rfl
theorem dksX16_which_6 : cX16_which.data.toList.drop 138 = dktX16_which_6 := dk_seg dksX16_which_5 22 rfl rfl
theorem dksX16_which_7 : cX16_which.data.toList.drop 161 = dktX16_which_7 := dk_seg dksX16_which_6 23 rfl rfl
theorem dX16_which_0 : decode cX16_which 0 = .ok (.aload_n 0, 1) := dk_42 (dk_at dksX16_which_0 0 rfl rfl)
theorem dX16_which_1 : decode cX16_which 1 = .ok (.iload_n 1, 1) := dk_27 (dk_at dksX16_which_0 1 rfl rfl)
theorem dX16_which_2 : decode cX16_which 2 = .ok (.bipush 60, 2) := dk_16 60 (dk_at dksX16_which_0 2 rfl rfl)
theorem dX16_which_4 : decode cX16_which 4 = .ok (.invokevirtual 155, 3) := dk_182 0 155 (dk_at dksX16_which_0 4 rfl rfl)
theorem dX16_which_7 : decode cX16_which 7 = .ok (.ifCond .eq 15, 3) := dk_153 0 15 (dk_at dksX16_which_0 7 rfl rfl)
theorem dX16_which_10 : decode cX16_which 10 = .ok (.aload_n 0, 1) := dk_42 (dk_at dksX16_which_0 10 rfl rfl)
theorem dX16_which_11 : decode cX16_which 11 = .ok (.aload_n 0, 1) := dk_42 (dk_at dksX16_which_0 11 rfl rfl)
theorem dX16_which_12 : decode cX16_which 12 = .ok (.iload_n 1, 1) := dk_27 (dk_at dksX16_which_0 12 rfl rfl)
theorem dX16_which_13 : decode cX16_which 13 = .ok (.bipush 60, 2) := dk_16 60 (dk_at dksX16_which_0 13 rfl rfl)
theorem dX16_which_15 : decode cX16_which 15 = .ok (.invokevirtual 155, 3) := dk_182 0 155 (dk_at dksX16_which_0 15 rfl rfl)
theorem dX16_which_18 : decode cX16_which 18 = .ok (.invokevirtual 21, 3) := dk_182 0 21 (dk_at dksX16_which_0 18 rfl rfl)
theorem dX16_which_21 : decode cX16_which 21 = .ok (.ireturn, 1) := dk_172 (dk_at dksX16_which_0 21 rfl rfl)
theorem dX16_which_22 : decode cX16_which 22 = .ok (.bipush (-9), 2) := dk_16 247 (dk_at dksX16_which_0 22 rfl rfl)
theorem dX16_which_24 : decode cX16_which 24 = .ok (.istore_n 2, 1) := dk_61 (dk_at dksX16_which_1 0 rfl rfl)
theorem dX16_which_25 : decode cX16_which 25 = .ok (.iconst 0, 1) := dk_3 (dk_at dksX16_which_1 1 rfl rfl)
theorem dX16_which_26 : decode cX16_which 26 = .ok (.istore_n 3, 1) := dk_62 (dk_at dksX16_which_1 2 rfl rfl)
theorem dX16_which_27 : decode cX16_which 27 = .ok (.iconst 0, 1) := dk_3 (dk_at dksX16_which_1 3 rfl rfl)
theorem dX16_which_28 : decode cX16_which 28 = .ok (.istore 4, 2) := dk_54 4 (dk_at dksX16_which_1 4 rfl rfl)
theorem dX16_which_30 : decode cX16_which 30 = .ok (.iload 4, 2) := dk_21 4 (dk_at dksX16_which_1 6 rfl rfl)
theorem dX16_which_32 : decode cX16_which 32 = .ok (.bipush 6, 2) := dk_16 6 (dk_at dksX16_which_1 8 rfl rfl)
theorem dX16_which_34 : decode cX16_which 34 = .ok (.if_icmp .ge 146, 3) := dk_162 0 146 (dk_at dksX16_which_1 10 rfl rfl)
theorem dX16_which_37 : decode cX16_which 37 = .ok (.iconst 1, 1) := dk_4 (dk_at dksX16_which_1 13 rfl rfl)
theorem dX16_which_38 : decode cX16_which 38 = .ok (.istore 5, 2) := dk_54 5 (dk_at dksX16_which_1 14 rfl rfl)
theorem dX16_which_40 : decode cX16_which 40 = .ok (.iload 5, 2) := dk_21 5 (dk_at dksX16_which_1 16 rfl rfl)
theorem dX16_which_42 : decode cX16_which 42 = .ok (.bipush 7, 2) := dk_16 7 (dk_at dksX16_which_1 18 rfl rfl)
theorem dX16_which_44 : decode cX16_which 44 = .ok (.if_icmp .ge 130, 3) := dk_162 0 130 (dk_at dksX16_which_1 20 rfl rfl)
theorem dX16_which_47 : decode cX16_which 47 = .ok (.aload_n 0, 1) := dk_42 (dk_at dksX16_which_1 23 rfl rfl)
theorem dX16_which_48 : decode cX16_which 48 = .ok (.getfield 11, 3) := dk_180 0 11 (dk_at dksX16_which_2 0 rfl rfl)
theorem dX16_which_51 : decode cX16_which 51 = .ok (.aload_n 0, 1) := dk_42 (dk_at dksX16_which_2 3 rfl rfl)
theorem dX16_which_52 : decode cX16_which 52 = .ok (.getfield 63, 3) := dk_180 0 63 (dk_at dksX16_which_2 4 rfl rfl)
theorem dX16_which_55 : decode cX16_which 55 = .ok (.invokestatic 17, 3) := dk_184 0 17 (dk_at dksX16_which_2 7 rfl rfl)
theorem dX16_which_58 : decode cX16_which 58 = .ok (.iconst 0, 1) := dk_3 (dk_at dksX16_which_2 10 rfl rfl)
theorem dX16_which_59 : decode cX16_which 59 = .ok (.istore 6, 2) := dk_54 6 (dk_at dksX16_which_2 11 rfl rfl)
theorem dX16_which_61 : decode cX16_which 61 = .ok (.iconst 0, 1) := dk_3 (dk_at dksX16_which_2 13 rfl rfl)
theorem dX16_which_62 : decode cX16_which 62 = .ok (.istore 7, 2) := dk_54 7 (dk_at dksX16_which_2 14 rfl rfl)
theorem dX16_which_64 : decode cX16_which 64 = .ok (.iload 7, 2) := dk_21 7 (dk_at dksX16_which_2 16 rfl rfl)
theorem dX16_which_66 : decode cX16_which 66 = .ok (.iload_n 1, 1) := dk_27 (dk_at dksX16_which_2 18 rfl rfl)
theorem dX16_which_67 : decode cX16_which 67 = .ok (.if_icmp .ge 66, 3) := dk_162 0 66 (dk_at dksX16_which_2 19 rfl rfl)
theorem dX16_which_70 : decode cX16_which 70 = .ok (.aload_n 0, 1) := dk_42 (dk_at dksX16_which_2 22 rfl rfl)
theorem dX16_which_71 : decode cX16_which 71 = .ok (.iload 4, 2) := dk_21 4 (dk_at dksX16_which_3 0 rfl rfl)
theorem dX16_which_73 : decode cX16_which 73 = .ok (.iload 5, 2) := dk_21 5 (dk_at dksX16_which_3 2 rfl rfl)
theorem dX16_which_75 : decode cX16_which 75 = .ok (.invokevirtual 126, 3) := dk_182 0 126 (dk_at dksX16_which_3 4 rfl rfl)
theorem dX16_which_78 : decode cX16_which 78 = .ok (.aload_n 0, 1) := dk_42 (dk_at dksX16_which_3 7 rfl rfl)
theorem dX16_which_79 : decode cX16_which 79 = .ok (.getfield 11, 3) := dk_180 0 11 (dk_at dksX16_which_3 8 rfl rfl)
theorem dX16_which_82 : decode cX16_which 82 = .ok (.iconst 2, 1) := dk_5 (dk_at dksX16_which_3 11 rfl rfl)
theorem dX16_which_83 : decode cX16_which 83 = .ok (.iaload, 1) := dk_46 (dk_at dksX16_which_3 12 rfl rfl)
theorem dX16_which_84 : decode cX16_which 84 = .ok (.if_icmp .gt 7, 3) := dk_163 0 7 (dk_at dksX16_which_3 13 rfl rfl)
theorem dX16_which_87 : decode cX16_which 87 = .ok (.iconst 1, 1) := dk_4 (dk_at dksX16_which_3 16 rfl rfl)
theorem dX16_which_88 : decode cX16_which 88 = .ok (.goto 4, 3) := dk_167 0 4 (dk_at dksX16_which_3 17 rfl rfl)
theorem dX16_which_91 : decode cX16_which 91 = .ok (.iconst 0, 1) := dk_3 (dk_at dksX16_which_3 20 rfl rfl)
theorem dX16_which_92 : decode cX16_which 92 = .ok (.istore 8, 2) := dk_54 8 (dk_at dksX16_which_3 21 rfl rfl)
theorem dX16_which_94 : decode cX16_which 94 = .ok (.iload 6, 2) := dk_21 6 (dk_at dksX16_which_4 0 rfl rfl)
theorem dX16_which_96 : decode cX16_which 96 = .ok (.aload_n 0, 1) := dk_42 (dk_at dksX16_which_4 2 rfl rfl)
theorem dX16_which_97 : decode cX16_which 97 = .ok (.invokevirtual 145, 3) := dk_182 0 145 (dk_at dksX16_which_4 3 rfl rfl)
theorem dX16_which_100 : decode cX16_which 100 = .ok (.aload_n 0, 1) := dk_42 (dk_at dksX16_which_4 6 rfl rfl)
theorem dX16_which_101 : decode cX16_which 101 = .ok (.getfield 11, 3) := dk_180 0 11 (dk_at dksX16_which_4 7 rfl rfl)
theorem dX16_which_104 : decode cX16_which 104 = .ok (.iconst 2, 1) := dk_5 (dk_at dksX16_which_4 10 rfl rfl)
theorem dX16_which_105 : decode cX16_which 105 = .ok (.iaload, 1) := dk_46 (dk_at dksX16_which_4 11 rfl rfl)
theorem dX16_which_106 : decode cX16_which 106 = .ok (.if_icmp .gt 7, 3) := dk_163 0 7 (dk_at dksX16_which_4 12 rfl rfl)
theorem dX16_which_109 : decode cX16_which 109 = .ok (.iconst 1, 1) := dk_4 (dk_at dksX16_which_4 15 rfl rfl)
theorem dX16_which_110 : decode cX16_which 110 = .ok (.goto 4, 3) := dk_167 0 4 (dk_at dksX16_which_4 16 rfl rfl)
theorem dX16_which_113 : decode cX16_which 113 = .ok (.iconst 0, 1) := dk_3 (dk_at dksX16_which_4 19 rfl rfl)
theorem dX16_which_114 : decode cX16_which 114 = .ok (.iload 8, 2) := dk_21 8 (dk_at dksX16_which_4 20 rfl rfl)
theorem dX16_which_116 : decode cX16_which 116 = .ok (.if_icmp .ne 7, 3) := dk_160 0 7 (dk_at dksX16_which_5 0 rfl rfl)
theorem dX16_which_119 : decode cX16_which 119 = .ok (.iconst 1, 1) := dk_4 (dk_at dksX16_which_5 3 rfl rfl)
theorem dX16_which_120 : decode cX16_which 120 = .ok (.goto 4, 3) := dk_167 0 4 (dk_at dksX16_which_5 4 rfl rfl)
theorem dX16_which_123 : decode cX16_which 123 = .ok (.iconst 0, 1) := dk_3 (dk_at dksX16_which_5 7 rfl rfl)
theorem dX16_which_124 : decode cX16_which 124 = .ok (.iadd, 1) := dk_96 (dk_at dksX16_which_5 8 rfl rfl)
theorem dX16_which_125 : decode cX16_which 125 = .ok (.istore 6, 2) := dk_54 6 (dk_at dksX16_which_5 9 rfl rfl)
theorem dX16_which_127 : decode cX16_which 127 = .ok (.iinc 7 1, 3) := dk_132 7 1 (dk_at dksX16_which_5 11 rfl rfl)
theorem dX16_which_130 : decode cX16_which 130 = .ok (.goto (-66), 3) := dk_167 255 190 (dk_at dksX16_which_5 14 rfl rfl)
theorem dX16_which_133 : decode cX16_which 133 = .ok (.aload_n 0, 1) := dk_42 (dk_at dksX16_which_5 17 rfl rfl)
theorem dX16_which_134 : decode cX16_which 134 = .ok (.getfield 63, 3) := dk_180 0 63 (dk_at dksX16_which_5 18 rfl rfl)
theorem dX16_which_137 : decode cX16_which 137 = .ok (.aload_n 0, 1) := dk_42 (dk_at dksX16_which_5 21 rfl rfl)
theorem dX16_which_138 : decode cX16_which 138 = .ok (.getfield 11, 3) := dk_180 0 11 (dk_at dksX16_which_6 0 rfl rfl)
theorem dX16_which_141 : decode cX16_which 141 = .ok (.invokestatic 17, 3) := dk_184 0 17 (dk_at dksX16_which_6 3 rfl rfl)
theorem dX16_which_144 : decode cX16_which 144 = .ok (.iload_n 2, 1) := dk_28 (dk_at dksX16_which_6 6 rfl rfl)
theorem dX16_which_145 : decode cX16_which 145 = .ok (.bipush (-9), 2) := dk_16 247 (dk_at dksX16_which_6 7 rfl rfl)
theorem dX16_which_147 : decode cX16_which 147 = .ok (.if_icmp .eq 9, 3) := dk_159 0 9 (dk_at dksX16_which_6 9 rfl rfl)
theorem dX16_which_150 : decode cX16_which 150 = .ok (.iload 6, 2) := dk_21 6 (dk_at dksX16_which_6 12 rfl rfl)
theorem dX16_which_152 : decode cX16_which 152 = .ok (.iload_n 3, 1) := dk_29 (dk_at dksX16_which_6 14 rfl rfl)
theorem dX16_which_153 : decode cX16_which 153 = .ok (.if_icmp .le 15, 3) := dk_164 0 15 (dk_at dksX16_which_6 15 rfl rfl)
theorem dX16_which_156 : decode cX16_which 156 = .ok (.bipush 10, 2) := dk_16 10 (dk_at dksX16_which_6 18 rfl rfl)
theorem dX16_which_158 : decode cX16_which 158 = .ok (.iload 4, 2) := dk_21 4 (dk_at dksX16_which_6 20 rfl rfl)
theorem dX16_which_160 : decode cX16_which 160 = .ok (.imul, 1) := dk_104 (dk_at dksX16_which_6 22 rfl rfl)
theorem dX16_which_161 : decode cX16_which 161 = .ok (.iload 5, 2) := dk_21 5 (dk_at dksX16_which_7 0 rfl rfl)
theorem dX16_which_163 : decode cX16_which 163 = .ok (.iadd, 1) := dk_96 (dk_at dksX16_which_7 2 rfl rfl)
theorem dX16_which_164 : decode cX16_which 164 = .ok (.istore_n 2, 1) := dk_61 (dk_at dksX16_which_7 3 rfl rfl)
theorem dX16_which_165 : decode cX16_which 165 = .ok (.iload 6, 2) := dk_21 6 (dk_at dksX16_which_7 4 rfl rfl)
theorem dX16_which_167 : decode cX16_which 167 = .ok (.istore_n 3, 1) := dk_62 (dk_at dksX16_which_7 6 rfl rfl)
theorem dX16_which_168 : decode cX16_which 168 = .ok (.iinc 5 1, 3) := dk_132 5 1 (dk_at dksX16_which_7 7 rfl rfl)
theorem dX16_which_171 : decode cX16_which 171 = .ok (.goto (-131), 3) := dk_167 255 125 (dk_at dksX16_which_7 10 rfl rfl)
theorem dX16_which_174 : decode cX16_which 174 = .ok (.iinc 4 1, 3) := dk_132 4 1 (dk_at dksX16_which_7 13 rfl rfl)
theorem dX16_which_177 : decode cX16_which 177 = .ok (.goto (-147), 3) := dk_167 255 109 (dk_at dksX16_which_7 16 rfl rfl)
theorem dX16_which_180 : decode cX16_which 180 = .ok (.iload_n 2, 1) := dk_28 (dk_at dksX16_which_7 19 rfl rfl)
theorem dX16_which_181 : decode cX16_which 181 = .ok (.ireturn, 1) := dk_172 (dk_at dksX16_which_7 20 rfl rfl)
abbrev cX16_longer : ByteArray := prog_28_method_56_code
def yX16_longer : MethodName := ⟨RX16, "longer", "(I)I"⟩
def dkwX16_longer_4 : List UInt8 := [180, 0, 63, 42, 180, 0, 11, 184, 0, 17, 42, 27, 182, 0, 161, 172]
abbrev dktX16_longer_4 : List UInt8 := dkwX16_longer_4 ++ []
def dkwX16_longer_3 : List UInt8 := [96, 46, 4, 96, 184, 0, 152, 79, 132, 2, 1, 167, 255, 210, 42, 27, 2, 182, 0, 158, 87, 42]
abbrev dktX16_longer_3 : List UInt8 := dkwX16_longer_3 ++ dktX16_longer_4
def dkwX16_longer_2 : List UInt8 := [180, 0, 11, 16, 40, 6, 28, 104, 96, 4, 96, 16, 6, 42, 180, 0, 11, 16, 40, 6, 28, 104, 96, 4]
abbrev dktX16_longer_2 : List UInt8 := dkwX16_longer_2 ++ dktX16_longer_3
def dkwX16_longer_1 : List UInt8 := [180, 0, 11, 42, 180, 0, 63, 184, 0, 17, 3, 61, 28, 42, 180, 0, 11, 4, 46, 162, 0, 42, 42]
abbrev dktX16_longer_1 : List UInt8 := dkwX16_longer_1 ++ dktX16_longer_2
def dkwX16_longer_0 : List UInt8 := [42, 27, 16, 60, 182, 0, 155, 153, 0, 15, 42, 42, 27, 16, 60, 182, 0, 155, 182, 0, 21, 172, 42]
abbrev dktX16_longer_0 : List UInt8 := dkwX16_longer_0 ++ dktX16_longer_1
theorem dksX16_longer_0 : cX16_longer.data.toList.drop 0 = dktX16_longer_0 := by decide +kernel
theorem dksX16_longer_1 : cX16_longer.data.toList.drop 23 = dktX16_longer_1 := dk_seg dksX16_longer_0 23 rfl rfl
theorem dksX16_longer_2 : cX16_longer.data.toList.drop 46 = dktX16_longer_2 := dk_seg dksX16_longer_1 23 rfl rfl
theorem dksX16_longer_3 : cX16_longer.data.toList.drop 70 = dktX16_longer_3 := dk_seg dksX16_longer_2 24 rfl rfl
theorem dksX16_longer_4 : cX16_longer.data.toList.drop 92 = dktX16_longer_4 := dk_seg dksX16_longer_3 22 rfl rfl
theorem dX16_longer_0 : decode cX16_longer 0 = .ok (.aload_n 0, 1) := dk_42 (dk_at dksX16_longer_0 0 rfl rfl)
theorem dX16_longer_1 : decode cX16_longer 1 = .ok (.iload_n 1, 1) := dk_27 (dk_at dksX16_longer_0 1 rfl rfl)
theorem dX16_longer_2 : decode cX16_longer 2 = .ok (.bipush 60, 2) := dk_16 60 (dk_at dksX16_longer_0 2 rfl rfl)
theorem dX16_longer_4 : decode cX16_longer 4 = .ok (.invokevirtual 155, 3) := dk_182 0 155 (dk_at dksX16_longer_0 4 rfl rfl)
theorem dX16_longer_7 : decode cX16_longer 7 = .ok (.ifCond .eq 15, 3) := dk_153 0 15 (dk_at dksX16_longer_0 7 rfl rfl)
theorem dX16_longer_10 : decode cX16_longer 10 = .ok (.aload_n 0, 1) := dk_42 (dk_at dksX16_longer_0 10 rfl rfl)
theorem dX16_longer_11 : decode cX16_longer 11 = .ok (.aload_n 0, 1) := dk_42 (dk_at dksX16_longer_0 11 rfl rfl)
theorem dX16_longer_12 : decode cX16_longer 12 = .ok (.iload_n 1, 1) := dk_27 (dk_at dksX16_longer_0 12 rfl rfl)
theorem dX16_longer_13 : decode cX16_longer 13 = .ok (.bipush 60, 2) := dk_16 60 (dk_at dksX16_longer_0 13 rfl rfl)
theorem dX16_longer_15 : decode cX16_longer 15 = .ok (.invokevirtual 155, 3) := dk_182 0 155 (dk_at dksX16_longer_0 15 rfl rfl)
theorem dX16_longer_18 : decode cX16_longer 18 = .ok (.invokevirtual 21, 3) := dk_182 0 21 (dk_at dksX16_longer_0 18 rfl rfl)
theorem dX16_longer_21 : decode cX16_longer 21 = .ok (.ireturn, 1) := dk_172 (dk_at dksX16_longer_0 21 rfl rfl)
theorem dX16_longer_22 : decode cX16_longer 22 = .ok (.aload_n 0, 1) := dk_42 (dk_at dksX16_longer_0 22 rfl rfl)
theorem dX16_longer_23 : decode cX16_longer 23 = .ok (.getfield 11, 3) := dk_180 0 11 (dk_at dksX16_longer_1 0 rfl rfl)
theorem dX16_longer_26 : decode cX16_longer 26 = .ok (.aload_n 0, 1) := dk_42 (dk_at dksX16_longer_1 3 rfl rfl)
theorem dX16_longer_27 : decode cX16_longer 27 = .ok (.getfield 63, 3) := dk_180 0 63 (dk_at dksX16_longer_1 4 rfl rfl)
theorem dX16_longer_30 : decode cX16_longer 30 = .ok (.invokestatic 17, 3) := dk_184 0 17 (dk_at dksX16_longer_1 7 rfl rfl)
theorem dX16_longer_33 : decode cX16_longer 33 = .ok (.iconst 0, 1) := dk_3 (dk_at dksX16_longer_1 10 rfl rfl)
theorem dX16_longer_34 : decode cX16_longer 34 = .ok (.istore_n 2, 1) := dk_61 (dk_at dksX16_longer_1 11 rfl rfl)
theorem dX16_longer_35 : decode cX16_longer 35 = .ok (.iload_n 2, 1) := dk_28 (dk_at dksX16_longer_1 12 rfl rfl)
theorem dX16_longer_36 : decode cX16_longer 36 = .ok (.aload_n 0, 1) := dk_42 (dk_at dksX16_longer_1 13 rfl rfl)
theorem dX16_longer_37 : decode cX16_longer 37 = .ok (.getfield 11, 3) := dk_180 0 11 (dk_at dksX16_longer_1 14 rfl rfl)
theorem dX16_longer_40 : decode cX16_longer 40 = .ok (.iconst 1, 1) := dk_4 (dk_at dksX16_longer_1 17 rfl rfl)
theorem dX16_longer_41 : decode cX16_longer 41 = .ok (.iaload, 1) := dk_46 (dk_at dksX16_longer_1 18 rfl rfl)
theorem dX16_longer_42 : decode cX16_longer 42 = .ok (.if_icmp .ge 42, 3) := dk_162 0 42 (dk_at dksX16_longer_1 19 rfl rfl)
theorem dX16_longer_45 : decode cX16_longer 45 = .ok (.aload_n 0, 1) := dk_42 (dk_at dksX16_longer_1 22 rfl rfl)
theorem dX16_longer_46 : decode cX16_longer 46 = .ok (.getfield 11, 3) := dk_180 0 11 (dk_at dksX16_longer_2 0 rfl rfl)
theorem dX16_longer_49 : decode cX16_longer 49 = .ok (.bipush 40, 2) := dk_16 40 (dk_at dksX16_longer_2 3 rfl rfl)
theorem dX16_longer_51 : decode cX16_longer 51 = .ok (.iconst 3, 1) := dk_6 (dk_at dksX16_longer_2 5 rfl rfl)
theorem dX16_longer_52 : decode cX16_longer 52 = .ok (.iload_n 2, 1) := dk_28 (dk_at dksX16_longer_2 6 rfl rfl)
theorem dX16_longer_53 : decode cX16_longer 53 = .ok (.imul, 1) := dk_104 (dk_at dksX16_longer_2 7 rfl rfl)
theorem dX16_longer_54 : decode cX16_longer 54 = .ok (.iadd, 1) := dk_96 (dk_at dksX16_longer_2 8 rfl rfl)
theorem dX16_longer_55 : decode cX16_longer 55 = .ok (.iconst 1, 1) := dk_4 (dk_at dksX16_longer_2 9 rfl rfl)
theorem dX16_longer_56 : decode cX16_longer 56 = .ok (.iadd, 1) := dk_96 (dk_at dksX16_longer_2 10 rfl rfl)
theorem dX16_longer_57 : decode cX16_longer 57 = .ok (.bipush 6, 2) := dk_16 6 (dk_at dksX16_longer_2 11 rfl rfl)
theorem dX16_longer_59 : decode cX16_longer 59 = .ok (.aload_n 0, 1) := dk_42 (dk_at dksX16_longer_2 13 rfl rfl)
theorem dX16_longer_60 : decode cX16_longer 60 = .ok (.getfield 11, 3) := dk_180 0 11 (dk_at dksX16_longer_2 14 rfl rfl)
theorem dX16_longer_63 : decode cX16_longer 63 = .ok (.bipush 40, 2) := dk_16 40 (dk_at dksX16_longer_2 17 rfl rfl)
theorem dX16_longer_65 : decode cX16_longer 65 = .ok (.iconst 3, 1) := dk_6 (dk_at dksX16_longer_2 19 rfl rfl)
theorem dX16_longer_66 : decode cX16_longer 66 = .ok (.iload_n 2, 1) := dk_28 (dk_at dksX16_longer_2 20 rfl rfl)
theorem dX16_longer_67 : decode cX16_longer 67 = .ok (.imul, 1) := dk_104 (dk_at dksX16_longer_2 21 rfl rfl)
theorem dX16_longer_68 : decode cX16_longer 68 = .ok (.iadd, 1) := dk_96 (dk_at dksX16_longer_2 22 rfl rfl)
theorem dX16_longer_69 : decode cX16_longer 69 = .ok (.iconst 1, 1) := dk_4 (dk_at dksX16_longer_2 23 rfl rfl)
theorem dX16_longer_70 : decode cX16_longer 70 = .ok (.iadd, 1) := dk_96 (dk_at dksX16_longer_3 0 rfl rfl)
theorem dX16_longer_71 : decode cX16_longer 71 = .ok (.iaload, 1) := dk_46 (dk_at dksX16_longer_3 1 rfl rfl)
theorem dX16_longer_72 : decode cX16_longer 72 = .ok (.iconst 1, 1) := dk_4 (dk_at dksX16_longer_3 2 rfl rfl)
theorem dX16_longer_73 : decode cX16_longer 73 = .ok (.iadd, 1) := dk_96 (dk_at dksX16_longer_3 3 rfl rfl)
theorem dX16_longer_74 : decode cX16_longer 74 = .ok (.invokestatic 152, 3) := dk_184 0 152 (dk_at dksX16_longer_3 4 rfl rfl)
theorem dX16_longer_77 : decode cX16_longer 77 = .ok (.iastore, 1) := dk_79 (dk_at dksX16_longer_3 7 rfl rfl)
theorem dX16_longer_78 : decode cX16_longer 78 = .ok (.iinc 2 1, 3) := dk_132 2 1 (dk_at dksX16_longer_3 8 rfl rfl)
theorem dX16_longer_81 : decode cX16_longer 81 = .ok (.goto (-46), 3) := dk_167 255 210 (dk_at dksX16_longer_3 11 rfl rfl)
theorem dX16_longer_84 : decode cX16_longer 84 = .ok (.aload_n 0, 1) := dk_42 (dk_at dksX16_longer_3 14 rfl rfl)
theorem dX16_longer_85 : decode cX16_longer 85 = .ok (.iload_n 1, 1) := dk_27 (dk_at dksX16_longer_3 15 rfl rfl)
theorem dX16_longer_86 : decode cX16_longer 86 = .ok (.iconst (-1), 1) := dk_2 (dk_at dksX16_longer_3 16 rfl rfl)
theorem dX16_longer_87 : decode cX16_longer 87 = .ok (.invokevirtual 158, 3) := dk_182 0 158 (dk_at dksX16_longer_3 17 rfl rfl)
theorem dX16_longer_90 : decode cX16_longer 90 = .ok (.pop, 1) := dk_87 (dk_at dksX16_longer_3 20 rfl rfl)
theorem dX16_longer_91 : decode cX16_longer 91 = .ok (.aload_n 0, 1) := dk_42 (dk_at dksX16_longer_3 21 rfl rfl)
theorem dX16_longer_92 : decode cX16_longer 92 = .ok (.getfield 63, 3) := dk_180 0 63 (dk_at dksX16_longer_4 0 rfl rfl)
theorem dX16_longer_95 : decode cX16_longer 95 = .ok (.aload_n 0, 1) := dk_42 (dk_at dksX16_longer_4 3 rfl rfl)
theorem dX16_longer_96 : decode cX16_longer 96 = .ok (.getfield 11, 3) := dk_180 0 11 (dk_at dksX16_longer_4 4 rfl rfl)
theorem dX16_longer_99 : decode cX16_longer 99 = .ok (.invokestatic 17, 3) := dk_184 0 17 (dk_at dksX16_longer_4 7 rfl rfl)
theorem dX16_longer_102 : decode cX16_longer 102 = .ok (.aload_n 0, 1) := dk_42 (dk_at dksX16_longer_4 10 rfl rfl)
theorem dX16_longer_103 : decode cX16_longer 103 = .ok (.iload_n 1, 1) := dk_27 (dk_at dksX16_longer_4 11 rfl rfl)
theorem dX16_longer_104 : decode cX16_longer 104 = .ok (.invokevirtual 161, 3) := dk_182 0 161 (dk_at dksX16_longer_4 12 rfl rfl)
theorem dX16_longer_107 : decode cX16_longer 107 = .ok (.ireturn, 1) := dk_172 (dk_at dksX16_longer_4 15 rfl rfl)
abbrev cX16_seeds : ByteArray := prog_28_method_57_code
def yX16_seeds : MethodName := ⟨RX16, "seeds", "(II)I"⟩
def dkwX16_seeds_5 : List UInt8 := [180, 0, 63, 42, 180, 0, 11, 184, 0, 17, 21, 4, 172]
abbrev dktX16_seeds_5 : List UInt8 := dkwX16_seeds_5 ++ []
def dkwX16_seeds_4 : List UInt8 := [132, 6, 1, 167, 255, 209, 21, 4, 42, 182, 0, 139, 96, 54, 4, 132, 5, 1, 167, 255, 185, 42]
abbrev dktX16_seeds_4 : List UInt8 := dkwX16_seeds_4 ++ dktX16_seeds_5
def dkwX16_seeds_3 : List UInt8 := [180, 0, 11, 16, 60, 21, 6, 96, 29, 18, 197, 126, 17, 1, 0, 108, 42, 182, 0, 118, 4, 96, 112, 79]
abbrev dktX16_seeds_3 : List UInt8 := dkwX16_seeds_3 ++ dktX16_seeds_4
def dkwX16_seeds_2 : List UInt8 := [3, 54, 6, 21, 6, 42, 180, 0, 11, 7, 46, 162, 0, 42, 29, 18, 195, 104, 18, 196, 96, 62, 42]
abbrev dktX16_seeds_2 : List UInt8 := dkwX16_seeds_2 ++ dktX16_seeds_3
def dkwX16_seeds_1 : List UInt8 := [180, 0, 11, 42, 180, 0, 63, 184, 0, 17, 28, 62, 3, 54, 4, 3, 54, 5, 21, 5, 27, 162, 0, 71]
abbrev dktX16_seeds_1 : List UInt8 := dkwX16_seeds_1 ++ dktX16_seeds_2
def dkwX16_seeds_0 : List UInt8 := [42, 27, 16, 20, 182, 0, 155, 153, 0, 15, 42, 42, 27, 16, 20, 182, 0, 155, 182, 0, 21, 172, 42]
abbrev dktX16_seeds_0 : List UInt8 := dkwX16_seeds_0 ++ dktX16_seeds_1
theorem dksX16_seeds_0 : cX16_seeds.data.toList.drop 0 = dktX16_seeds_0 := by decide +kernel
theorem dksX16_seeds_1 : cX16_seeds.data.toList.drop 23 = dktX16_seeds_1 := dk_seg dksX16_seeds_0 23 rfl rfl
theorem dksX16_seeds_2 : cX16_seeds.data.toList.drop 47 = dktX16_seeds_2 := dk_seg dksX16_seeds_1 24 rfl rfl
theorem dksX16_seeds_3 : cX16_seeds.data.toList.drop 70 = dktX16_seeds_3 := dk_seg dksX16_seeds_2 23 rfl rfl
theorem dksX16_seeds_4 : cX16_seeds.data.toList.drop 94 = dktX16_seeds_4 := dk_seg dksX16_seeds_3 24 rfl rfl
theorem dksX16_seeds_5 : cX16_seeds.data.toList.drop 116 = dktX16_seeds_5 := dk_seg dksX16_seeds_4 22 rfl rfl
theorem dX16_seeds_0 : decode cX16_seeds 0 = .ok (.aload_n 0, 1) := dk_42 (dk_at dksX16_seeds_0 0 rfl rfl)
theorem dX16_seeds_1 : decode cX16_seeds 1 = .ok (.iload_n 1, 1) := dk_27 (dk_at dksX16_seeds_0 1 rfl rfl)
theorem dX16_seeds_2 : decode cX16_seeds 2 = .ok (.bipush 20, 2) := dk_16 20 (dk_at dksX16_seeds_0 2 rfl rfl)
theorem dX16_seeds_4 : decode cX16_seeds 4 = .ok (.invokevirtual 155, 3) := dk_182 0 155 (dk_at dksX16_seeds_0 4 rfl rfl)
theorem dX16_seeds_7 : decode cX16_seeds 7 = .ok (.ifCond .eq 15, 3) := dk_153 0 15 (dk_at dksX16_seeds_0 7 rfl rfl)
theorem dX16_seeds_10 : decode cX16_seeds 10 = .ok (.aload_n 0, 1) := dk_42 (dk_at dksX16_seeds_0 10 rfl rfl)
theorem dX16_seeds_11 : decode cX16_seeds 11 = .ok (.aload_n 0, 1) := dk_42 (dk_at dksX16_seeds_0 11 rfl rfl)
theorem dX16_seeds_12 : decode cX16_seeds 12 = .ok (.iload_n 1, 1) := dk_27 (dk_at dksX16_seeds_0 12 rfl rfl)
theorem dX16_seeds_13 : decode cX16_seeds 13 = .ok (.bipush 20, 2) := dk_16 20 (dk_at dksX16_seeds_0 13 rfl rfl)
theorem dX16_seeds_15 : decode cX16_seeds 15 = .ok (.invokevirtual 155, 3) := dk_182 0 155 (dk_at dksX16_seeds_0 15 rfl rfl)
theorem dX16_seeds_18 : decode cX16_seeds 18 = .ok (.invokevirtual 21, 3) := dk_182 0 21 (dk_at dksX16_seeds_0 18 rfl rfl)
theorem dX16_seeds_21 : decode cX16_seeds 21 = .ok (.ireturn, 1) := dk_172 (dk_at dksX16_seeds_0 21 rfl rfl)
theorem dX16_seeds_22 : decode cX16_seeds 22 = .ok (.aload_n 0, 1) := dk_42 (dk_at dksX16_seeds_0 22 rfl rfl)
theorem dX16_seeds_23 : decode cX16_seeds 23 = .ok (.getfield 11, 3) := dk_180 0 11 (dk_at dksX16_seeds_1 0 rfl rfl)
theorem dX16_seeds_26 : decode cX16_seeds 26 = .ok (.aload_n 0, 1) := dk_42 (dk_at dksX16_seeds_1 3 rfl rfl)
theorem dX16_seeds_27 : decode cX16_seeds 27 = .ok (.getfield 63, 3) := dk_180 0 63 (dk_at dksX16_seeds_1 4 rfl rfl)
theorem dX16_seeds_30 : decode cX16_seeds 30 = .ok (.invokestatic 17, 3) := dk_184 0 17 (dk_at dksX16_seeds_1 7 rfl rfl)
theorem dX16_seeds_33 : decode cX16_seeds 33 = .ok (.iload_n 2, 1) := dk_28 (dk_at dksX16_seeds_1 10 rfl rfl)
theorem dX16_seeds_34 : decode cX16_seeds 34 = .ok (.istore_n 3, 1) := dk_62 (dk_at dksX16_seeds_1 11 rfl rfl)
theorem dX16_seeds_35 : decode cX16_seeds 35 = .ok (.iconst 0, 1) := dk_3 (dk_at dksX16_seeds_1 12 rfl rfl)
theorem dX16_seeds_36 : decode cX16_seeds 36 = .ok (.istore 4, 2) := dk_54 4 (dk_at dksX16_seeds_1 13 rfl rfl)
theorem dX16_seeds_38 : decode cX16_seeds 38 = .ok (.iconst 0, 1) := dk_3 (dk_at dksX16_seeds_1 15 rfl rfl)
theorem dX16_seeds_39 : decode cX16_seeds 39 = .ok (.istore 5, 2) := dk_54 5 (dk_at dksX16_seeds_1 16 rfl rfl)
theorem dX16_seeds_41 : decode cX16_seeds 41 = .ok (.iload 5, 2) := dk_21 5 (dk_at dksX16_seeds_1 18 rfl rfl)
theorem dX16_seeds_43 : decode cX16_seeds 43 = .ok (.iload_n 1, 1) := dk_27 (dk_at dksX16_seeds_1 20 rfl rfl)
theorem dX16_seeds_44 : decode cX16_seeds 44 = .ok (.if_icmp .ge 71, 3) := dk_162 0 71 (dk_at dksX16_seeds_1 21 rfl rfl)
theorem dX16_seeds_47 : decode cX16_seeds 47 = .ok (.iconst 0, 1) := dk_3 (dk_at dksX16_seeds_2 0 rfl rfl)
theorem dX16_seeds_48 : decode cX16_seeds 48 = .ok (.istore 6, 2) := dk_54 6 (dk_at dksX16_seeds_2 1 rfl rfl)
theorem dX16_seeds_50 : decode cX16_seeds 50 = .ok (.iload 6, 2) := dk_21 6 (dk_at dksX16_seeds_2 3 rfl rfl)
theorem dX16_seeds_52 : decode cX16_seeds 52 = .ok (.aload_n 0, 1) := dk_42 (dk_at dksX16_seeds_2 5 rfl rfl)
theorem dX16_seeds_53 : decode cX16_seeds 53 = .ok (.getfield 11, 3) := dk_180 0 11 (dk_at dksX16_seeds_2 6 rfl rfl)
theorem dX16_seeds_56 : decode cX16_seeds 56 = .ok (.iconst 4, 1) := dk_7 (dk_at dksX16_seeds_2 9 rfl rfl)
theorem dX16_seeds_57 : decode cX16_seeds 57 = .ok (.iaload, 1) := dk_46 (dk_at dksX16_seeds_2 10 rfl rfl)
theorem dX16_seeds_58 : decode cX16_seeds 58 = .ok (.if_icmp .ge 42, 3) := dk_162 0 42 (dk_at dksX16_seeds_2 11 rfl rfl)
theorem dX16_seeds_61 : decode cX16_seeds 61 = .ok (.iload_n 3, 1) := dk_29 (dk_at dksX16_seeds_2 14 rfl rfl)
theorem dX16_seeds_62 : decode cX16_seeds 62 = .ok (.ldc 195, 2) := dk_18 195 (dk_at dksX16_seeds_2 15 rfl rfl)
theorem dX16_seeds_64 : decode cX16_seeds 64 = .ok (.imul, 1) := dk_104 (dk_at dksX16_seeds_2 17 rfl rfl)
theorem dX16_seeds_65 : decode cX16_seeds 65 = .ok (.ldc 196, 2) := dk_18 196 (dk_at dksX16_seeds_2 18 rfl rfl)
theorem dX16_seeds_67 : decode cX16_seeds 67 = .ok (.iadd, 1) := dk_96 (dk_at dksX16_seeds_2 20 rfl rfl)
theorem dX16_seeds_68 : decode cX16_seeds 68 = .ok (.istore_n 3, 1) := dk_62 (dk_at dksX16_seeds_2 21 rfl rfl)
theorem dX16_seeds_69 : decode cX16_seeds 69 = .ok (.aload_n 0, 1) := dk_42 (dk_at dksX16_seeds_2 22 rfl rfl)
theorem dX16_seeds_70 : decode cX16_seeds 70 = .ok (.getfield 11, 3) := dk_180 0 11 (dk_at dksX16_seeds_3 0 rfl rfl)
theorem dX16_seeds_73 : decode cX16_seeds 73 = .ok (.bipush 60, 2) := dk_16 60 (dk_at dksX16_seeds_3 3 rfl rfl)
theorem dX16_seeds_75 : decode cX16_seeds 75 = .ok (.iload 6, 2) := dk_21 6 (dk_at dksX16_seeds_3 5 rfl rfl)
theorem dX16_seeds_77 : decode cX16_seeds 77 = .ok (.iadd, 1) := dk_96 (dk_at dksX16_seeds_3 7 rfl rfl)
theorem dX16_seeds_78 : decode cX16_seeds 78 = .ok (.iload_n 3, 1) := dk_29 (dk_at dksX16_seeds_3 8 rfl rfl)
theorem dX16_seeds_79 : decode cX16_seeds 79 = .ok (.ldc 197, 2) := dk_18 197 (dk_at dksX16_seeds_3 9 rfl rfl)
theorem dX16_seeds_81 : decode cX16_seeds 81 = .ok (.iand, 1) := dk_126 (dk_at dksX16_seeds_3 11 rfl rfl)
theorem dX16_seeds_82 : decode cX16_seeds 82 = .ok (.sipush 256, 3) := dk_17 1 0 (dk_at dksX16_seeds_3 12 rfl rfl)
theorem dX16_seeds_85 : decode cX16_seeds 85 = .ok (.idiv, 1) := dk_108 (dk_at dksX16_seeds_3 15 rfl rfl)
theorem dX16_seeds_86 : decode cX16_seeds 86 = .ok (.aload_n 0, 1) := dk_42 (dk_at dksX16_seeds_3 16 rfl rfl)
theorem dX16_seeds_87 : decode cX16_seeds 87 = .ok (.invokevirtual 118, 3) := dk_182 0 118 (dk_at dksX16_seeds_3 17 rfl rfl)
theorem dX16_seeds_90 : decode cX16_seeds 90 = .ok (.iconst 1, 1) := dk_4 (dk_at dksX16_seeds_3 20 rfl rfl)
theorem dX16_seeds_91 : decode cX16_seeds 91 = .ok (.iadd, 1) := dk_96 (dk_at dksX16_seeds_3 21 rfl rfl)
theorem dX16_seeds_92 : decode cX16_seeds 92 = .ok (.irem, 1) := dk_112 (dk_at dksX16_seeds_3 22 rfl rfl)
theorem dX16_seeds_93 : decode cX16_seeds 93 = .ok (.iastore, 1) := dk_79 (dk_at dksX16_seeds_3 23 rfl rfl)
theorem dX16_seeds_94 : decode cX16_seeds 94 = .ok (.iinc 6 1, 3) := dk_132 6 1 (dk_at dksX16_seeds_4 0 rfl rfl)
theorem dX16_seeds_97 : decode cX16_seeds 97 = .ok (.goto (-47), 3) := dk_167 255 209 (dk_at dksX16_seeds_4 3 rfl rfl)
theorem dX16_seeds_100 : decode cX16_seeds 100 = .ok (.iload 4, 2) := dk_21 4 (dk_at dksX16_seeds_4 6 rfl rfl)
theorem dX16_seeds_102 : decode cX16_seeds 102 = .ok (.aload_n 0, 1) := dk_42 (dk_at dksX16_seeds_4 8 rfl rfl)
theorem dX16_seeds_103 : decode cX16_seeds 103 = .ok (.invokevirtual 139, 3) := dk_182 0 139 (dk_at dksX16_seeds_4 9 rfl rfl)
theorem dX16_seeds_106 : decode cX16_seeds 106 = .ok (.iadd, 1) := dk_96 (dk_at dksX16_seeds_4 12 rfl rfl)
theorem dX16_seeds_107 : decode cX16_seeds 107 = .ok (.istore 4, 2) := dk_54 4 (dk_at dksX16_seeds_4 13 rfl rfl)
theorem dX16_seeds_109 : decode cX16_seeds 109 = .ok (.iinc 5 1, 3) := dk_132 5 1 (dk_at dksX16_seeds_4 15 rfl rfl)
theorem dX16_seeds_112 : decode cX16_seeds 112 = .ok (.goto (-71), 3) := dk_167 255 185 (dk_at dksX16_seeds_4 18 rfl rfl)
theorem dX16_seeds_115 : decode cX16_seeds 115 = .ok (.aload_n 0, 1) := dk_42 (dk_at dksX16_seeds_4 21 rfl rfl)
theorem dX16_seeds_116 : decode cX16_seeds 116 = .ok (.getfield 63, 3) := dk_180 0 63 (dk_at dksX16_seeds_5 0 rfl rfl)
theorem dX16_seeds_119 : decode cX16_seeds 119 = .ok (.aload_n 0, 1) := dk_42 (dk_at dksX16_seeds_5 3 rfl rfl)
theorem dX16_seeds_120 : decode cX16_seeds 120 = .ok (.getfield 11, 3) := dk_180 0 11 (dk_at dksX16_seeds_5 4 rfl rfl)
theorem dX16_seeds_123 : decode cX16_seeds 123 = .ok (.invokestatic 17, 3) := dk_184 0 17 (dk_at dksX16_seeds_5 7 rfl rfl)
theorem dX16_seeds_126 : decode cX16_seeds 126 = .ok (.iload 4, 2) := dk_21 4 (dk_at dksX16_seeds_5 10 rfl rfl)
theorem dX16_seeds_128 : decode cX16_seeds 128 = .ok (.ireturn, 1) := dk_172 (dk_at dksX16_seeds_5 12 rfl rfl)
abbrev cX16_row : ByteArray := prog_28_method_58_code
def yX16_row : MethodName := ⟨RX16, "row", "(I)I"⟩
def dkwX16_row_2 : List UInt8 := [180, 0, 198, 4, 96, 181, 0, 198, 42, 180, 0, 198, 172]
abbrev dktX16_row_2 : List UInt8 := dkwX16_row_2 ++ []
def dkwX16_row_1 : List UInt8 := [160, 0, 10, 42, 16, 250, 182, 0, 21, 172, 42, 180, 0, 66, 42, 180, 0, 198, 27, 79, 42, 89]
abbrev dktX16_row_1 : List UInt8 := dkwX16_row_1 ++ dktX16_row_2
def dkwX16_row_0 : List UInt8 := [27, 156, 0, 10, 42, 16, 252, 182, 0, 21, 172, 27, 16, 99, 163, 0, 12, 42, 180, 0, 198, 16, 12]
abbrev dktX16_row_0 : List UInt8 := dkwX16_row_0 ++ dktX16_row_1
theorem dksX16_row_0 : cX16_row.data.toList.drop 0 = dktX16_row_0 := by decide +kernel
theorem dksX16_row_1 : cX16_row.data.toList.drop 23 = dktX16_row_1 := dk_seg dksX16_row_0 23 rfl rfl
theorem dksX16_row_2 : cX16_row.data.toList.drop 45 = dktX16_row_2 := dk_seg dksX16_row_1 22 rfl rfl
theorem dX16_row_0 : decode cX16_row 0 = .ok (.iload_n 1, 1) := dk_27 (dk_at dksX16_row_0 0 rfl rfl)
theorem dX16_row_1 : decode cX16_row 1 = .ok (.ifCond .ge 10, 3) := dk_156 0 10 (dk_at dksX16_row_0 1 rfl rfl)
theorem dX16_row_4 : decode cX16_row 4 = .ok (.aload_n 0, 1) := dk_42 (dk_at dksX16_row_0 4 rfl rfl)
theorem dX16_row_5 : decode cX16_row 5 = .ok (.bipush (-4), 2) := dk_16 252 (dk_at dksX16_row_0 5 rfl rfl)
theorem dX16_row_7 : decode cX16_row 7 = .ok (.invokevirtual 21, 3) := dk_182 0 21 (dk_at dksX16_row_0 7 rfl rfl)
theorem dX16_row_10 : decode cX16_row 10 = .ok (.ireturn, 1) := dk_172 (dk_at dksX16_row_0 10 rfl rfl)
theorem dX16_row_11 : decode cX16_row 11 = .ok (.iload_n 1, 1) := dk_27 (dk_at dksX16_row_0 11 rfl rfl)
theorem dX16_row_12 : decode cX16_row 12 = .ok (.bipush 99, 2) := dk_16 99 (dk_at dksX16_row_0 12 rfl rfl)
theorem dX16_row_14 : decode cX16_row 14 = .ok (.if_icmp .gt 12, 3) := dk_163 0 12 (dk_at dksX16_row_0 14 rfl rfl)
theorem dX16_row_17 : decode cX16_row 17 = .ok (.aload_n 0, 1) := dk_42 (dk_at dksX16_row_0 17 rfl rfl)
theorem dX16_row_18 : decode cX16_row 18 = .ok (.getfield 198, 3) := dk_180 0 198 (dk_at dksX16_row_0 18 rfl rfl)
theorem dX16_row_21 : decode cX16_row 21 = .ok (.bipush 12, 2) := dk_16 12 (dk_at dksX16_row_0 21 rfl rfl)
theorem dX16_row_23 : decode cX16_row 23 = .ok (.if_icmp .ne 10, 3) := dk_160 0 10 (dk_at dksX16_row_1 0 rfl rfl)
theorem dX16_row_26 : decode cX16_row 26 = .ok (.aload_n 0, 1) := dk_42 (dk_at dksX16_row_1 3 rfl rfl)
theorem dX16_row_27 : decode cX16_row 27 = .ok (.bipush (-6), 2) := dk_16 250 (dk_at dksX16_row_1 4 rfl rfl)
theorem dX16_row_29 : decode cX16_row 29 = .ok (.invokevirtual 21, 3) := dk_182 0 21 (dk_at dksX16_row_1 6 rfl rfl)
theorem dX16_row_32 : decode cX16_row 32 = .ok (.ireturn, 1) := dk_172 (dk_at dksX16_row_1 9 rfl rfl)
theorem dX16_row_33 : decode cX16_row 33 = .ok (.aload_n 0, 1) := dk_42 (dk_at dksX16_row_1 10 rfl rfl)
theorem dX16_row_34 : decode cX16_row 34 = .ok (.getfield 66, 3) := dk_180 0 66 (dk_at dksX16_row_1 11 rfl rfl)
theorem dX16_row_37 : decode cX16_row 37 = .ok (.aload_n 0, 1) := dk_42 (dk_at dksX16_row_1 14 rfl rfl)
theorem dX16_row_38 : decode cX16_row 38 = .ok (.getfield 198, 3) := dk_180 0 198 (dk_at dksX16_row_1 15 rfl rfl)
theorem dX16_row_41 : decode cX16_row 41 = .ok (.iload_n 1, 1) := dk_27 (dk_at dksX16_row_1 18 rfl rfl)
theorem dX16_row_42 : decode cX16_row 42 = .ok (.iastore, 1) := dk_79 (dk_at dksX16_row_1 19 rfl rfl)
theorem dX16_row_43 : decode cX16_row 43 = .ok (.aload_n 0, 1) := dk_42 (dk_at dksX16_row_1 20 rfl rfl)
theorem dX16_row_44 : decode cX16_row 44 = .ok (.dup, 1) := dk_89 (dk_at dksX16_row_1 21 rfl rfl)
theorem dX16_row_45 : decode cX16_row 45 = .ok (.getfield 198, 3) := dk_180 0 198 (dk_at dksX16_row_2 0 rfl rfl)
theorem dX16_row_48 : decode cX16_row 48 = .ok (.iconst 1, 1) := dk_4 (dk_at dksX16_row_2 3 rfl rfl)
theorem dX16_row_49 : decode cX16_row 49 = .ok (.iadd, 1) := dk_96 (dk_at dksX16_row_2 4 rfl rfl)
theorem dX16_row_50 : decode cX16_row 50 = .ok (.putfield 198, 3) := dk_181 0 198 (dk_at dksX16_row_2 5 rfl rfl)
theorem dX16_row_53 : decode cX16_row 53 = .ok (.aload_n 0, 1) := dk_42 (dk_at dksX16_row_2 8 rfl rfl)
theorem dX16_row_54 : decode cX16_row 54 = .ok (.getfield 198, 3) := dk_180 0 198 (dk_at dksX16_row_2 9 rfl rfl)
theorem dX16_row_57 : decode cX16_row 57 = .ok (.ireturn, 1) := dk_172 (dk_at dksX16_row_2 12 rfl rfl)
abbrev cX16_judge : ByteArray := prog_28_method_59_code
def yX16_judge : MethodName := ⟨RX16, "judge", "()I"⟩
def dkwX16_judge_2 : List UInt8 := [167, 255, 229, 16, 247, 172]
abbrev dktX16_judge_2 : List UInt8 := dkwX16_judge_2 ++ []
def dkwX16_judge_1 : List UInt8 := [42, 180, 0, 66, 28, 46, 42, 180, 0, 54, 28, 4, 96, 46, 159, 0, 5, 28, 172, 132, 2, 1]
abbrev dktX16_judge_1 : List UInt8 := dkwX16_judge_1 ++ dktX16_judge_2
def dkwX16_judge_0 : List UInt8 := [42, 180, 0, 198, 60, 42, 3, 181, 0, 198, 42, 27, 2, 182, 0, 158, 87, 3, 61, 28, 27, 162, 0, 28]
abbrev dktX16_judge_0 : List UInt8 := dkwX16_judge_0 ++ dktX16_judge_1
theorem dksX16_judge_0 : cX16_judge.data.toList.drop 0 = dktX16_judge_0 := by decide +kernel
theorem dksX16_judge_1 : cX16_judge.data.toList.drop 24 = dktX16_judge_1 := dk_seg dksX16_judge_0 24 rfl rfl
theorem dksX16_judge_2 : cX16_judge.data.toList.drop 46 = dktX16_judge_2 := dk_seg dksX16_judge_1 22 rfl rfl
theorem dX16_judge_0 : decode cX16_judge 0 = .ok (.aload_n 0, 1) := dk_42 (dk_at dksX16_judge_0 0 rfl rfl)
theorem dX16_judge_1 : decode cX16_judge 1 = .ok (.getfield 198, 3) := dk_180 0 198 (dk_at dksX16_judge_0 1 rfl rfl)
theorem dX16_judge_4 : decode cX16_judge 4 = .ok (.istore_n 1, 1) := dk_60 (dk_at dksX16_judge_0 4 rfl rfl)
theorem dX16_judge_5 : decode cX16_judge 5 = .ok (.aload_n 0, 1) := dk_42 (dk_at dksX16_judge_0 5 rfl rfl)
theorem dX16_judge_6 : decode cX16_judge 6 = .ok (.iconst 0, 1) := dk_3 (dk_at dksX16_judge_0 6 rfl rfl)
theorem dX16_judge_7 : decode cX16_judge 7 = .ok (.putfield 198, 3) := dk_181 0 198 (dk_at dksX16_judge_0 7 rfl rfl)
theorem dX16_judge_10 : decode cX16_judge 10 = .ok (.aload_n 0, 1) := dk_42 (dk_at dksX16_judge_0 10 rfl rfl)
theorem dX16_judge_11 : decode cX16_judge 11 = .ok (.iload_n 1, 1) := dk_27 (dk_at dksX16_judge_0 11 rfl rfl)
theorem dX16_judge_12 : decode cX16_judge 12 = .ok (.iconst (-1), 1) := dk_2 (dk_at dksX16_judge_0 12 rfl rfl)
theorem dX16_judge_13 : decode cX16_judge 13 = .ok (.invokevirtual 158, 3) := dk_182 0 158 (dk_at dksX16_judge_0 13 rfl rfl)
theorem dX16_judge_16 : decode cX16_judge 16 = .ok (.pop, 1) := dk_87 (dk_at dksX16_judge_0 16 rfl rfl)
theorem dX16_judge_17 : decode cX16_judge 17 = .ok (.iconst 0, 1) := dk_3 (dk_at dksX16_judge_0 17 rfl rfl)
theorem dX16_judge_18 : decode cX16_judge 18 = .ok (.istore_n 2, 1) := dk_61 (dk_at dksX16_judge_0 18 rfl rfl)
theorem dX16_judge_19 : decode cX16_judge 19 = .ok (.iload_n 2, 1) := dk_28 (dk_at dksX16_judge_0 19 rfl rfl)
theorem dX16_judge_20 : decode cX16_judge 20 = .ok (.iload_n 1, 1) := dk_27 (dk_at dksX16_judge_0 20 rfl rfl)
theorem dX16_judge_21 : decode cX16_judge 21 = .ok (.if_icmp .ge 28, 3) := dk_162 0 28 (dk_at dksX16_judge_0 21 rfl rfl)
theorem dX16_judge_24 : decode cX16_judge 24 = .ok (.aload_n 0, 1) := dk_42 (dk_at dksX16_judge_1 0 rfl rfl)
theorem dX16_judge_25 : decode cX16_judge 25 = .ok (.getfield 66, 3) := dk_180 0 66 (dk_at dksX16_judge_1 1 rfl rfl)
theorem dX16_judge_28 : decode cX16_judge 28 = .ok (.iload_n 2, 1) := dk_28 (dk_at dksX16_judge_1 4 rfl rfl)
theorem dX16_judge_29 : decode cX16_judge 29 = .ok (.iaload, 1) := dk_46 (dk_at dksX16_judge_1 5 rfl rfl)
theorem dX16_judge_30 : decode cX16_judge 30 = .ok (.aload_n 0, 1) := dk_42 (dk_at dksX16_judge_1 6 rfl rfl)
theorem dX16_judge_31 : decode cX16_judge 31 = .ok (.getfield 54, 3) := dk_180 0 54 (dk_at dksX16_judge_1 7 rfl rfl)
theorem dX16_judge_34 : decode cX16_judge 34 = .ok (.iload_n 2, 1) := dk_28 (dk_at dksX16_judge_1 10 rfl rfl)
theorem dX16_judge_35 : decode cX16_judge 35 = .ok (.iconst 1, 1) := dk_4 (dk_at dksX16_judge_1 11 rfl rfl)
theorem dX16_judge_36 : decode cX16_judge 36 = .ok (.iadd, 1) := dk_96 (dk_at dksX16_judge_1 12 rfl rfl)
theorem dX16_judge_37 : decode cX16_judge 37 = .ok (.iaload, 1) := dk_46 (dk_at dksX16_judge_1 13 rfl rfl)
theorem dX16_judge_38 : decode cX16_judge 38 = .ok (.if_icmp .eq 5, 3) := dk_159 0 5 (dk_at dksX16_judge_1 14 rfl rfl)
theorem dX16_judge_41 : decode cX16_judge 41 = .ok (.iload_n 2, 1) := dk_28 (dk_at dksX16_judge_1 17 rfl rfl)
theorem dX16_judge_42 : decode cX16_judge 42 = .ok (.ireturn, 1) := dk_172 (dk_at dksX16_judge_1 18 rfl rfl)
theorem dX16_judge_43 : decode cX16_judge 43 = .ok (.iinc 2 1, 3) := dk_132 2 1 (dk_at dksX16_judge_1 19 rfl rfl)
theorem dX16_judge_46 : decode cX16_judge 46 = .ok (.goto (-27), 3) := dk_167 255 229 (dk_at dksX16_judge_2 0 rfl rfl)
theorem dX16_judge_49 : decode cX16_judge 49 = .ok (.bipush (-9), 2) := dk_16 247 (dk_at dksX16_judge_2 3 rfl rfl)
theorem dX16_judge_51 : decode cX16_judge 51 = .ok (.ireturn, 1) := dk_172 (dk_at dksX16_judge_2 5 rfl rfl)
abbrev cX16_count : ByteArray := prog_28_method_60_code
def yX16_count : MethodName := ⟨RX16, "count", "(I)I"⟩
def dkwX16_count_5 : List UInt8 := [180, 0, 1, 27, 16, 10, 100, 46, 167, 0, 5, 16, 247, 172]
abbrev dktX16_count_5 : List UInt8 := dkwX16_count_5 ++ []
def dkwX16_count_4 : List UInt8 := [180, 0, 198, 172, 42, 180, 0, 73, 172, 27, 16, 11, 161, 0, 21, 27, 16, 16, 163, 0, 15, 42]
abbrev dktX16_count_4 : List UInt8 := dkwX16_count_4 ++ dktX16_count_5
def dkwX16_count_3 : List UInt8 := [46, 172, 42, 180, 0, 11, 6, 46, 172, 42, 180, 0, 11, 7, 46, 172, 42, 180, 0, 11, 8, 46, 172, 42]
abbrev dktX16_count_3 : List UInt8 := dkwX16_count_3 ++ dktX16_count_4
def dkwX16_count_2 : List UInt8 := [42, 180, 0, 11, 3, 46, 172, 42, 180, 0, 11, 4, 46, 172, 42, 182, 0, 118, 172, 42, 180, 0, 11, 5]
abbrev dktX16_count_2 : List UInt8 := dkwX16_count_2 ++ dktX16_count_3
def dkwX16_count_1 : List UInt8 := [170, 0, 0, 0, 0, 0, 108, 0, 0, 0, 0, 0, 0, 0, 8, 0, 0, 0, 51, 0, 0, 0, 58, 0, 0, 0, 65, 0, 0, 0, 70, 0, 0, 0, 77, 0, 0, 0, 84, 0, 0, 0, 91, 0, 0, 0, 98, 0, 0, 0, 103]
abbrev dktX16_count_1 : List UInt8 := dkwX16_count_1 ++ dktX16_count_2
def dkwX16_count_0 : List UInt8 := [27]
abbrev dktX16_count_0 : List UInt8 := dkwX16_count_0 ++ dktX16_count_1
theorem dksX16_count_0 : cX16_count.data.toList.drop 0 = dktX16_count_0 := by decide +kernel
theorem dksX16_count_1 : cX16_count.data.toList.drop 1 = dktX16_count_1 := dk_seg dksX16_count_0 1 rfl rfl
theorem dksX16_count_2 : cX16_count.data.toList.drop 52 = dktX16_count_2 := dk_seg dksX16_count_1 51 rfl rfl
theorem dksX16_count_3 : cX16_count.data.toList.drop 76 = dktX16_count_3 := dk_seg dksX16_count_2 24 rfl rfl
theorem dksX16_count_4 : cX16_count.data.toList.drop 100 = dktX16_count_4 := dk_seg dksX16_count_3 24 rfl rfl
theorem dksX16_count_5 : cX16_count.data.toList.drop 122 = dktX16_count_5 := dk_seg dksX16_count_4 22 rfl rfl
theorem dX16_count_0 : decode cX16_count 0 = .ok (.iload_n 1, 1) := dk_27 (dk_at dksX16_count_0 0 rfl rfl)
theorem dX16_count_1 : decode cX16_count 1 = .ok (.tableswitch 108 0 8 #[51, 58, 65, 70, 77, 84, 91, 98, 103], 51) := by decide +kernel
theorem dX16_count_52 : decode cX16_count 52 = .ok (.aload_n 0, 1) := dk_42 (dk_at dksX16_count_2 0 rfl rfl)
theorem dX16_count_53 : decode cX16_count 53 = .ok (.getfield 11, 3) := dk_180 0 11 (dk_at dksX16_count_2 1 rfl rfl)
theorem dX16_count_56 : decode cX16_count 56 = .ok (.iconst 0, 1) := dk_3 (dk_at dksX16_count_2 4 rfl rfl)
theorem dX16_count_57 : decode cX16_count 57 = .ok (.iaload, 1) := dk_46 (dk_at dksX16_count_2 5 rfl rfl)
theorem dX16_count_58 : decode cX16_count 58 = .ok (.ireturn, 1) := dk_172 (dk_at dksX16_count_2 6 rfl rfl)
theorem dX16_count_59 : decode cX16_count 59 = .ok (.aload_n 0, 1) := dk_42 (dk_at dksX16_count_2 7 rfl rfl)
theorem dX16_count_60 : decode cX16_count 60 = .ok (.getfield 11, 3) := dk_180 0 11 (dk_at dksX16_count_2 8 rfl rfl)
theorem dX16_count_63 : decode cX16_count 63 = .ok (.iconst 1, 1) := dk_4 (dk_at dksX16_count_2 11 rfl rfl)
theorem dX16_count_64 : decode cX16_count 64 = .ok (.iaload, 1) := dk_46 (dk_at dksX16_count_2 12 rfl rfl)
theorem dX16_count_65 : decode cX16_count 65 = .ok (.ireturn, 1) := dk_172 (dk_at dksX16_count_2 13 rfl rfl)
theorem dX16_count_66 : decode cX16_count 66 = .ok (.aload_n 0, 1) := dk_42 (dk_at dksX16_count_2 14 rfl rfl)
theorem dX16_count_67 : decode cX16_count 67 = .ok (.invokevirtual 118, 3) := dk_182 0 118 (dk_at dksX16_count_2 15 rfl rfl)
theorem dX16_count_70 : decode cX16_count 70 = .ok (.ireturn, 1) := dk_172 (dk_at dksX16_count_2 18 rfl rfl)
theorem dX16_count_71 : decode cX16_count 71 = .ok (.aload_n 0, 1) := dk_42 (dk_at dksX16_count_2 19 rfl rfl)
theorem dX16_count_72 : decode cX16_count 72 = .ok (.getfield 11, 3) := dk_180 0 11 (dk_at dksX16_count_2 20 rfl rfl)
theorem dX16_count_75 : decode cX16_count 75 = .ok (.iconst 2, 1) := dk_5 (dk_at dksX16_count_2 23 rfl rfl)
theorem dX16_count_76 : decode cX16_count 76 = .ok (.iaload, 1) := dk_46 (dk_at dksX16_count_3 0 rfl rfl)
theorem dX16_count_77 : decode cX16_count 77 = .ok (.ireturn, 1) := dk_172 (dk_at dksX16_count_3 1 rfl rfl)
theorem dX16_count_78 : decode cX16_count 78 = .ok (.aload_n 0, 1) := dk_42 (dk_at dksX16_count_3 2 rfl rfl)
theorem dX16_count_79 : decode cX16_count 79 = .ok (.getfield 11, 3) := dk_180 0 11 (dk_at dksX16_count_3 3 rfl rfl)
theorem dX16_count_82 : decode cX16_count 82 = .ok (.iconst 3, 1) := dk_6 (dk_at dksX16_count_3 6 rfl rfl)
theorem dX16_count_83 : decode cX16_count 83 = .ok (.iaload, 1) := dk_46 (dk_at dksX16_count_3 7 rfl rfl)
theorem dX16_count_84 : decode cX16_count 84 = .ok (.ireturn, 1) := dk_172 (dk_at dksX16_count_3 8 rfl rfl)
theorem dX16_count_85 : decode cX16_count 85 = .ok (.aload_n 0, 1) := dk_42 (dk_at dksX16_count_3 9 rfl rfl)
theorem dX16_count_86 : decode cX16_count 86 = .ok (.getfield 11, 3) := dk_180 0 11 (dk_at dksX16_count_3 10 rfl rfl)
theorem dX16_count_89 : decode cX16_count 89 = .ok (.iconst 4, 1) := dk_7 (dk_at dksX16_count_3 13 rfl rfl)
theorem dX16_count_90 : decode cX16_count 90 = .ok (.iaload, 1) := dk_46 (dk_at dksX16_count_3 14 rfl rfl)
theorem dX16_count_91 : decode cX16_count 91 = .ok (.ireturn, 1) := dk_172 (dk_at dksX16_count_3 15 rfl rfl)
theorem dX16_count_92 : decode cX16_count 92 = .ok (.aload_n 0, 1) := dk_42 (dk_at dksX16_count_3 16 rfl rfl)
theorem dX16_count_93 : decode cX16_count 93 = .ok (.getfield 11, 3) := dk_180 0 11 (dk_at dksX16_count_3 17 rfl rfl)
theorem dX16_count_96 : decode cX16_count 96 = .ok (.iconst 5, 1) := dk_8 (dk_at dksX16_count_3 20 rfl rfl)
theorem dX16_count_97 : decode cX16_count 97 = .ok (.iaload, 1) := dk_46 (dk_at dksX16_count_3 21 rfl rfl)
theorem dX16_count_98 : decode cX16_count 98 = .ok (.ireturn, 1) := dk_172 (dk_at dksX16_count_3 22 rfl rfl)
theorem dX16_count_99 : decode cX16_count 99 = .ok (.aload_n 0, 1) := dk_42 (dk_at dksX16_count_3 23 rfl rfl)
theorem dX16_count_100 : decode cX16_count 100 = .ok (.getfield 198, 3) := dk_180 0 198 (dk_at dksX16_count_4 0 rfl rfl)
theorem dX16_count_103 : decode cX16_count 103 = .ok (.ireturn, 1) := dk_172 (dk_at dksX16_count_4 3 rfl rfl)
theorem dX16_count_104 : decode cX16_count 104 = .ok (.aload_n 0, 1) := dk_42 (dk_at dksX16_count_4 4 rfl rfl)
theorem dX16_count_105 : decode cX16_count 105 = .ok (.getfield 73, 3) := dk_180 0 73 (dk_at dksX16_count_4 5 rfl rfl)
theorem dX16_count_108 : decode cX16_count 108 = .ok (.ireturn, 1) := dk_172 (dk_at dksX16_count_4 8 rfl rfl)
theorem dX16_count_109 : decode cX16_count 109 = .ok (.iload_n 1, 1) := dk_27 (dk_at dksX16_count_4 9 rfl rfl)
theorem dX16_count_110 : decode cX16_count 110 = .ok (.bipush 11, 2) := dk_16 11 (dk_at dksX16_count_4 10 rfl rfl)
theorem dX16_count_112 : decode cX16_count 112 = .ok (.if_icmp .lt 21, 3) := dk_161 0 21 (dk_at dksX16_count_4 12 rfl rfl)
theorem dX16_count_115 : decode cX16_count 115 = .ok (.iload_n 1, 1) := dk_27 (dk_at dksX16_count_4 15 rfl rfl)
theorem dX16_count_116 : decode cX16_count 116 = .ok (.bipush 16, 2) := dk_16 16 (dk_at dksX16_count_4 16 rfl rfl)
theorem dX16_count_118 : decode cX16_count 118 = .ok (.if_icmp .gt 15, 3) := dk_163 0 15 (dk_at dksX16_count_4 18 rfl rfl)
theorem dX16_count_121 : decode cX16_count 121 = .ok (.aload_n 0, 1) := dk_42 (dk_at dksX16_count_4 21 rfl rfl)
theorem dX16_count_122 : decode cX16_count 122 = .ok (.getfield 1, 3) := dk_180 0 1 (dk_at dksX16_count_5 0 rfl rfl)
theorem dX16_count_125 : decode cX16_count 125 = .ok (.iload_n 1, 1) := dk_27 (dk_at dksX16_count_5 3 rfl rfl)
theorem dX16_count_126 : decode cX16_count 126 = .ok (.bipush 10, 2) := dk_16 10 (dk_at dksX16_count_5 4 rfl rfl)
theorem dX16_count_128 : decode cX16_count 128 = .ok (.isub, 1) := dk_100 (dk_at dksX16_count_5 6 rfl rfl)
theorem dX16_count_129 : decode cX16_count 129 = .ok (.iaload, 1) := dk_46 (dk_at dksX16_count_5 7 rfl rfl)
theorem dX16_count_130 : decode cX16_count 130 = .ok (.goto 5, 3) := dk_167 0 5 (dk_at dksX16_count_5 8 rfl rfl)
theorem dX16_count_133 : decode cX16_count 133 = .ok (.bipush (-9), 2) := dk_16 247 (dk_at dksX16_count_5 11 rfl rfl)
theorem dX16_count_135 : decode cX16_count 135 = .ok (.ireturn, 1) := dk_172 (dk_at dksX16_count_5 13 rfl rfl)
theorem q92 : (Jvm.Cond.initialized "GoodHalfEmptyModel") ∈ lw_all := lw_g (lw_at lw_m1 17 rfl) rfl
theorem q1141 : (Jvm.Cond.instanceMethod ({ cls := "GoodHalfEmptyModel", name := "image", desc := "()I" } : Jvm.MethodName)) ∈ lw_all := lw_g (lw_at lw_m5 106 rfl) rfl
theorem q1142 : (Jvm.Cond.selects "GoodHalfEmptyModel" ({ cls := "GoodHalfEmptyModel", name := "image", desc := "()I" } : Jvm.MethodName) ({ cls := "GoodHalfEmptyModel", name := "image", desc := "()I" } : Jvm.MethodName)) ∈ lw_all := lw_g (lw_at lw_m5 107 rfl) rfl
theorem q1143 : (Jvm.Cond.code ({ cls := "GoodHalfEmptyModel", name := "image", desc := "()I" } : Jvm.MethodName) prog_28_method_3_code (1 : Nat) (Option.some Jvm.ClassFile.FieldType.int)) ∈ lw_all := lw_g (lw_at lw_m5 108 rfl) rfl
theorem q1144 : (Jvm.Cond.methodLink "GoodHalfEmptyModel" (17 : Nat) ({ cls := "GoodHalfEmptyModel", name := "move", desc := "([I[I)V" } : Jvm.MethodName)) ∈ lw_all := lw_g (lw_at lw_m5 109 rfl) rfl
theorem q1145 : (Jvm.Cond.static ({ cls := "GoodHalfEmptyModel", name := "move", desc := "([I[I)V" } : Jvm.MethodName)) ∈ lw_all := lw_g (lw_at lw_m5 110 rfl) rfl
theorem q1146 : (Jvm.Cond.code ({ cls := "GoodHalfEmptyModel", name := "move", desc := "([I[I)V" } : Jvm.MethodName) prog_28_method_2_code (3 : Nat) (Option.none : Option Jvm.ClassFile.FieldType)) ∈ lw_all := lw_g (lw_at lw_m5 111 rfl) rfl
theorem q1148 : (Jvm.Cond.instanceMethod ({ cls := "GoodHalfEmptyModel", name := "on", desc := "()I" } : Jvm.MethodName)) ∈ lw_all := lw_g (lw_at lw_m5 113 rfl) rfl
theorem q1149 : (Jvm.Cond.selects "GoodHalfEmptyModel" ({ cls := "GoodHalfEmptyModel", name := "on", desc := "()I" } : Jvm.MethodName) ({ cls := "GoodHalfEmptyModel", name := "on", desc := "()I" } : Jvm.MethodName)) ∈ lw_all := lw_g (lw_at lw_m5 114 rfl) rfl
theorem q1150 : (Jvm.Cond.code ({ cls := "GoodHalfEmptyModel", name := "on", desc := "()I" } : Jvm.MethodName) prog_28_method_4_code (1 : Nat) (Option.some Jvm.ClassFile.FieldType.int)) ∈ lw_all := lw_g (lw_at lw_m5 115 rfl) rfl
theorem q1151 : (Jvm.Cond.methodLink "GoodHalfEmptyModel" (21 : Nat) ({ cls := "GoodHalfEmptyModel", name := "no", desc := "(I)I" } : Jvm.MethodName)) ∈ lw_all := lw_g (lw_at lw_m5 116 rfl) rfl
theorem q1152 : (Jvm.Cond.privateMethod ({ cls := "GoodHalfEmptyModel", name := "no", desc := "(I)I" } : Jvm.MethodName)) ∈ lw_tbl := lw_at lw_m5 117 rfl
theorem q1153 : (Jvm.Cond.instanceMethod ({ cls := "GoodHalfEmptyModel", name := "no", desc := "(I)I" } : Jvm.MethodName)) ∈ lw_all := lw_g (lw_at lw_m5 118 rfl) rfl
theorem q1154 : (Jvm.Cond.instantiable "GoodHalfEmptyModel" (27 : Nat)) ∈ lw_all := lw_g (lw_at lw_m5 119 rfl) rfl
theorem q1155 : (Jvm.Cond.code ({ cls := "GoodHalfEmptyModel", name := "no", desc := "(I)I" } : Jvm.MethodName) prog_28_method_1_code (2 : Nat) (Option.some Jvm.ClassFile.FieldType.int)) ∈ lw_all := lw_g (lw_at lw_m5 120 rfl) rfl
theorem q1158 : (Jvm.Cond.instanceMethod ({ cls := "GoodHalfEmptyModel", name := "<init>", desc := "()V" } : Jvm.MethodName)) ∈ lw_all := lw_g (lw_at lw_m5 123 rfl) rfl
theorem q1159 : (Jvm.Cond.code ({ cls := "GoodHalfEmptyModel", name := "<init>", desc := "()V" } : Jvm.MethodName) prog_28_method_5_code (1 : Nat) (Option.none : Option Jvm.ClassFile.FieldType)) ∈ lw_all := lw_g (lw_at lw_m5 124 rfl) rfl
theorem q1160 : (Jvm.Cond.methodLink "GoodHalfEmptyModel" (25 : Nat) ({ cls := "java/lang/Object", name := "<init>", desc := "()V" } : Jvm.MethodName)) ∈ lw_all := lw_g (lw_at lw_m5 125 rfl) rfl
theorem q1161 : (Jvm.Cond.fieldLink "GoodHalfEmptyModel" (1 : Nat) "GoodHalfEmptyModel" "refused" "[I") ∈ lw_all := lw_g (lw_at lw_m5 126 rfl) rfl
theorem q1162 : (Jvm.Cond.fieldLink "GoodHalfEmptyModel" (11 : Nat) "GoodHalfEmptyModel" "now" "[I") ∈ lw_all := lw_g (lw_at lw_m5 127 rfl) rfl
theorem q1163 : (Jvm.Cond.fieldLink "GoodHalfEmptyModel" (14 : Nat) "GoodHalfEmptyModel" "then" "[I") ∈ lw_all := lw_g (lw_at lw_m5 128 rfl) rfl
theorem q1164 : (Jvm.Cond.fieldLink "GoodHalfEmptyModel" (31 : Nat) "GoodHalfEmptyModel" "mind" "[I") ∈ lw_all := lw_g (lw_at lw_m5 129 rfl) rfl
theorem q1165 : (Jvm.Cond.fieldLink "GoodHalfEmptyModel" (7 : Nat) "GoodHalfEmptyModel" "kept" "Z") ∈ lw_all := lw_g (lw_at lw_m5 130 rfl) rfl
theorem q1166 : (Jvm.Cond.fieldLink "GoodHalfEmptyModel" (34 : Nat) "GoodHalfEmptyModel" "tape" "[I") ∈ lw_all := lw_g (lw_at lw_m5 131 rfl) rfl
theorem q1167 : (Jvm.Cond.fieldLink "GoodHalfEmptyModel" (73 : Nat) "GoodHalfEmptyModel" "taped" "I") ∈ lw_all := lw_g (lw_at lw_m5 132 rfl) rfl
theorem q1168 : (Jvm.Cond.fieldLink "GoodHalfEmptyModel" (80 : Nat) "GoodHalfEmptyModel" "at" "I") ∈ lw_all := lw_g (lw_at lw_m5 133 rfl) rfl
theorem q1169 : (Jvm.Cond.fieldLink "GoodHalfEmptyModel" (77 : Nat) "GoodHalfEmptyModel" "well" "Z") ∈ lw_all := lw_g (lw_at lw_m5 134 rfl) rfl
theorem q1170 : (Jvm.Cond.fieldLink "GoodHalfEmptyModel" (37 : Nat) "GoodHalfEmptyModel" "begins" "[C") ∈ lw_all := lw_g (lw_at lw_m5 135 rfl) rfl
theorem q1171 : (Jvm.Cond.fieldLink "GoodHalfEmptyModel" (41 : Nat) "GoodHalfEmptyModel" "goers" "[C") ∈ lw_all := lw_g (lw_at lw_m5 136 rfl) rfl
theorem q1172 : (Jvm.Cond.fieldLink "GoodHalfEmptyModel" (44 : Nat) "GoodHalfEmptyModel" "rulers" "[C") ∈ lw_all := lw_g (lw_at lw_m5 137 rfl) rfl
theorem q1173 : (Jvm.Cond.fieldLink "GoodHalfEmptyModel" (87 : Nat) "GoodHalfEmptyModel" "sort" "I") ∈ lw_all := lw_g (lw_at lw_m5 138 rfl) rfl
theorem q1174 : (Jvm.Cond.fieldLink "GoodHalfEmptyModel" (47 : Nat) "GoodHalfEmptyModel" "field" "[I") ∈ lw_all := lw_g (lw_at lw_m5 139 rfl) rfl
theorem q1175 : (Jvm.Cond.fieldLink "GoodHalfEmptyModel" (50 : Nat) "GoodHalfEmptyModel" "go" "[Z") ∈ lw_all := lw_g (lw_at lw_m5 140 rfl) rfl
theorem q1176 : (Jvm.Cond.fieldLink "GoodHalfEmptyModel" (54 : Nat) "GoodHalfEmptyModel" "ahead" "[I") ∈ lw_all := lw_g (lw_at lw_m5 141 rfl) rfl
theorem q1177 : (Jvm.Cond.fieldLink "GoodHalfEmptyModel" (57 : Nat) "GoodHalfEmptyModel" "plan" "[I") ∈ lw_all := lw_g (lw_at lw_m5 142 rfl) rfl
theorem q1178 : (Jvm.Cond.fieldLink "GoodHalfEmptyModel" (60 : Nat) "GoodHalfEmptyModel" "firstRest" "[I") ∈ lw_all := lw_g (lw_at lw_m5 143 rfl) rfl
theorem q1179 : (Jvm.Cond.fieldLink "GoodHalfEmptyModel" (164 : Nat) "GoodHalfEmptyModel" "rests" "I") ∈ lw_all := lw_g (lw_at lw_m5 144 rfl) rfl
theorem q1180 : (Jvm.Cond.fieldLink "GoodHalfEmptyModel" (185 : Nat) "GoodHalfEmptyModel" "restWorth" "I") ∈ lw_all := lw_g (lw_at lw_m5 145 rfl) rfl
theorem q1181 : (Jvm.Cond.fieldLink "GoodHalfEmptyModel" (182 : Nat) "GoodHalfEmptyModel" "restPresent" "I") ∈ lw_all := lw_g (lw_at lw_m5 146 rfl) rfl
theorem q1182 : (Jvm.Cond.fieldLink "GoodHalfEmptyModel" (173 : Nat) "GoodHalfEmptyModel" "bestWorth" "I") ∈ lw_all := lw_g (lw_at lw_m5 147 rfl) rfl
theorem q1183 : (Jvm.Cond.fieldLink "GoodHalfEmptyModel" (176 : Nat) "GoodHalfEmptyModel" "bestPresent" "I") ∈ lw_all := lw_g (lw_at lw_m5 148 rfl) rfl
theorem q1184 : (Jvm.Cond.fieldLink "GoodHalfEmptyModel" (167 : Nat) "GoodHalfEmptyModel" "plans" "I") ∈ lw_all := lw_g (lw_at lw_m5 149 rfl) rfl
theorem q1185 : (Jvm.Cond.fieldLink "GoodHalfEmptyModel" (63 : Nat) "GoodHalfEmptyModel" "before" "[I") ∈ lw_all := lw_g (lw_at lw_m5 150 rfl) rfl
theorem q1186 : (Jvm.Cond.fieldLink "GoodHalfEmptyModel" (66 : Nat) "GoodHalfEmptyModel" "row" "[I") ∈ lw_all := lw_g (lw_at lw_m5 151 rfl) rfl
theorem q1187 : (Jvm.Cond.fieldLink "GoodHalfEmptyModel" (198 : Nat) "GoodHalfEmptyModel" "rows" "I") ∈ lw_all := lw_g (lw_at lw_m5 152 rfl) rfl
theorem q1188 : (Jvm.Cond.laysFinal "GoodHalfEmptyModel" "GoodHalfEmptyModel" "refused" "[I") ∈ lw_all := lw_g (lw_at lw_m5 153 rfl) rfl
theorem q1189 : (Jvm.Cond.soleField "GoodHalfEmptyModel" "refused") ∈ lw_all := lw_g (lw_at lw_m5 154 rfl) rfl
theorem q1190 : (Jvm.Cond.laysFinal "GoodHalfEmptyModel" "GoodHalfEmptyModel" "now" "[I") ∈ lw_all := lw_g (lw_at lw_m5 155 rfl) rfl
theorem q1191 : (Jvm.Cond.soleField "GoodHalfEmptyModel" "now") ∈ lw_all := lw_g (lw_at lw_m5 156 rfl) rfl
theorem q1192 : (Jvm.Cond.laysFinal "GoodHalfEmptyModel" "GoodHalfEmptyModel" "then" "[I") ∈ lw_all := lw_g (lw_at lw_m5 157 rfl) rfl
theorem q1193 : (Jvm.Cond.soleField "GoodHalfEmptyModel" "then") ∈ lw_all := lw_g (lw_at lw_m5 158 rfl) rfl
theorem q1194 : (Jvm.Cond.laysFinal "GoodHalfEmptyModel" "GoodHalfEmptyModel" "mind" "[I") ∈ lw_all := lw_g (lw_at lw_m5 159 rfl) rfl
theorem q1195 : (Jvm.Cond.soleField "GoodHalfEmptyModel" "mind") ∈ lw_all := lw_g (lw_at lw_m5 160 rfl) rfl
theorem q1196 : (Jvm.Cond.lays "GoodHalfEmptyModel" "GoodHalfEmptyModel" "kept" "Z") ∈ lw_all := lw_g (lw_at lw_m5 161 rfl) rfl
theorem q1197 : (Jvm.Cond.soleField "GoodHalfEmptyModel" "kept") ∈ lw_all := lw_g (lw_at lw_m5 162 rfl) rfl
theorem q1198 : (Jvm.Cond.laysFinal "GoodHalfEmptyModel" "GoodHalfEmptyModel" "tape" "[I") ∈ lw_all := lw_g (lw_at lw_m5 163 rfl) rfl
theorem q1199 : (Jvm.Cond.soleField "GoodHalfEmptyModel" "tape") ∈ lw_all := lw_g (lw_at lw_m5 164 rfl) rfl
theorem q1200 : (Jvm.Cond.lays "GoodHalfEmptyModel" "GoodHalfEmptyModel" "taped" "I") ∈ lw_all := lw_g (lw_at lw_m5 165 rfl) rfl
theorem q1201 : (Jvm.Cond.soleField "GoodHalfEmptyModel" "taped") ∈ lw_all := lw_g (lw_at lw_m5 166 rfl) rfl
theorem q1202 : (Jvm.Cond.lays "GoodHalfEmptyModel" "GoodHalfEmptyModel" "at" "I") ∈ lw_all := lw_g (lw_at lw_m5 167 rfl) rfl
theorem q1203 : (Jvm.Cond.soleField "GoodHalfEmptyModel" "at") ∈ lw_all := lw_g (lw_at lw_m5 168 rfl) rfl
theorem q1204 : (Jvm.Cond.lays "GoodHalfEmptyModel" "GoodHalfEmptyModel" "well" "Z") ∈ lw_all := lw_g (lw_at lw_m5 169 rfl) rfl
theorem q1205 : (Jvm.Cond.soleField "GoodHalfEmptyModel" "well") ∈ lw_all := lw_g (lw_at lw_m5 170 rfl) rfl
theorem q1206 : (Jvm.Cond.laysFinal "GoodHalfEmptyModel" "GoodHalfEmptyModel" "begins" "[C") ∈ lw_all := lw_g (lw_at lw_m5 171 rfl) rfl
theorem q1207 : (Jvm.Cond.soleField "GoodHalfEmptyModel" "begins") ∈ lw_all := lw_g (lw_at lw_m5 172 rfl) rfl
theorem q1208 : (Jvm.Cond.laysFinal "GoodHalfEmptyModel" "GoodHalfEmptyModel" "goers" "[C") ∈ lw_all := lw_g (lw_at lw_m5 173 rfl) rfl
theorem q1209 : (Jvm.Cond.soleField "GoodHalfEmptyModel" "goers") ∈ lw_all := lw_g (lw_at lw_m5 174 rfl) rfl
theorem q1210 : (Jvm.Cond.laysFinal "GoodHalfEmptyModel" "GoodHalfEmptyModel" "rulers" "[C") ∈ lw_all := lw_g (lw_at lw_m5 175 rfl) rfl
theorem q1211 : (Jvm.Cond.soleField "GoodHalfEmptyModel" "rulers") ∈ lw_all := lw_g (lw_at lw_m5 176 rfl) rfl
theorem q1212 : (Jvm.Cond.lays "GoodHalfEmptyModel" "GoodHalfEmptyModel" "sort" "I") ∈ lw_all := lw_g (lw_at lw_m5 177 rfl) rfl
theorem q1213 : (Jvm.Cond.soleField "GoodHalfEmptyModel" "sort") ∈ lw_all := lw_g (lw_at lw_m5 178 rfl) rfl
theorem q1214 : (Jvm.Cond.laysFinal "GoodHalfEmptyModel" "GoodHalfEmptyModel" "field" "[I") ∈ lw_all := lw_g (lw_at lw_m5 179 rfl) rfl
theorem q1215 : (Jvm.Cond.soleField "GoodHalfEmptyModel" "field") ∈ lw_all := lw_g (lw_at lw_m5 180 rfl) rfl
theorem q1216 : (Jvm.Cond.laysFinal "GoodHalfEmptyModel" "GoodHalfEmptyModel" "go" "[Z") ∈ lw_all := lw_g (lw_at lw_m5 181 rfl) rfl
theorem q1217 : (Jvm.Cond.soleField "GoodHalfEmptyModel" "go") ∈ lw_all := lw_g (lw_at lw_m5 182 rfl) rfl
theorem q1218 : (Jvm.Cond.laysFinal "GoodHalfEmptyModel" "GoodHalfEmptyModel" "ahead" "[I") ∈ lw_all := lw_g (lw_at lw_m5 183 rfl) rfl
theorem q1219 : (Jvm.Cond.soleField "GoodHalfEmptyModel" "ahead") ∈ lw_all := lw_g (lw_at lw_m5 184 rfl) rfl
theorem q1220 : (Jvm.Cond.laysFinal "GoodHalfEmptyModel" "GoodHalfEmptyModel" "plan" "[I") ∈ lw_all := lw_g (lw_at lw_m5 185 rfl) rfl
theorem q1221 : (Jvm.Cond.soleField "GoodHalfEmptyModel" "plan") ∈ lw_all := lw_g (lw_at lw_m5 186 rfl) rfl
theorem q1222 : (Jvm.Cond.laysFinal "GoodHalfEmptyModel" "GoodHalfEmptyModel" "firstRest" "[I") ∈ lw_all := lw_g (lw_at lw_m5 187 rfl) rfl
theorem q1223 : (Jvm.Cond.soleField "GoodHalfEmptyModel" "firstRest") ∈ lw_all := lw_g (lw_at lw_m5 188 rfl) rfl
theorem q1224 : (Jvm.Cond.lays "GoodHalfEmptyModel" "GoodHalfEmptyModel" "rests" "I") ∈ lw_all := lw_g (lw_at lw_m5 189 rfl) rfl
theorem q1225 : (Jvm.Cond.soleField "GoodHalfEmptyModel" "rests") ∈ lw_all := lw_g (lw_at lw_m5 190 rfl) rfl
theorem q1226 : (Jvm.Cond.lays "GoodHalfEmptyModel" "GoodHalfEmptyModel" "restWorth" "I") ∈ lw_all := lw_g (lw_at lw_m5 191 rfl) rfl
theorem q1227 : (Jvm.Cond.soleField "GoodHalfEmptyModel" "restWorth") ∈ lw_all := lw_g (lw_at lw_m5 192 rfl) rfl
theorem q1228 : (Jvm.Cond.lays "GoodHalfEmptyModel" "GoodHalfEmptyModel" "restPresent" "I") ∈ lw_all := lw_g (lw_at lw_m5 193 rfl) rfl
theorem q1229 : (Jvm.Cond.soleField "GoodHalfEmptyModel" "restPresent") ∈ lw_all := lw_g (lw_at lw_m5 194 rfl) rfl
theorem q1230 : (Jvm.Cond.lays "GoodHalfEmptyModel" "GoodHalfEmptyModel" "bestWorth" "I") ∈ lw_all := lw_g (lw_at lw_m5 195 rfl) rfl
theorem q1231 : (Jvm.Cond.soleField "GoodHalfEmptyModel" "bestWorth") ∈ lw_all := lw_g (lw_at lw_m5 196 rfl) rfl
theorem q1232 : (Jvm.Cond.lays "GoodHalfEmptyModel" "GoodHalfEmptyModel" "bestPresent" "I") ∈ lw_all := lw_g (lw_at lw_m5 197 rfl) rfl
theorem q1233 : (Jvm.Cond.soleField "GoodHalfEmptyModel" "bestPresent") ∈ lw_all := lw_g (lw_at lw_m5 198 rfl) rfl
theorem q1234 : (Jvm.Cond.lays "GoodHalfEmptyModel" "GoodHalfEmptyModel" "plans" "I") ∈ lw_all := lw_g (lw_at lw_m5 199 rfl) rfl
theorem q1235 : (Jvm.Cond.soleField "GoodHalfEmptyModel" "plans") ∈ lw_all := lw_g (lw_at lw_m5 200 rfl) rfl
theorem q1236 : (Jvm.Cond.laysFinal "GoodHalfEmptyModel" "GoodHalfEmptyModel" "before" "[I") ∈ lw_all := lw_g (lw_at lw_m5 201 rfl) rfl
theorem q1237 : (Jvm.Cond.soleField "GoodHalfEmptyModel" "before") ∈ lw_all := lw_g (lw_at lw_m5 202 rfl) rfl
theorem q1238 : (Jvm.Cond.laysFinal "GoodHalfEmptyModel" "GoodHalfEmptyModel" "row" "[I") ∈ lw_all := lw_g (lw_at lw_m5 203 rfl) rfl
theorem q1239 : (Jvm.Cond.soleField "GoodHalfEmptyModel" "row") ∈ lw_all := lw_g (lw_at lw_m5 204 rfl) rfl
theorem q1240 : (Jvm.Cond.lays "GoodHalfEmptyModel" "GoodHalfEmptyModel" "rows" "I") ∈ lw_all := lw_g (lw_at lw_m5 205 rfl) rfl
theorem q1241 : (Jvm.Cond.soleField "GoodHalfEmptyModel" "rows") ∈ lw_all := lw_g (lw_at lw_m5 206 rfl) rfl
theorem q1242 : (Jvm.Cond.superclass "GoodHalfEmptyModel" "java/lang/Object") ∈ lw_all := lw_g (lw_at lw_m5 207 rfl) rfl
theorem q1244 : (Jvm.Cond.instanceMethod ({ cls := "GoodHalfEmptyModel", name := "letter", desc := "(I)I" } : Jvm.MethodName)) ∈ lw_all := lw_g (lw_at lw_m5 209 rfl) rfl
theorem q1245 : (Jvm.Cond.selects "GoodHalfEmptyModel" ({ cls := "GoodHalfEmptyModel", name := "letter", desc := "(I)I" } : Jvm.MethodName) ({ cls := "GoodHalfEmptyModel", name := "letter", desc := "(I)I" } : Jvm.MethodName)) ∈ lw_all := lw_g (lw_at lw_m5 210 rfl) rfl
theorem q1246 : (Jvm.Cond.code ({ cls := "GoodHalfEmptyModel", name := "letter", desc := "(I)I" } : Jvm.MethodName) prog_28_method_8_code (2 : Nat) (Option.some Jvm.ClassFile.FieldType.int)) ∈ lw_all := lw_g (lw_at lw_m5 211 rfl) rfl
theorem q1248 : (Jvm.Cond.instanceMethod ({ cls := "GoodHalfEmptyModel", name := "town", desc := "()I" } : Jvm.MethodName)) ∈ lw_all := lw_g (lw_at lw_m5 213 rfl) rfl
theorem q1249 : (Jvm.Cond.selects "GoodHalfEmptyModel" ({ cls := "GoodHalfEmptyModel", name := "town", desc := "()I" } : Jvm.MethodName) ({ cls := "GoodHalfEmptyModel", name := "town", desc := "()I" } : Jvm.MethodName)) ∈ lw_all := lw_g (lw_at lw_m5 214 rfl) rfl
theorem q1250 : (Jvm.Cond.code ({ cls := "GoodHalfEmptyModel", name := "town", desc := "()I" } : Jvm.MethodName) prog_28_method_17_code (2 : Nat) (Option.some Jvm.ClassFile.FieldType.int)) ∈ lw_all := lw_g (lw_at lw_m5 215 rfl) rfl
theorem q1251 : (Jvm.Cond.methodLink "GoodHalfEmptyModel" (111 : Nat) ({ cls := "GoodHalfEmptyModel", name := "read", desc := "()I" } : Jvm.MethodName)) ∈ lw_all := lw_g (lw_at lw_m5 216 rfl) rfl
theorem q1252 : (Jvm.Cond.privateMethod ({ cls := "GoodHalfEmptyModel", name := "read", desc := "()I" } : Jvm.MethodName)) ∈ lw_tbl := lw_at lw_m5 217 rfl
theorem q1253 : (Jvm.Cond.instanceMethod ({ cls := "GoodHalfEmptyModel", name := "read", desc := "()I" } : Jvm.MethodName)) ∈ lw_all := lw_g (lw_at lw_m5 218 rfl) rfl
theorem q1254 : (Jvm.Cond.code ({ cls := "GoodHalfEmptyModel", name := "read", desc := "()I" } : Jvm.MethodName) prog_28_method_16_code (5 : Nat) (Option.some Jvm.ClassFile.FieldType.int)) ∈ lw_all := lw_g (lw_at lw_m5 219 rfl) rfl
theorem q1255 : (Jvm.Cond.methodLink "GoodHalfEmptyModel" (101 : Nat) ({ cls := "GoodHalfEmptyModel", name := "statement", desc := "()V" } : Jvm.MethodName)) ∈ lw_all := lw_g (lw_at lw_m5 220 rfl) rfl
theorem q1256 : (Jvm.Cond.privateMethod ({ cls := "GoodHalfEmptyModel", name := "statement", desc := "()V" } : Jvm.MethodName)) ∈ lw_tbl := lw_at lw_m5 221 rfl
theorem q1257 : (Jvm.Cond.instanceMethod ({ cls := "GoodHalfEmptyModel", name := "statement", desc := "()V" } : Jvm.MethodName)) ∈ lw_all := lw_g (lw_at lw_m5 222 rfl) rfl
theorem q1258 : (Jvm.Cond.code ({ cls := "GoodHalfEmptyModel", name := "statement", desc := "()V" } : Jvm.MethodName) prog_28_method_12_code (1 : Nat) (Option.none : Option Jvm.ClassFile.FieldType)) ∈ lw_all := lw_g (lw_at lw_m5 223 rfl) rfl
theorem q1259 : (Jvm.Cond.methodLink "GoodHalfEmptyModel" (83 : Nat) ({ cls := "GoodHalfEmptyModel", name := "oneOf", desc := "([C)I" } : Jvm.MethodName)) ∈ lw_all := lw_g (lw_at lw_m5 224 rfl) rfl
theorem q1260 : (Jvm.Cond.privateMethod ({ cls := "GoodHalfEmptyModel", name := "oneOf", desc := "([C)I" } : Jvm.MethodName)) ∈ lw_tbl := lw_at lw_m5 225 rfl
theorem q1261 : (Jvm.Cond.instanceMethod ({ cls := "GoodHalfEmptyModel", name := "oneOf", desc := "([C)I" } : Jvm.MethodName)) ∈ lw_all := lw_g (lw_at lw_m5 226 rfl) rfl
theorem q1262 : (Jvm.Cond.code ({ cls := "GoodHalfEmptyModel", name := "oneOf", desc := "([C)I" } : Jvm.MethodName) prog_28_method_10_code (4 : Nat) (Option.some Jvm.ClassFile.FieldType.int)) ∈ lw_all := lw_g (lw_at lw_m5 227 rfl) rfl
theorem q1263 : (Jvm.Cond.methodLink "GoodHalfEmptyModel" (90 : Nat) ({ cls := "GoodHalfEmptyModel", name := "figures", desc := "(I)I" } : Jvm.MethodName)) ∈ lw_all := lw_g (lw_at lw_m5 228 rfl) rfl
theorem q1264 : (Jvm.Cond.privateMethod ({ cls := "GoodHalfEmptyModel", name := "figures", desc := "(I)I" } : Jvm.MethodName)) ∈ lw_tbl := lw_at lw_m5 229 rfl
theorem q1265 : (Jvm.Cond.instanceMethod ({ cls := "GoodHalfEmptyModel", name := "figures", desc := "(I)I" } : Jvm.MethodName)) ∈ lw_all := lw_g (lw_at lw_m5 230 rfl) rfl
theorem q1266 : (Jvm.Cond.code ({ cls := "GoodHalfEmptyModel", name := "figures", desc := "(I)I" } : Jvm.MethodName) prog_28_method_11_code (4 : Nat) (Option.some Jvm.ClassFile.FieldType.int)) ∈ lw_all := lw_g (lw_at lw_m5 231 rfl) rfl
theorem q1267 : (Jvm.Cond.methodLink "GoodHalfEmptyModel" (93 : Nat) ({ cls := "GoodHalfEmptyModel", name := "expect", desc := "(C)V" } : Jvm.MethodName)) ∈ lw_all := lw_g (lw_at lw_m5 232 rfl) rfl
theorem q1268 : (Jvm.Cond.privateMethod ({ cls := "GoodHalfEmptyModel", name := "expect", desc := "(C)V" } : Jvm.MethodName)) ∈ lw_tbl := lw_at lw_m5 233 rfl
theorem q1269 : (Jvm.Cond.instanceMethod ({ cls := "GoodHalfEmptyModel", name := "expect", desc := "(C)V" } : Jvm.MethodName)) ∈ lw_all := lw_g (lw_at lw_m5 234 rfl) rfl
theorem q1270 : (Jvm.Cond.code ({ cls := "GoodHalfEmptyModel", name := "expect", desc := "(C)V" } : Jvm.MethodName) prog_28_method_9_code (2 : Nat) (Option.none : Option Jvm.ClassFile.FieldType)) ∈ lw_all := lw_g (lw_at lw_m5 235 rfl) rfl
theorem q1271 : (Jvm.Cond.methodLink "GoodHalfEmptyModel" (104 : Nat) ({ cls := "GoodHalfEmptyModel", name := "isAsItMustBe", desc := "(II)Z" } : Jvm.MethodName)) ∈ lw_all := lw_g (lw_at lw_m5 236 rfl) rfl
theorem q1272 : (Jvm.Cond.privateMethod ({ cls := "GoodHalfEmptyModel", name := "isAsItMustBe", desc := "(II)Z" } : Jvm.MethodName)) ∈ lw_tbl := lw_at lw_m5 237 rfl
theorem q1273 : (Jvm.Cond.instanceMethod ({ cls := "GoodHalfEmptyModel", name := "isAsItMustBe", desc := "(II)Z" } : Jvm.MethodName)) ∈ lw_all := lw_g (lw_at lw_m5 238 rfl) rfl
theorem q1274 : (Jvm.Cond.code ({ cls := "GoodHalfEmptyModel", name := "isAsItMustBe", desc := "(II)Z" } : Jvm.MethodName) prog_28_method_13_code (3 : Nat) (Option.some Jvm.ClassFile.FieldType.boolean)) ∈ lw_all := lw_g (lw_at lw_m5 239 rfl) rfl
theorem q1275 : (Jvm.Cond.methodLink "GoodHalfEmptyModel" (108 : Nat) ({ cls := "GoodHalfEmptyModel", name := "come", desc := "()V" } : Jvm.MethodName)) ∈ lw_all := lw_g (lw_at lw_m6 0 rfl) rfl
theorem q1276 : (Jvm.Cond.privateMethod ({ cls := "GoodHalfEmptyModel", name := "come", desc := "()V" } : Jvm.MethodName)) ∈ lw_tbl := lw_at lw_m6 1 rfl
theorem q1277 : (Jvm.Cond.instanceMethod ({ cls := "GoodHalfEmptyModel", name := "come", desc := "()V" } : Jvm.MethodName)) ∈ lw_all := lw_g (lw_at lw_m6 2 rfl) rfl
theorem q1278 : (Jvm.Cond.code ({ cls := "GoodHalfEmptyModel", name := "come", desc := "()V" } : Jvm.MethodName) prog_28_method_15_code (2 : Nat) (Option.none : Option Jvm.ClassFile.FieldType)) ∈ lw_all := lw_g (lw_at lw_m6 3 rfl) rfl
theorem q1279 : (Jvm.Cond.methodLink "GoodHalfEmptyModel" (97 : Nat) ({ cls := "GoodHalfEmptyModel", name := "remember", desc := "(I)V" } : Jvm.MethodName)) ∈ lw_all := lw_g (lw_at lw_m6 4 rfl) rfl
theorem q1280 : (Jvm.Cond.privateMethod ({ cls := "GoodHalfEmptyModel", name := "remember", desc := "(I)V" } : Jvm.MethodName)) ∈ lw_tbl := lw_at lw_m6 5 rfl
theorem q1281 : (Jvm.Cond.instanceMethod ({ cls := "GoodHalfEmptyModel", name := "remember", desc := "(I)V" } : Jvm.MethodName)) ∈ lw_all := lw_g (lw_at lw_m6 6 rfl) rfl
theorem q1282 : (Jvm.Cond.code ({ cls := "GoodHalfEmptyModel", name := "remember", desc := "(I)V" } : Jvm.MethodName) prog_28_method_14_code (3 : Nat) (Option.none : Option Jvm.ClassFile.FieldType)) ∈ lw_all := lw_g (lw_at lw_m6 7 rfl) rfl
theorem q1284 : (Jvm.Cond.instanceMethod ({ cls := "GoodHalfEmptyModel", name := "sort", desc := "(II)I" } : Jvm.MethodName)) ∈ lw_all := lw_g (lw_at lw_m6 9 rfl) rfl
theorem q1285 : (Jvm.Cond.selects "GoodHalfEmptyModel" ({ cls := "GoodHalfEmptyModel", name := "sort", desc := "(II)I" } : Jvm.MethodName) ({ cls := "GoodHalfEmptyModel", name := "sort", desc := "(II)I" } : Jvm.MethodName)) ∈ lw_all := lw_g (lw_at lw_m6 10 rfl) rfl
theorem q1286 : (Jvm.Cond.code ({ cls := "GoodHalfEmptyModel", name := "sort", desc := "(II)I" } : Jvm.MethodName) prog_28_method_27_code (3 : Nat) (Option.some Jvm.ClassFile.FieldType.int)) ∈ lw_all := lw_g (lw_at lw_m6 11 rfl) rfl
theorem q1287 : (Jvm.Cond.methodLink "GoodHalfEmptyModel" (142 : Nat) ({ cls := "GoodHalfEmptyModel", name := "isNoSort", desc := "(I)Z" } : Jvm.MethodName)) ∈ lw_all := lw_g (lw_at lw_m6 12 rfl) rfl
theorem q1288 : (Jvm.Cond.privateMethod ({ cls := "GoodHalfEmptyModel", name := "isNoSort", desc := "(I)Z" } : Jvm.MethodName)) ∈ lw_tbl := lw_at lw_m6 13 rfl
theorem q1289 : (Jvm.Cond.instanceMethod ({ cls := "GoodHalfEmptyModel", name := "isNoSort", desc := "(I)Z" } : Jvm.MethodName)) ∈ lw_all := lw_g (lw_at lw_m6 14 rfl) rfl
theorem q1290 : (Jvm.Cond.code ({ cls := "GoodHalfEmptyModel", name := "isNoSort", desc := "(I)Z" } : Jvm.MethodName) prog_28_method_26_code (2 : Nat) (Option.some Jvm.ClassFile.FieldType.boolean)) ∈ lw_all := lw_g (lw_at lw_m6 15 rfl) rfl
theorem q1291 : (Jvm.Cond.methodLink "GoodHalfEmptyModel" (69 : Nat) ({ cls := "GoodHalfEmptyModel", name := "of", desc := "(II)I" } : Jvm.MethodName)) ∈ lw_all := lw_g (lw_at lw_m6 16 rfl) rfl
theorem q1292 : (Jvm.Cond.privateMethod ({ cls := "GoodHalfEmptyModel", name := "of", desc := "(II)I" } : Jvm.MethodName)) ∈ lw_tbl := lw_at lw_m6 17 rfl
theorem q1293 : (Jvm.Cond.instanceMethod ({ cls := "GoodHalfEmptyModel", name := "of", desc := "(II)I" } : Jvm.MethodName)) ∈ lw_all := lw_g (lw_at lw_m6 18 rfl) rfl
theorem q1294 : (Jvm.Cond.code ({ cls := "GoodHalfEmptyModel", name := "of", desc := "(II)I" } : Jvm.MethodName) prog_28_method_6_code (3 : Nat) (Option.some Jvm.ClassFile.FieldType.int)) ∈ lw_all := lw_g (lw_at lw_m6 19 rfl) rfl
theorem q1296 : (Jvm.Cond.instanceMethod ({ cls := "GoodHalfEmptyModel", name := "rule", desc := "(II)I" } : Jvm.MethodName)) ∈ lw_all := lw_g (lw_at lw_m6 21 rfl) rfl
theorem q1297 : (Jvm.Cond.selects "GoodHalfEmptyModel" ({ cls := "GoodHalfEmptyModel", name := "rule", desc := "(II)I" } : Jvm.MethodName) ({ cls := "GoodHalfEmptyModel", name := "rule", desc := "(II)I" } : Jvm.MethodName)) ∈ lw_all := lw_g (lw_at lw_m6 22 rfl) rfl
theorem q1298 : (Jvm.Cond.code ({ cls := "GoodHalfEmptyModel", name := "rule", desc := "(II)I" } : Jvm.MethodName) prog_28_method_28_code (3 : Nat) (Option.some Jvm.ClassFile.FieldType.int)) ∈ lw_all := lw_g (lw_at lw_m6 23 rfl) rfl
theorem q1299 : (Jvm.Cond.methodLink "GoodHalfEmptyModel" (126 : Nat) ({ cls := "GoodHalfEmptyModel", name := "foretold", desc := "(II)I" } : Jvm.MethodName)) ∈ lw_all := lw_g (lw_at lw_m6 24 rfl) rfl
theorem q1300 : (Jvm.Cond.privateMethod ({ cls := "GoodHalfEmptyModel", name := "foretold", desc := "(II)I" } : Jvm.MethodName)) ∈ lw_tbl := lw_at lw_m6 25 rfl
theorem q1301 : (Jvm.Cond.instanceMethod ({ cls := "GoodHalfEmptyModel", name := "foretold", desc := "(II)I" } : Jvm.MethodName)) ∈ lw_all := lw_g (lw_at lw_m6 26 rfl) rfl
theorem q1302 : (Jvm.Cond.code ({ cls := "GoodHalfEmptyModel", name := "foretold", desc := "(II)I" } : Jvm.MethodName) prog_28_method_19_code (5 : Nat) (Option.some Jvm.ClassFile.FieldType.int)) ∈ lw_all := lw_g (lw_at lw_m6 27 rfl) rfl
theorem q1303 : (Jvm.Cond.methodLink "GoodHalfEmptyModel" (115 : Nat) ({ cls := "GoodHalfEmptyModel", name := "ago", desc := "(I)I" } : Jvm.MethodName)) ∈ lw_all := lw_g (lw_at lw_m6 28 rfl) rfl
theorem q1304 : (Jvm.Cond.privateMethod ({ cls := "GoodHalfEmptyModel", name := "ago", desc := "(I)I" } : Jvm.MethodName)) ∈ lw_tbl := lw_at lw_m6 29 rfl
theorem q1305 : (Jvm.Cond.instanceMethod ({ cls := "GoodHalfEmptyModel", name := "ago", desc := "(I)I" } : Jvm.MethodName)) ∈ lw_all := lw_g (lw_at lw_m6 30 rfl) rfl
theorem q1306 : (Jvm.Cond.code ({ cls := "GoodHalfEmptyModel", name := "ago", desc := "(I)I" } : Jvm.MethodName) prog_28_method_18_code (2 : Nat) (Option.some Jvm.ClassFile.FieldType.int)) ∈ lw_all := lw_g (lw_at lw_m6 31 rfl) rfl
theorem q1307 : (Jvm.Cond.methodLink "GoodHalfEmptyModel" (118 : Nat) ({ cls := "GoodHalfEmptyModel", name := "people", desc := "()I" } : Jvm.MethodName)) ∈ lw_all := lw_g (lw_at lw_m6 32 rfl) rfl
theorem q1308 : (Jvm.Cond.privateMethod ({ cls := "GoodHalfEmptyModel", name := "people", desc := "()I" } : Jvm.MethodName)) ∈ lw_tbl := lw_at lw_m6 33 rfl
theorem q1309 : (Jvm.Cond.instanceMethod ({ cls := "GoodHalfEmptyModel", name := "people", desc := "()I" } : Jvm.MethodName)) ∈ lw_all := lw_g (lw_at lw_m6 34 rfl) rfl
theorem q1310 : (Jvm.Cond.code ({ cls := "GoodHalfEmptyModel", name := "people", desc := "()I" } : Jvm.MethodName) prog_28_method_7_code (3 : Nat) (Option.some Jvm.ClassFile.FieldType.int)) ∈ lw_all := lw_g (lw_at lw_m6 35 rfl) rfl
theorem q1311 : (Jvm.Cond.methodLink "GoodHalfEmptyModel" (121 : Nat) ({ cls := "java/lang/Math", name := "max", desc := "(II)I" } : Jvm.MethodName)) ∈ lw_all := lw_g (lw_at lw_m6 36 rfl) rfl
theorem q1313 : (Jvm.Cond.instanceMethod ({ cls := "GoodHalfEmptyModel", name := "remembered", desc := "(I)I" } : Jvm.MethodName)) ∈ lw_all := lw_g (lw_at lw_m6 38 rfl) rfl
theorem q1314 : (Jvm.Cond.selects "GoodHalfEmptyModel" ({ cls := "GoodHalfEmptyModel", name := "remembered", desc := "(I)I" } : Jvm.MethodName) ({ cls := "GoodHalfEmptyModel", name := "remembered", desc := "(I)I" } : Jvm.MethodName)) ∈ lw_all := lw_g (lw_at lw_m6 39 rfl) rfl
theorem q1315 : (Jvm.Cond.code ({ cls := "GoodHalfEmptyModel", name := "remembered", desc := "(I)I" } : Jvm.MethodName) prog_28_method_29_code (2 : Nat) (Option.some Jvm.ClassFile.FieldType.int)) ∈ lw_all := lw_g (lw_at lw_m6 40 rfl) rfl
theorem q1317 : (Jvm.Cond.instanceMethod ({ cls := "GoodHalfEmptyModel", name := "penny", desc := "(I)I" } : Jvm.MethodName)) ∈ lw_all := lw_g (lw_at lw_m6 42 rfl) rfl
theorem q1318 : (Jvm.Cond.selects "GoodHalfEmptyModel" ({ cls := "GoodHalfEmptyModel", name := "penny", desc := "(I)I" } : Jvm.MethodName) ({ cls := "GoodHalfEmptyModel", name := "penny", desc := "(I)I" } : Jvm.MethodName)) ∈ lw_all := lw_g (lw_at lw_m6 43 rfl) rfl
theorem q1319 : (Jvm.Cond.code ({ cls := "GoodHalfEmptyModel", name := "penny", desc := "(I)I" } : Jvm.MethodName) prog_28_method_30_code (3 : Nat) (Option.some Jvm.ClassFile.FieldType.int)) ∈ lw_all := lw_g (lw_at lw_m6 44 rfl) rfl
theorem q1321 : (Jvm.Cond.instanceMethod ({ cls := "GoodHalfEmptyModel", name := "week", desc := "()I" } : Jvm.MethodName)) ∈ lw_all := lw_g (lw_at lw_m6 46 rfl) rfl
theorem q1322 : (Jvm.Cond.selects "GoodHalfEmptyModel" ({ cls := "GoodHalfEmptyModel", name := "week", desc := "()I" } : Jvm.MethodName) ({ cls := "GoodHalfEmptyModel", name := "week", desc := "()I" } : Jvm.MethodName)) ∈ lw_all := lw_g (lw_at lw_m6 47 rfl) rfl
theorem q1323 : (Jvm.Cond.code ({ cls := "GoodHalfEmptyModel", name := "week", desc := "()I" } : Jvm.MethodName) prog_28_method_31_code (1 : Nat) (Option.some Jvm.ClassFile.FieldType.int)) ∈ lw_all := lw_g (lw_at lw_m6 48 rfl) rfl
theorem q1324 : (Jvm.Cond.methodLink "GoodHalfEmptyModel" (145 : Nat) ({ cls := "GoodHalfEmptyModel", name := "goOn", desc := "()I" } : Jvm.MethodName)) ∈ lw_all := lw_g (lw_at lw_m6 49 rfl) rfl
theorem q1325 : (Jvm.Cond.privateMethod ({ cls := "GoodHalfEmptyModel", name := "goOn", desc := "()I" } : Jvm.MethodName)) ∈ lw_tbl := lw_at lw_m6 50 rfl
theorem q1326 : (Jvm.Cond.instanceMethod ({ cls := "GoodHalfEmptyModel", name := "goOn", desc := "()I" } : Jvm.MethodName)) ∈ lw_all := lw_g (lw_at lw_m6 51 rfl) rfl
theorem q1327 : (Jvm.Cond.code ({ cls := "GoodHalfEmptyModel", name := "goOn", desc := "()I" } : Jvm.MethodName) prog_28_method_25_code (3 : Nat) (Option.some Jvm.ClassFile.FieldType.int)) ∈ lw_all := lw_g (lw_at lw_m6 52 rfl) rfl
theorem q1328 : (Jvm.Cond.methodLink "GoodHalfEmptyModel" (139 : Nat) ({ cls := "GoodHalfEmptyModel", name := "present", desc := "()I" } : Jvm.MethodName)) ∈ lw_all := lw_g (lw_at lw_m6 53 rfl) rfl
theorem q1329 : (Jvm.Cond.privateMethod ({ cls := "GoodHalfEmptyModel", name := "present", desc := "()I" } : Jvm.MethodName)) ∈ lw_tbl := lw_at lw_m6 54 rfl
theorem q1330 : (Jvm.Cond.instanceMethod ({ cls := "GoodHalfEmptyModel", name := "present", desc := "()I" } : Jvm.MethodName)) ∈ lw_all := lw_g (lw_at lw_m6 55 rfl) rfl
theorem q1331 : (Jvm.Cond.code ({ cls := "GoodHalfEmptyModel", name := "present", desc := "()I" } : Jvm.MethodName) prog_28_method_22_code (4 : Nat) (Option.some Jvm.ClassFile.FieldType.int)) ∈ lw_all := lw_g (lw_at lw_m6 56 rfl) rfl
theorem q1332 : (Jvm.Cond.methodLink "GoodHalfEmptyModel" (129 : Nat) ({ cls := "GoodHalfEmptyModel", name := "isRoom", desc := "(I)Z" } : Jvm.MethodName)) ∈ lw_all := lw_g (lw_at lw_m6 57 rfl) rfl
theorem q1333 : (Jvm.Cond.privateMethod ({ cls := "GoodHalfEmptyModel", name := "isRoom", desc := "(I)Z" } : Jvm.MethodName)) ∈ lw_tbl := lw_at lw_m6 58 rfl
theorem q1334 : (Jvm.Cond.instanceMethod ({ cls := "GoodHalfEmptyModel", name := "isRoom", desc := "(I)Z" } : Jvm.MethodName)) ∈ lw_all := lw_g (lw_at lw_m6 59 rfl) rfl
theorem q1335 : (Jvm.Cond.code ({ cls := "GoodHalfEmptyModel", name := "isRoom", desc := "(I)Z" } : Jvm.MethodName) prog_28_method_20_code (2 : Nat) (Option.some Jvm.ClassFile.FieldType.boolean)) ∈ lw_all := lw_g (lw_at lw_m6 60 rfl) rfl
theorem q1336 : (Jvm.Cond.methodLink "GoodHalfEmptyModel" (133 : Nat) ({ cls := "GoodHalfEmptyModel", name := "hat", desc := "(I)I" } : Jvm.MethodName)) ∈ lw_all := lw_g (lw_at lw_m6 61 rfl) rfl
theorem q1337 : (Jvm.Cond.privateMethod ({ cls := "GoodHalfEmptyModel", name := "hat", desc := "(I)I" } : Jvm.MethodName)) ∈ lw_tbl := lw_at lw_m6 62 rfl
theorem q1338 : (Jvm.Cond.instanceMethod ({ cls := "GoodHalfEmptyModel", name := "hat", desc := "(I)I" } : Jvm.MethodName)) ∈ lw_all := lw_g (lw_at lw_m6 63 rfl) rfl
theorem q1339 : (Jvm.Cond.code ({ cls := "GoodHalfEmptyModel", name := "hat", desc := "(I)I" } : Jvm.MethodName) prog_28_method_21_code (4 : Nat) (Option.some Jvm.ClassFile.FieldType.int)) ∈ lw_all := lw_g (lw_at lw_m6 64 rfl) rfl
theorem q1341 : (Jvm.Cond.instanceMethod ({ cls := "GoodHalfEmptyModel", name := "next", desc := "()I" } : Jvm.MethodName)) ∈ lw_all := lw_g (lw_at lw_m6 66 rfl) rfl
theorem q1342 : (Jvm.Cond.selects "GoodHalfEmptyModel" ({ cls := "GoodHalfEmptyModel", name := "next", desc := "()I" } : Jvm.MethodName) ({ cls := "GoodHalfEmptyModel", name := "next", desc := "()I" } : Jvm.MethodName)) ∈ lw_all := lw_g (lw_at lw_m6 67 rfl) rfl
theorem q1343 : (Jvm.Cond.code ({ cls := "GoodHalfEmptyModel", name := "next", desc := "()I" } : Jvm.MethodName) prog_28_method_32_code (1 : Nat) (Option.some Jvm.ClassFile.FieldType.int)) ∈ lw_all := lw_g (lw_at lw_m6 68 rfl) rfl
theorem q1345 : (Jvm.Cond.instanceMethod ({ cls := "GoodHalfEmptyModel", name := "goes", desc := "(I)I" } : Jvm.MethodName)) ∈ lw_all := lw_g (lw_at lw_m6 70 rfl) rfl
theorem q1346 : (Jvm.Cond.selects "GoodHalfEmptyModel" ({ cls := "GoodHalfEmptyModel", name := "goes", desc := "(I)I" } : Jvm.MethodName) ({ cls := "GoodHalfEmptyModel", name := "goes", desc := "(I)I" } : Jvm.MethodName)) ∈ lw_all := lw_g (lw_at lw_m6 71 rfl) rfl
theorem q1347 : (Jvm.Cond.code ({ cls := "GoodHalfEmptyModel", name := "goes", desc := "(I)I" } : Jvm.MethodName) prog_28_method_33_code (2 : Nat) (Option.some Jvm.ClassFile.FieldType.int)) ∈ lw_all := lw_g (lw_at lw_m6 72 rfl) rfl
theorem q1349 : (Jvm.Cond.instanceMethod ({ cls := "GoodHalfEmptyModel", name := "worth", desc := "(I)I" } : Jvm.MethodName)) ∈ lw_all := lw_g (lw_at lw_m6 74 rfl) rfl
theorem q1350 : (Jvm.Cond.selects "GoodHalfEmptyModel" ({ cls := "GoodHalfEmptyModel", name := "worth", desc := "(I)I" } : Jvm.MethodName) ({ cls := "GoodHalfEmptyModel", name := "worth", desc := "(I)I" } : Jvm.MethodName)) ∈ lw_all := lw_g (lw_at lw_m6 75 rfl) rfl
theorem q1351 : (Jvm.Cond.code ({ cls := "GoodHalfEmptyModel", name := "worth", desc := "(I)I" } : Jvm.MethodName) prog_28_method_34_code (5 : Nat) (Option.some Jvm.ClassFile.FieldType.int)) ∈ lw_all := lw_g (lw_at lw_m6 76 rfl) rfl
theorem q1352 : (Jvm.Cond.constant "GoodHalfEmptyModel" (148 : Nat) (1000000000 : Int32)) ∈ lw_all := lw_g (lw_at lw_m6 77 rfl) rfl
theorem q1353 : (Jvm.Cond.methodLink "GoodHalfEmptyModel" (149 : Nat) ({ cls := "GoodHalfEmptyModel", name := "worthNext", desc := "(II)I" } : Jvm.MethodName)) ∈ lw_all := lw_g (lw_at lw_m6 78 rfl) rfl
theorem q1354 : (Jvm.Cond.privateMethod ({ cls := "GoodHalfEmptyModel", name := "worthNext", desc := "(II)I" } : Jvm.MethodName)) ∈ lw_tbl := lw_at lw_m6 79 rfl
theorem q1355 : (Jvm.Cond.instanceMethod ({ cls := "GoodHalfEmptyModel", name := "worthNext", desc := "(II)I" } : Jvm.MethodName)) ∈ lw_all := lw_g (lw_at lw_m6 80 rfl) rfl
theorem q1356 : (Jvm.Cond.code ({ cls := "GoodHalfEmptyModel", name := "worthNext", desc := "(II)I" } : Jvm.MethodName) prog_28_method_24_code (3 : Nat) (Option.some Jvm.ClassFile.FieldType.int)) ∈ lw_all := lw_g (lw_at lw_m6 81 rfl) rfl
theorem q1357 : (Jvm.Cond.methodLink "GoodHalfEmptyModel" (136 : Nat) ({ cls := "GoodHalfEmptyModel", name := "worthGone", desc := "(II)I" } : Jvm.MethodName)) ∈ lw_all := lw_g (lw_at lw_m6 82 rfl) rfl
theorem q1358 : (Jvm.Cond.privateMethod ({ cls := "GoodHalfEmptyModel", name := "worthGone", desc := "(II)I" } : Jvm.MethodName)) ∈ lw_tbl := lw_at lw_m6 83 rfl
theorem q1359 : (Jvm.Cond.instanceMethod ({ cls := "GoodHalfEmptyModel", name := "worthGone", desc := "(II)I" } : Jvm.MethodName)) ∈ lw_all := lw_g (lw_at lw_m6 84 rfl) rfl
theorem q1360 : (Jvm.Cond.code ({ cls := "GoodHalfEmptyModel", name := "worthGone", desc := "(II)I" } : Jvm.MethodName) prog_28_method_23_code (3 : Nat) (Option.some Jvm.ClassFile.FieldType.int)) ∈ lw_all := lw_g (lw_at lw_m6 85 rfl) rfl
theorem q1362 : (Jvm.Cond.instanceMethod ({ cls := "GoodHalfEmptyModel", name := "after", desc := "(I)I" } : Jvm.MethodName)) ∈ lw_all := lw_g (lw_at lw_m6 87 rfl) rfl
theorem q1363 : (Jvm.Cond.selects "GoodHalfEmptyModel" ({ cls := "GoodHalfEmptyModel", name := "after", desc := "(I)I" } : Jvm.MethodName) ({ cls := "GoodHalfEmptyModel", name := "after", desc := "(I)I" } : Jvm.MethodName)) ∈ lw_all := lw_g (lw_at lw_m6 88 rfl) rfl
theorem q1364 : (Jvm.Cond.code ({ cls := "GoodHalfEmptyModel", name := "after", desc := "(I)I" } : Jvm.MethodName) prog_28_method_38_code (2 : Nat) (Option.some Jvm.ClassFile.FieldType.int)) ∈ lw_all := lw_g (lw_at lw_m6 89 rfl) rfl
theorem q1365 : (Jvm.Cond.methodLink "GoodHalfEmptyModel" (155 : Nat) ({ cls := "GoodHalfEmptyModel", name := "isWrong", desc := "(II)I" } : Jvm.MethodName)) ∈ lw_all := lw_g (lw_at lw_m6 90 rfl) rfl
theorem q1366 : (Jvm.Cond.privateMethod ({ cls := "GoodHalfEmptyModel", name := "isWrong", desc := "(II)I" } : Jvm.MethodName)) ∈ lw_tbl := lw_at lw_m6 91 rfl
theorem q1367 : (Jvm.Cond.instanceMethod ({ cls := "GoodHalfEmptyModel", name := "isWrong", desc := "(II)I" } : Jvm.MethodName)) ∈ lw_all := lw_g (lw_at lw_m6 92 rfl) rfl
theorem q1368 : (Jvm.Cond.code ({ cls := "GoodHalfEmptyModel", name := "isWrong", desc := "(II)I" } : Jvm.MethodName) prog_28_method_35_code (3 : Nat) (Option.some Jvm.ClassFile.FieldType.int)) ∈ lw_all := lw_g (lw_at lw_m6 93 rfl) rfl
theorem q1369 : (Jvm.Cond.methodLink "GoodHalfEmptyModel" (158 : Nat) ({ cls := "GoodHalfEmptyModel", name := "goAhead", desc := "(II)I" } : Jvm.MethodName)) ∈ lw_all := lw_g (lw_at lw_m6 94 rfl) rfl
theorem q1370 : (Jvm.Cond.privateMethod ({ cls := "GoodHalfEmptyModel", name := "goAhead", desc := "(II)I" } : Jvm.MethodName)) ∈ lw_tbl := lw_at lw_m6 95 rfl
theorem q1371 : (Jvm.Cond.instanceMethod ({ cls := "GoodHalfEmptyModel", name := "goAhead", desc := "(II)I" } : Jvm.MethodName)) ∈ lw_all := lw_g (lw_at lw_m6 96 rfl) rfl
theorem q1372 : (Jvm.Cond.code ({ cls := "GoodHalfEmptyModel", name := "goAhead", desc := "(II)I" } : Jvm.MethodName) prog_28_method_36_code (6 : Nat) (Option.some Jvm.ClassFile.FieldType.int)) ∈ lw_all := lw_g (lw_at lw_m6 97 rfl) rfl
theorem q1374 : (Jvm.Cond.instanceMethod ({ cls := "GoodHalfEmptyModel", name := "mean", desc := "(I)I" } : Jvm.MethodName)) ∈ lw_all := lw_g (lw_at lw_m6 99 rfl) rfl
theorem q1375 : (Jvm.Cond.selects "GoodHalfEmptyModel" ({ cls := "GoodHalfEmptyModel", name := "mean", desc := "(I)I" } : Jvm.MethodName) ({ cls := "GoodHalfEmptyModel", name := "mean", desc := "(I)I" } : Jvm.MethodName)) ∈ lw_all := lw_g (lw_at lw_m6 100 rfl) rfl
theorem q1376 : (Jvm.Cond.code ({ cls := "GoodHalfEmptyModel", name := "mean", desc := "(I)I" } : Jvm.MethodName) prog_28_method_39_code (4 : Nat) (Option.some Jvm.ClassFile.FieldType.int)) ∈ lw_all := lw_g (lw_at lw_m6 101 rfl) rfl
theorem q1378 : (Jvm.Cond.instanceMethod ({ cls := "GoodHalfEmptyModel", name := "swing", desc := "(I)I" } : Jvm.MethodName)) ∈ lw_all := lw_g (lw_at lw_m6 103 rfl) rfl
theorem q1379 : (Jvm.Cond.selects "GoodHalfEmptyModel" ({ cls := "GoodHalfEmptyModel", name := "swing", desc := "(I)I" } : Jvm.MethodName) ({ cls := "GoodHalfEmptyModel", name := "swing", desc := "(I)I" } : Jvm.MethodName)) ∈ lw_all := lw_g (lw_at lw_m6 104 rfl) rfl
theorem q1380 : (Jvm.Cond.code ({ cls := "GoodHalfEmptyModel", name := "swing", desc := "(I)I" } : Jvm.MethodName) prog_28_method_40_code (2 : Nat) (Option.some Jvm.ClassFile.FieldType.int)) ∈ lw_all := lw_g (lw_at lw_m6 105 rfl) rfl
theorem q1381 : (Jvm.Cond.methodLink "GoodHalfEmptyModel" (161 : Nat) ({ cls := "GoodHalfEmptyModel", name := "swungIn", desc := "(I)I" } : Jvm.MethodName)) ∈ lw_all := lw_g (lw_at lw_m6 106 rfl) rfl
theorem q1382 : (Jvm.Cond.privateMethod ({ cls := "GoodHalfEmptyModel", name := "swungIn", desc := "(I)I" } : Jvm.MethodName)) ∈ lw_tbl := lw_at lw_m6 107 rfl
theorem q1383 : (Jvm.Cond.instanceMethod ({ cls := "GoodHalfEmptyModel", name := "swungIn", desc := "(I)I" } : Jvm.MethodName)) ∈ lw_all := lw_g (lw_at lw_m6 108 rfl) rfl
theorem q1384 : (Jvm.Cond.code ({ cls := "GoodHalfEmptyModel", name := "swungIn", desc := "(I)I" } : Jvm.MethodName) prog_28_method_37_code (5 : Nat) (Option.some Jvm.ClassFile.FieldType.int)) ∈ lw_all := lw_g (lw_at lw_m6 109 rfl) rfl
theorem q1385 : (Jvm.Cond.methodLink "GoodHalfEmptyModel" (152 : Nat) ({ cls := "java/lang/Math", name := "min", desc := "(II)I" } : Jvm.MethodName)) ∈ lw_all := lw_g (lw_at lw_m6 110 rfl) rfl
theorem q1387 : (Jvm.Cond.instanceMethod ({ cls := "GoodHalfEmptyModel", name := "good", desc := "(I)I" } : Jvm.MethodName)) ∈ lw_all := lw_g (lw_at lw_m6 112 rfl) rfl
theorem q1388 : (Jvm.Cond.selects "GoodHalfEmptyModel" ({ cls := "GoodHalfEmptyModel", name := "good", desc := "(I)I" } : Jvm.MethodName) ({ cls := "GoodHalfEmptyModel", name := "good", desc := "(I)I" } : Jvm.MethodName)) ∈ lw_all := lw_g (lw_at lw_m6 113 rfl) rfl
theorem q1389 : (Jvm.Cond.code ({ cls := "GoodHalfEmptyModel", name := "good", desc := "(I)I" } : Jvm.MethodName) prog_28_method_41_code (4 : Nat) (Option.some Jvm.ClassFile.FieldType.int)) ∈ lw_all := lw_g (lw_at lw_m6 114 rfl) rfl
theorem q1391 : (Jvm.Cond.instanceMethod ({ cls := "GoodHalfEmptyModel", name := "again", desc := "()I" } : Jvm.MethodName)) ∈ lw_all := lw_g (lw_at lw_m6 116 rfl) rfl
theorem q1392 : (Jvm.Cond.selects "GoodHalfEmptyModel" ({ cls := "GoodHalfEmptyModel", name := "again", desc := "()I" } : Jvm.MethodName) ({ cls := "GoodHalfEmptyModel", name := "again", desc := "()I" } : Jvm.MethodName)) ∈ lw_all := lw_g (lw_at lw_m6 117 rfl) rfl
theorem q1393 : (Jvm.Cond.code ({ cls := "GoodHalfEmptyModel", name := "again", desc := "()I" } : Jvm.MethodName) prog_28_method_42_code (4 : Nat) (Option.some Jvm.ClassFile.FieldType.int)) ∈ lw_all := lw_g (lw_at lw_m6 118 rfl) rfl
theorem q1395 : (Jvm.Cond.instanceMethod ({ cls := "GoodHalfEmptyModel", name := "gains", desc := "(II)I" } : Jvm.MethodName)) ∈ lw_all := lw_g (lw_at lw_m6 120 rfl) rfl
theorem q1396 : (Jvm.Cond.selects "GoodHalfEmptyModel" ({ cls := "GoodHalfEmptyModel", name := "gains", desc := "(II)I" } : Jvm.MethodName) ({ cls := "GoodHalfEmptyModel", name := "gains", desc := "(II)I" } : Jvm.MethodName)) ∈ lw_all := lw_g (lw_at lw_m6 121 rfl) rfl
theorem q1397 : (Jvm.Cond.code ({ cls := "GoodHalfEmptyModel", name := "gains", desc := "(II)I" } : Jvm.MethodName) prog_28_method_43_code (3 : Nat) (Option.some Jvm.ClassFile.FieldType.int)) ∈ lw_all := lw_g (lw_at lw_m6 122 rfl) rfl
theorem q1399 : (Jvm.Cond.instanceMethod ({ cls := "GoodHalfEmptyModel", name := "rests", desc := "()I" } : Jvm.MethodName)) ∈ lw_all := lw_g (lw_at lw_m6 124 rfl) rfl
theorem q1400 : (Jvm.Cond.selects "GoodHalfEmptyModel" ({ cls := "GoodHalfEmptyModel", name := "rests", desc := "()I" } : Jvm.MethodName) ({ cls := "GoodHalfEmptyModel", name := "rests", desc := "()I" } : Jvm.MethodName)) ∈ lw_all := lw_g (lw_at lw_m6 125 rfl) rfl
theorem q1401 : (Jvm.Cond.code ({ cls := "GoodHalfEmptyModel", name := "rests", desc := "()I" } : Jvm.MethodName) prog_28_method_48_code (1 : Nat) (Option.some Jvm.ClassFile.FieldType.int)) ∈ lw_all := lw_g (lw_at lw_m6 126 rfl) rfl
theorem q1402 : (Jvm.Cond.methodLink "GoodHalfEmptyModel" (192 : Nat) ({ cls := "GoodHalfEmptyModel", name := "goThrough", desc := "()V" } : Jvm.MethodName)) ∈ lw_all := lw_g (lw_at lw_m6 127 rfl) rfl
theorem q1403 : (Jvm.Cond.privateMethod ({ cls := "GoodHalfEmptyModel", name := "goThrough", desc := "()V" } : Jvm.MethodName)) ∈ lw_tbl := lw_at lw_m6 128 rfl
theorem q1404 : (Jvm.Cond.instanceMethod ({ cls := "GoodHalfEmptyModel", name := "goThrough", desc := "()V" } : Jvm.MethodName)) ∈ lw_all := lw_g (lw_at lw_m6 129 rfl) rfl
theorem q1405 : (Jvm.Cond.code ({ cls := "GoodHalfEmptyModel", name := "goThrough", desc := "()V" } : Jvm.MethodName) prog_28_method_47_code (4 : Nat) (Option.none : Option Jvm.ClassFile.FieldType)) ∈ lw_all := lw_g (lw_at lw_m6 130 rfl) rfl
theorem q1406 : (Jvm.Cond.methodLink "GoodHalfEmptyModel" (170 : Nat) ({ cls := "GoodHalfEmptyModel", name := "begin", desc := "()V" } : Jvm.MethodName)) ∈ lw_all := lw_g (lw_at lw_m6 131 rfl) rfl
theorem q1407 : (Jvm.Cond.privateMethod ({ cls := "GoodHalfEmptyModel", name := "begin", desc := "()V" } : Jvm.MethodName)) ∈ lw_tbl := lw_at lw_m6 132 rfl
theorem q1408 : (Jvm.Cond.instanceMethod ({ cls := "GoodHalfEmptyModel", name := "begin", desc := "()V" } : Jvm.MethodName)) ∈ lw_all := lw_g (lw_at lw_m6 133 rfl) rfl
theorem q1409 : (Jvm.Cond.code ({ cls := "GoodHalfEmptyModel", name := "begin", desc := "()V" } : Jvm.MethodName) prog_28_method_44_code (2 : Nat) (Option.none : Option Jvm.ClassFile.FieldType)) ∈ lw_all := lw_g (lw_at lw_m6 134 rfl) rfl
theorem q1410 : (Jvm.Cond.methodLink "GoodHalfEmptyModel" (179 : Nat) ({ cls := "GoodHalfEmptyModel", name := "isAtRest", desc := "(I)Z" } : Jvm.MethodName)) ∈ lw_all := lw_g (lw_at lw_m6 135 rfl) rfl
theorem q1411 : (Jvm.Cond.privateMethod ({ cls := "GoodHalfEmptyModel", name := "isAtRest", desc := "(I)Z" } : Jvm.MethodName)) ∈ lw_tbl := lw_at lw_m6 136 rfl
theorem q1412 : (Jvm.Cond.instanceMethod ({ cls := "GoodHalfEmptyModel", name := "isAtRest", desc := "(I)Z" } : Jvm.MethodName)) ∈ lw_all := lw_g (lw_at lw_m6 137 rfl) rfl
theorem q1413 : (Jvm.Cond.code ({ cls := "GoodHalfEmptyModel", name := "isAtRest", desc := "(I)Z" } : Jvm.MethodName) prog_28_method_46_code (4 : Nat) (Option.some Jvm.ClassFile.FieldType.boolean)) ∈ lw_all := lw_g (lw_at lw_m6 138 rfl) rfl
theorem q1414 : (Jvm.Cond.methodLink "GoodHalfEmptyModel" (188 : Nat) ({ cls := "GoodHalfEmptyModel", name := "isNextPlan", desc := "()Z" } : Jvm.MethodName)) ∈ lw_all := lw_g (lw_at lw_m6 139 rfl) rfl
theorem q1415 : (Jvm.Cond.privateMethod ({ cls := "GoodHalfEmptyModel", name := "isNextPlan", desc := "()Z" } : Jvm.MethodName)) ∈ lw_tbl := lw_at lw_m6 140 rfl
theorem q1416 : (Jvm.Cond.instanceMethod ({ cls := "GoodHalfEmptyModel", name := "isNextPlan", desc := "()Z" } : Jvm.MethodName)) ∈ lw_all := lw_g (lw_at lw_m6 141 rfl) rfl
theorem q1417 : (Jvm.Cond.code ({ cls := "GoodHalfEmptyModel", name := "isNextPlan", desc := "()Z" } : Jvm.MethodName) prog_28_method_45_code (2 : Nat) (Option.some Jvm.ClassFile.FieldType.boolean)) ∈ lw_all := lw_g (lw_at lw_m6 142 rfl) rfl
theorem q1419 : (Jvm.Cond.instanceMethod ({ cls := "GoodHalfEmptyModel", name := "rest", desc := "(I)I" } : Jvm.MethodName)) ∈ lw_all := lw_g (lw_at lw_m6 144 rfl) rfl
theorem q1420 : (Jvm.Cond.selects "GoodHalfEmptyModel" ({ cls := "GoodHalfEmptyModel", name := "rest", desc := "(I)I" } : Jvm.MethodName) ({ cls := "GoodHalfEmptyModel", name := "rest", desc := "(I)I" } : Jvm.MethodName)) ∈ lw_all := lw_g (lw_at lw_m6 145 rfl) rfl
theorem q1421 : (Jvm.Cond.code ({ cls := "GoodHalfEmptyModel", name := "rest", desc := "(I)I" } : Jvm.MethodName) prog_28_method_49_code (2 : Nat) (Option.some Jvm.ClassFile.FieldType.int)) ∈ lw_all := lw_g (lw_at lw_m6 146 rfl) rfl
theorem q1423 : (Jvm.Cond.instanceMethod ({ cls := "GoodHalfEmptyModel", name := "best", desc := "(I)I" } : Jvm.MethodName)) ∈ lw_all := lw_g (lw_at lw_m6 148 rfl) rfl
theorem q1424 : (Jvm.Cond.selects "GoodHalfEmptyModel" ({ cls := "GoodHalfEmptyModel", name := "best", desc := "(I)I" } : Jvm.MethodName) ({ cls := "GoodHalfEmptyModel", name := "best", desc := "(I)I" } : Jvm.MethodName)) ∈ lw_all := lw_g (lw_at lw_m6 149 rfl) rfl
theorem q1425 : (Jvm.Cond.code ({ cls := "GoodHalfEmptyModel", name := "best", desc := "(I)I" } : Jvm.MethodName) prog_28_method_50_code (2 : Nat) (Option.some Jvm.ClassFile.FieldType.int)) ∈ lw_all := lw_g (lw_at lw_m6 150 rfl) rfl
theorem q1427 : (Jvm.Cond.instanceMethod ({ cls := "GoodHalfEmptyModel", name := "off", desc := "()I" } : Jvm.MethodName)) ∈ lw_all := lw_g (lw_at lw_m6 152 rfl) rfl
theorem q1428 : (Jvm.Cond.selects "GoodHalfEmptyModel" ({ cls := "GoodHalfEmptyModel", name := "off", desc := "()I" } : Jvm.MethodName) ({ cls := "GoodHalfEmptyModel", name := "off", desc := "()I" } : Jvm.MethodName)) ∈ lw_all := lw_g (lw_at lw_m6 153 rfl) rfl
theorem q1429 : (Jvm.Cond.code ({ cls := "GoodHalfEmptyModel", name := "off", desc := "()I" } : Jvm.MethodName) prog_28_method_51_code (1 : Nat) (Option.some Jvm.ClassFile.FieldType.int)) ∈ lw_all := lw_g (lw_at lw_m6 154 rfl) rfl
theorem q1431 : (Jvm.Cond.instanceMethod ({ cls := "GoodHalfEmptyModel", name := "pennies", desc := "()I" } : Jvm.MethodName)) ∈ lw_all := lw_g (lw_at lw_m6 156 rfl) rfl
theorem q1432 : (Jvm.Cond.selects "GoodHalfEmptyModel" ({ cls := "GoodHalfEmptyModel", name := "pennies", desc := "()I" } : Jvm.MethodName) ({ cls := "GoodHalfEmptyModel", name := "pennies", desc := "()I" } : Jvm.MethodName)) ∈ lw_all := lw_g (lw_at lw_m6 157 rfl) rfl
theorem q1433 : (Jvm.Cond.code ({ cls := "GoodHalfEmptyModel", name := "pennies", desc := "()I" } : Jvm.MethodName) prog_28_method_52_code (5 : Nat) (Option.some Jvm.ClassFile.FieldType.int)) ∈ lw_all := lw_g (lw_at lw_m6 158 rfl) rfl
theorem q1435 : (Jvm.Cond.instanceMethod ({ cls := "GoodHalfEmptyModel", name := "chairs", desc := "()I" } : Jvm.MethodName)) ∈ lw_all := lw_g (lw_at lw_m6 160 rfl) rfl
theorem q1436 : (Jvm.Cond.selects "GoodHalfEmptyModel" ({ cls := "GoodHalfEmptyModel", name := "chairs", desc := "()I" } : Jvm.MethodName) ({ cls := "GoodHalfEmptyModel", name := "chairs", desc := "()I" } : Jvm.MethodName)) ∈ lw_all := lw_g (lw_at lw_m6 161 rfl) rfl
theorem q1437 : (Jvm.Cond.code ({ cls := "GoodHalfEmptyModel", name := "chairs", desc := "()I" } : Jvm.MethodName) prog_28_method_53_code (5 : Nat) (Option.some Jvm.ClassFile.FieldType.int)) ∈ lw_all := lw_g (lw_at lw_m6 162 rfl) rfl
theorem q1439 : (Jvm.Cond.instanceMethod ({ cls := "GoodHalfEmptyModel", name := "sees", desc := "(IIII)I" } : Jvm.MethodName)) ∈ lw_all := lw_g (lw_at lw_m6 164 rfl) rfl
theorem q1440 : (Jvm.Cond.selects "GoodHalfEmptyModel" ({ cls := "GoodHalfEmptyModel", name := "sees", desc := "(IIII)I" } : Jvm.MethodName) ({ cls := "GoodHalfEmptyModel", name := "sees", desc := "(IIII)I" } : Jvm.MethodName)) ∈ lw_all := lw_g (lw_at lw_m6 165 rfl) rfl
theorem q1441 : (Jvm.Cond.code ({ cls := "GoodHalfEmptyModel", name := "sees", desc := "(IIII)I" } : Jvm.MethodName) prog_28_method_54_code (7 : Nat) (Option.some Jvm.ClassFile.FieldType.int)) ∈ lw_all := lw_g (lw_at lw_m6 166 rfl) rfl
theorem q1443 : (Jvm.Cond.instanceMethod ({ cls := "GoodHalfEmptyModel", name := "which", desc := "(I)I" } : Jvm.MethodName)) ∈ lw_all := lw_g (lw_at lw_m6 168 rfl) rfl
theorem q1444 : (Jvm.Cond.selects "GoodHalfEmptyModel" ({ cls := "GoodHalfEmptyModel", name := "which", desc := "(I)I" } : Jvm.MethodName) ({ cls := "GoodHalfEmptyModel", name := "which", desc := "(I)I" } : Jvm.MethodName)) ∈ lw_all := lw_g (lw_at lw_m6 169 rfl) rfl
theorem q1445 : (Jvm.Cond.code ({ cls := "GoodHalfEmptyModel", name := "which", desc := "(I)I" } : Jvm.MethodName) prog_28_method_55_code (9 : Nat) (Option.some Jvm.ClassFile.FieldType.int)) ∈ lw_all := lw_g (lw_at lw_m6 170 rfl) rfl
theorem q1447 : (Jvm.Cond.instanceMethod ({ cls := "GoodHalfEmptyModel", name := "longer", desc := "(I)I" } : Jvm.MethodName)) ∈ lw_all := lw_g (lw_at lw_m6 172 rfl) rfl
theorem q1448 : (Jvm.Cond.selects "GoodHalfEmptyModel" ({ cls := "GoodHalfEmptyModel", name := "longer", desc := "(I)I" } : Jvm.MethodName) ({ cls := "GoodHalfEmptyModel", name := "longer", desc := "(I)I" } : Jvm.MethodName)) ∈ lw_all := lw_g (lw_at lw_m6 173 rfl) rfl
theorem q1449 : (Jvm.Cond.code ({ cls := "GoodHalfEmptyModel", name := "longer", desc := "(I)I" } : Jvm.MethodName) prog_28_method_56_code (3 : Nat) (Option.some Jvm.ClassFile.FieldType.int)) ∈ lw_all := lw_g (lw_at lw_m6 174 rfl) rfl
theorem q1451 : (Jvm.Cond.instanceMethod ({ cls := "GoodHalfEmptyModel", name := "seeds", desc := "(II)I" } : Jvm.MethodName)) ∈ lw_all := lw_g (lw_at lw_m6 176 rfl) rfl
theorem q1452 : (Jvm.Cond.selects "GoodHalfEmptyModel" ({ cls := "GoodHalfEmptyModel", name := "seeds", desc := "(II)I" } : Jvm.MethodName) ({ cls := "GoodHalfEmptyModel", name := "seeds", desc := "(II)I" } : Jvm.MethodName)) ∈ lw_all := lw_g (lw_at lw_m6 177 rfl) rfl
theorem q1453 : (Jvm.Cond.code ({ cls := "GoodHalfEmptyModel", name := "seeds", desc := "(II)I" } : Jvm.MethodName) prog_28_method_57_code (7 : Nat) (Option.some Jvm.ClassFile.FieldType.int)) ∈ lw_all := lw_g (lw_at lw_m6 178 rfl) rfl
theorem q1454 : (Jvm.Cond.constant "GoodHalfEmptyModel" (195 : Nat) (1664525 : Int32)) ∈ lw_all := lw_g (lw_at lw_m6 179 rfl) rfl
theorem q1455 : (Jvm.Cond.constant "GoodHalfEmptyModel" (196 : Nat) (1013904223 : Int32)) ∈ lw_all := lw_g (lw_at lw_m6 180 rfl) rfl
theorem q1456 : (Jvm.Cond.constant "GoodHalfEmptyModel" (197 : Nat) (2147483647 : Int32)) ∈ lw_all := lw_g (lw_at lw_m6 181 rfl) rfl
theorem q1458 : (Jvm.Cond.instanceMethod ({ cls := "GoodHalfEmptyModel", name := "row", desc := "(I)I" } : Jvm.MethodName)) ∈ lw_all := lw_g (lw_at lw_m6 183 rfl) rfl
theorem q1459 : (Jvm.Cond.selects "GoodHalfEmptyModel" ({ cls := "GoodHalfEmptyModel", name := "row", desc := "(I)I" } : Jvm.MethodName) ({ cls := "GoodHalfEmptyModel", name := "row", desc := "(I)I" } : Jvm.MethodName)) ∈ lw_all := lw_g (lw_at lw_m6 184 rfl) rfl
theorem q1460 : (Jvm.Cond.code ({ cls := "GoodHalfEmptyModel", name := "row", desc := "(I)I" } : Jvm.MethodName) prog_28_method_58_code (2 : Nat) (Option.some Jvm.ClassFile.FieldType.int)) ∈ lw_all := lw_g (lw_at lw_m6 185 rfl) rfl
theorem q1462 : (Jvm.Cond.instanceMethod ({ cls := "GoodHalfEmptyModel", name := "judge", desc := "()I" } : Jvm.MethodName)) ∈ lw_all := lw_g (lw_at lw_m6 187 rfl) rfl
theorem q1463 : (Jvm.Cond.selects "GoodHalfEmptyModel" ({ cls := "GoodHalfEmptyModel", name := "judge", desc := "()I" } : Jvm.MethodName) ({ cls := "GoodHalfEmptyModel", name := "judge", desc := "()I" } : Jvm.MethodName)) ∈ lw_all := lw_g (lw_at lw_m6 188 rfl) rfl
theorem q1464 : (Jvm.Cond.code ({ cls := "GoodHalfEmptyModel", name := "judge", desc := "()I" } : Jvm.MethodName) prog_28_method_59_code (3 : Nat) (Option.some Jvm.ClassFile.FieldType.int)) ∈ lw_all := lw_g (lw_at lw_m6 189 rfl) rfl
theorem q1466 : (Jvm.Cond.instanceMethod ({ cls := "GoodHalfEmptyModel", name := "count", desc := "(I)I" } : Jvm.MethodName)) ∈ lw_all := lw_g (lw_at lw_m6 191 rfl) rfl
theorem q1467 : (Jvm.Cond.selects "GoodHalfEmptyModel" ({ cls := "GoodHalfEmptyModel", name := "count", desc := "(I)I" } : Jvm.MethodName) ({ cls := "GoodHalfEmptyModel", name := "count", desc := "(I)I" } : Jvm.MethodName)) ∈ lw_all := lw_g (lw_at lw_m6 192 rfl) rfl
theorem q1468 : (Jvm.Cond.code ({ cls := "GoodHalfEmptyModel", name := "count", desc := "(I)I" } : Jvm.MethodName) prog_28_method_60_code (2 : Nat) (Option.some Jvm.ClassFile.FieldType.int)) ∈ lw_all := lw_g (lw_at lw_m6 193 rfl) rfl
theorem in_X16 : ∀ w ∈ wsX160, w ∈ lw_all := lw_in wsX160 [1188, 1190, 1192, 1194, 1196, 1198, 1200, 1202, 1204, 1206, 1208, 1210, 1212, 1214, 1216, 1218, 1220, 1222, 1224, 1226, 1228, 1230, 1232, 1234, 1236, 1238, 1240] (by decide +kernel) (by decide +kernel)

