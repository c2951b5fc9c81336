set_option maxRecDepth 100000
abbrev cX0_look : ByteArray := prog_1_method_9_code
def yX0_look : MethodName := ⟨RX0, "look", "(LGoodHalfEmpty$Town;I)V"⟩
def dkwX0_look_4 : List UInt8 := [3, 96, 181, 0, 153, 132, 3, 1, 167, 255, 164, 177]
abbrev dktX0_look_4 : List UInt8 := dkwX0_look_4 ++ []
def dkwX0_look_3 : List UInt8 := [184, 0, 168, 181, 0, 165, 42, 89, 180, 0, 153, 21, 4, 43, 180, 0, 171, 163, 0, 7, 4, 167, 0, 4]
abbrev dktX0_look_3 : List UInt8 := dkwX0_look_3 ++ dktX0_look_4
def dkwX0_look_2 : List UInt8 := [21, 4, 184, 0, 159, 181, 0, 156, 42, 29, 154, 0, 8, 21, 4, 167, 0, 12, 42, 180, 0, 165, 21, 4]
abbrev dktX0_look_2 : List UInt8 := dkwX0_look_2 ++ dktX0_look_3
def dkwX0_look_1 : List UInt8 := [89, 180, 0, 150, 21, 4, 96, 181, 0, 150, 42, 29, 154, 0, 8, 21, 4, 167, 0, 12, 42, 180, 0, 156]
abbrev dktX0_look_1 : List UInt8 := dkwX0_look_1 ++ dktX0_look_2
def dkwX0_look_0 : List UInt8 := [42, 3, 181, 0, 150, 42, 3, 181, 0, 153, 3, 62, 29, 28, 162, 0, 93, 43, 182, 0, 146, 54, 4, 42]
abbrev dktX0_look_0 : List UInt8 := dkwX0_look_0 ++ dktX0_look_1
theorem dksX0_look_0 : cX0_look.data.toList.drop 0 = dktX0_look_0 := by decide +kernel
theorem dksX0_look_1 : cX0_look.data.toList.drop 24 = dktX0_look_1 := dk_seg dksX0_look_0 24 rfl rfl
theorem dksX0_look_2 : cX0_look.data.toList.drop 48 = dktX0_look_2 := dk_seg dksX0_look_1 24 rfl rfl
theorem dksX0_look_3 : cX0_look.data.toList.drop 72 = dktX0_look_3 := dk_seg dksX0_look_2 24 rfl rfl
theorem dksX0_look_4 : cX0_look.data.toList.drop 96 = dktX0_look_4 := dk_seg dksX0_look_3 24 rfl rfl
theorem dX0_look_0 : decode cX0_look 0 = .ok (.aload_n 0, 1) := dk_42 (dk_at dksX0_look_0 0 rfl rfl)
theorem dX0_look_1 : decode cX0_look 1 = .ok (.iconst 0, 1) := dk_3 (dk_at dksX0_look_0 1 rfl rfl)
theorem dX0_look_2 : decode cX0_look 2 = .ok (.putfield 150, 3) := dk_181 0 150 (dk_at dksX0_look_0 2 rfl rfl)
theorem dX0_look_5 : decode cX0_look 5 = .ok (.aload_n 0, 1) := dk_42 (dk_at dksX0_look_0 5 rfl rfl)
theorem dX0_look_6 : decode cX0_look 6 = .ok (.iconst 0, 1) := dk_3 (dk_at dksX0_look_0 6 rfl rfl)
theorem dX0_look_7 : decode cX0_look 7 = .ok (.putfield 153, 3) := dk_181 0 153 (dk_at dksX0_look_0 7 rfl rfl)
theorem dX0_look_10 : decode cX0_look 10 = .ok (.iconst 0, 1) := dk_3 (dk_at dksX0_look_0 10 rfl rfl)
theorem dX0_look_11 : decode cX0_look 11 = .ok (.istore_n 3, 1) := dk_62 (dk_at dksX0_look_0 11 rfl rfl)
theorem dX0_look_12 : decode cX0_look 12 = .ok (.iload_n 3, 1) := dk_29 (dk_at dksX0_look_0 12 rfl rfl)
theorem dX0_look_13 : decode cX0_look 13 = .ok (.iload_n 2, 1) := dk_28 (dk_at dksX0_look_0 13 rfl rfl)
theorem dX0_look_14 : decode cX0_look 14 = .ok (.if_icmp .ge 93, 3) := dk_162 0 93 (dk_at dksX0_look_0 14 rfl rfl)
theorem dX0_look_17 : decode cX0_look 17 = .ok (.aload_n 1, 1) := dk_43 (dk_at dksX0_look_0 17 rfl rfl)
theorem dX0_look_18 : decode cX0_look 18 = .ok (.invokevirtual 146, 3) := dk_182 0 146 (dk_at dksX0_look_0 18 rfl rfl)
theorem dX0_look_21 : decode cX0_look 21 = .ok (.istore 4, 2) := dk_54 4 (dk_at dksX0_look_0 21 rfl rfl)
theorem dX0_look_23 : decode cX0_look 23 = .ok (.aload_n 0, 1) := dk_42 (dk_at dksX0_look_0 23 rfl rfl)
theorem dX0_look_24 : decode cX0_look 24 = .ok (.dup, 1) := dk_89 (dk_at dksX0_look_1 0 rfl rfl)
theorem dX0_look_25 : decode cX0_look 25 = .ok (.getfield 150, 3) := dk_180 0 150 (dk_at dksX0_look_1 1 rfl rfl)
theorem dX0_look_28 : decode cX0_look 28 = .ok (.iload 4, 2) := dk_21 4 (dk_at dksX0_look_1 4 rfl rfl)
theorem dX0_look_30 : decode cX0_look 30 = .ok (.iadd, 1) := dk_96 (dk_at dksX0_look_1 6 rfl rfl)
theorem dX0_look_31 : decode cX0_look 31 = .ok (.putfield 150, 3) := dk_181 0 150 (dk_at dksX0_look_1 7 rfl rfl)
theorem dX0_look_34 : decode cX0_look 34 = .ok (.aload_n 0, 1) := dk_42 (dk_at dksX0_look_1 10 rfl rfl)
theorem dX0_look_35 : decode cX0_look 35 = .ok (.iload_n 3, 1) := dk_29 (dk_at dksX0_look_1 11 rfl rfl)
theorem dX0_look_36 : decode cX0_look 36 = .ok (.ifCond .ne 8, 3) := dk_154 0 8 (dk_at dksX0_look_1 12 rfl rfl)
theorem dX0_look_39 : decode cX0_look 39 = .ok (.iload 4, 2) := dk_21 4 (dk_at dksX0_look_1 15 rfl rfl)
theorem dX0_look_41 : decode cX0_look 41 = .ok (.goto 12, 3) := dk_167 0 12 (dk_at dksX0_look_1 17 rfl rfl)
theorem dX0_look_44 : decode cX0_look 44 = .ok (.aload_n 0, 1) := dk_42 (dk_at dksX0_look_1 20 rfl rfl)
theorem dX0_look_45 : decode cX0_look 45 = .ok (.getfield 156, 3) := dk_180 0 156 (dk_at dksX0_look_1 21 rfl rfl)
theorem dX0_look_48 : decode cX0_look 48 = .ok (.iload 4, 2) := dk_21 4 (dk_at dksX0_look_2 0 rfl rfl)
theorem dX0_look_50 : decode cX0_look 50 = .ok (.invokestatic 159, 3) := dk_184 0 159 (dk_at dksX0_look_2 2 rfl rfl)
theorem dX0_look_53 : decode cX0_look 53 = .ok (.putfield 156, 3) := dk_181 0 156 (dk_at dksX0_look_2 5 rfl rfl)
theorem dX0_look_56 : decode cX0_look 56 = .ok (.aload_n 0, 1) := dk_42 (dk_at dksX0_look_2 8 rfl rfl)
theorem dX0_look_57 : decode cX0_look 57 = .ok (.iload_n 3, 1) := dk_29 (dk_at dksX0_look_2 9 rfl rfl)
theorem dX0_look_58 : decode cX0_look 58 = .ok (.ifCond .ne 8, 3) := dk_154 0 8 (dk_at dksX0_look_2 10 rfl rfl)
theorem dX0_look_61 : decode cX0_look 61 = .ok (.iload 4, 2) := dk_21 4 (dk_at dksX0_look_2 13 rfl rfl)
theorem dX0_look_63 : decode cX0_look 63 = .ok (.goto 12, 3) := dk_167 0 12 (dk_at dksX0_look_2 15 rfl rfl)
theorem dX0_look_66 : decode cX0_look 66 = .ok (.aload_n 0, 1) := dk_42 (dk_at dksX0_look_2 18 rfl rfl)
theorem dX0_look_67 : decode cX0_look 67 = .ok (.getfield 165, 3) := dk_180 0 165 (dk_at dksX0_look_2 19 rfl rfl)
theorem dX0_look_70 : decode cX0_look 70 = .ok (.iload 4, 2) := dk_21 4 (dk_at dksX0_look_2 22 rfl rfl)
theorem dX0_look_72 : decode cX0_look 72 = .ok (.invokestatic 168, 3) := dk_184 0 168 (dk_at dksX0_look_3 0 rfl rfl)
theorem dX0_look_75 : decode cX0_look 75 = .ok (.putfield 165, 3) := dk_181 0 165 (dk_at dksX0_look_3 3 rfl rfl)
theorem dX0_look_78 : decode cX0_look 78 = .ok (.aload_n 0, 1) := dk_42 (dk_at dksX0_look_3 6 rfl rfl)
theorem dX0_look_79 : decode cX0_look 79 = .ok (.dup, 1) := dk_89 (dk_at dksX0_look_3 7 rfl rfl)
theorem dX0_look_80 : decode cX0_look 80 = .ok (.getfield 153, 3) := dk_180 0 153 (dk_at dksX0_look_3 8 rfl rfl)
theorem dX0_look_83 : decode cX0_look 83 = .ok (.iload 4, 2) := dk_21 4 (dk_at dksX0_look_3 11 rfl rfl)
theorem dX0_look_85 : decode cX0_look 85 = .ok (.aload_n 1, 1) := dk_43 (dk_at dksX0_look_3 13 rfl rfl)
theorem dX0_look_86 : decode cX0_look 86 = .ok (.getfield 171, 3) := dk_180 0 171 (dk_at dksX0_look_3 14 rfl rfl)
theorem dX0_look_89 : decode cX0_look 89 = .ok (.if_icmp .gt 7, 3) := dk_163 0 7 (dk_at dksX0_look_3 17 rfl rfl)
theorem dX0_look_92 : decode cX0_look 92 = .ok (.iconst 1, 1) := dk_4 (dk_at dksX0_look_3 20 rfl rfl)
theorem dX0_look_93 : decode cX0_look 93 = .ok (.goto 4, 3) := dk_167 0 4 (dk_at dksX0_look_3 21 rfl rfl)
theorem dX0_look_96 : decode cX0_look 96 = .ok (.iconst 0, 1) := dk_3 (dk_at dksX0_look_4 0 rfl rfl)
theorem dX0_look_97 : decode cX0_look 97 = .ok (.iadd, 1) := dk_96 (dk_at dksX0_look_4 1 rfl rfl)
theorem dX0_look_98 : decode cX0_look 98 = .ok (.putfield 153, 3) := dk_181 0 153 (dk_at dksX0_look_4 2 rfl rfl)
theorem dX0_look_101 : decode cX0_look 101 = .ok (.iinc 3 1, 3) := dk_132 3 1 (dk_at dksX0_look_4 5 rfl rfl)
theorem dX0_look_104 : decode cX0_look 104 = .ok (.goto (-92), 3) := dk_167 255 164 (dk_at dksX0_look_4 8 rfl rfl)
theorem dX0_look_107 : decode cX0_look 107 = .ok (.return_, 1) := dk_177 (dk_at dksX0_look_4 11 rfl rfl)
abbrev cX0_ofRest : ByteArray := prog_1_method_43_code
def yX0_ofRest : MethodName := ⟨RX0, "ofRest", "(III)I"⟩
def dkwX0_ofRest_8 : List UInt8 := [42, 180, 0, 73, 180, 1, 168, 172, 42, 27, 28, 182, 1, 170, 172]
abbrev dktX0_ofRest_8 : List UInt8 := dkwX0_ofRest_8 ++ []
def dkwX0_ofRest_7 : List UInt8 := [180, 1, 168, 172, 42, 180, 1, 164, 16, 253, 184, 0, 9, 42, 180, 0, 73, 42, 180, 0, 80, 182, 0, 128]
abbrev dktX0_ofRest_7 : List UInt8 := dkwX0_ofRest_7 ++ dktX0_ofRest_8
def dkwX0_ofRest_6 : List UInt8 := [182, 1, 161, 172, 42, 4, 181, 1, 164, 42, 180, 0, 80, 42, 180, 0, 73, 182, 0, 128, 42, 180, 0, 73]
abbrev dktX0_ofRest_6 : List UInt8 := dkwX0_ofRest_6 ++ dktX0_ofRest_7
def dkwX0_ofRest_5 : List UInt8 := [180, 1, 18, 28, 145, 84, 42, 89, 180, 1, 18, 4, 96, 181, 1, 18, 42, 180, 1, 18, 172, 42]
abbrev dktX0_ofRest_5 : List UInt8 := dkwX0_ofRest_5 ++ dktX0_ofRest_6
def dkwX0_ofRest_4 : List UInt8 := [180, 1, 18, 16, 12, 162, 0, 7, 4, 167, 0, 4, 3, 16, 250, 184, 0, 9, 42, 180, 0, 83, 42]
abbrev dktX0_ofRest_4 : List UInt8 := dkwX0_ofRest_4 ++ dktX0_ofRest_5
def dkwX0_ofRest_3 : List UInt8 := [20, 1, 154, 184, 1, 49, 42, 28, 29, 182, 1, 156, 172, 28, 133, 9, 20, 1, 159, 184, 1, 49, 42]
abbrev dktX0_ofRest_3 : List UInt8 := dkwX0_ofRest_3 ++ dktX0_ofRest_4
def dkwX0_ofRest_2 : List UInt8 := [28, 184, 1, 120, 42, 28, 182, 1, 148, 172, 28, 184, 1, 120, 42, 28, 182, 1, 151, 172, 28, 133, 10]
abbrev dktX0_ofRest_2 : List UInt8 := dkwX0_ofRest_2 ++ dktX0_ofRest_3
def dkwX0_ofRest_1 : List UInt8 := [170, 0, 0, 0, 0, 0, 190, 0, 0, 0, 22, 0, 0, 0, 28, 0, 0, 0, 43, 0, 0, 0, 53, 0, 0, 0, 63, 0, 0, 0, 79, 0, 0, 0, 133, 0, 0, 0, 138, 0, 0, 0, 162]
abbrev dktX0_ofRest_1 : List UInt8 := dkwX0_ofRest_1 ++ dktX0_ofRest_2
def dkwX0_ofRest_0 : List UInt8 := [27]
abbrev dktX0_ofRest_0 : List UInt8 := dkwX0_ofRest_0 ++ dktX0_ofRest_1
theorem dksX0_ofRest_0 : cX0_ofRest.data.toList.drop 0 = dktX0_ofRest_0 := by decide +kernel
theorem dksX0_ofRest_1 : cX0_ofRest.data.toList.drop 1 = dktX0_ofRest_1 := dk_seg dksX0_ofRest_0 1 rfl rfl
theorem dksX0_ofRest_2 : cX0_ofRest.data.toList.drop 44 = dktX0_ofRest_2 := dk_seg dksX0_ofRest_1 43 rfl rfl
theorem dksX0_ofRest_3 : cX0_ofRest.data.toList.drop 67 = dktX0_ofRest_3 := dk_seg dksX0_ofRest_2 23 rfl rfl
theorem dksX0_ofRest_4 : cX0_ofRest.data.toList.drop 90 = dktX0_ofRest_4 := dk_seg dksX0_ofRest_3 23 rfl rfl
theorem dksX0_ofRest_5 : cX0_ofRest.data.toList.drop 113 = dktX0_ofRest_5 := dk_seg dksX0_ofRest_4 23 rfl rfl
theorem dksX0_ofRest_6 : cX0_ofRest.data.toList.drop 135 = dktX0_ofRest_6 := dk_seg dksX0_ofRest_5 22 rfl rfl
theorem dksX0_ofRest_7 : cX0_ofRest.data.toList.drop 159 = dktX0_ofRest_7 := dk_seg dksX0_ofRest_6 24 rfl rfl
theorem dksX0_ofRest_8 : cX0_ofRest.data.toList.drop 183 = dktX0_ofRest_8 := dk_seg dksX0_ofRest_7 24 rfl rfl
theorem dX0_ofRest_0 : decode cX0_ofRest 0 = .ok (.iload_n 1, 1) := dk_27 (dk_at dksX0_ofRest_0 0 rfl rfl)
theorem dX0_ofRest_1 : decode cX0_ofRest 1 = .ok (.tableswitch 190 22 28 #[43, 53, 63, 79, 133, 138, 162], 43) := by decide +kernel
theorem dX0_ofRest_44 : decode cX0_ofRest 44 = .ok (.iload_n 2, 1) := dk_28 (dk_at dksX0_ofRest_2 0 rfl rfl)
theorem dX0_ofRest_45 : decode cX0_ofRest 45 = .ok (.invokestatic 376, 3) := dk_184 1 120 (dk_at dksX0_ofRest_2 1 rfl rfl)
theorem dX0_ofRest_48 : decode cX0_ofRest 48 = .ok (.aload_n 0, 1) := dk_42 (dk_at dksX0_ofRest_2 4 rfl rfl)
theorem dX0_ofRest_49 : decode cX0_ofRest 49 = .ok (.iload_n 2, 1) := dk_28 (dk_at dksX0_ofRest_2 5 rfl rfl)
theorem dX0_ofRest_50 : decode cX0_ofRest 50 = .ok (.invokevirtual 404, 3) := dk_182 1 148 (dk_at dksX0_ofRest_2 6 rfl rfl)
theorem dX0_ofRest_53 : decode cX0_ofRest 53 = .ok (.ireturn, 1) := dk_172 (dk_at dksX0_ofRest_2 9 rfl rfl)
theorem dX0_ofRest_54 : decode cX0_ofRest 54 = .ok (.iload_n 2, 1) := dk_28 (dk_at dksX0_ofRest_2 10 rfl rfl)
theorem dX0_ofRest_55 : decode cX0_ofRest 55 = .ok (.invokestatic 376, 3) := dk_184 1 120 (dk_at dksX0_ofRest_2 11 rfl rfl)
theorem dX0_ofRest_58 : decode cX0_ofRest 58 = .ok (.aload_n 0, 1) := dk_42 (dk_at dksX0_ofRest_2 14 rfl rfl)
theorem dX0_ofRest_59 : decode cX0_ofRest 59 = .ok (.iload_n 2, 1) := dk_28 (dk_at dksX0_ofRest_2 15 rfl rfl)
theorem dX0_ofRest_60 : decode cX0_ofRest 60 = .ok (.invokevirtual 407, 3) := dk_182 1 151 (dk_at dksX0_ofRest_2 16 rfl rfl)
theorem dX0_ofRest_63 : decode cX0_ofRest 63 = .ok (.ireturn, 1) := dk_172 (dk_at dksX0_ofRest_2 19 rfl rfl)
theorem dX0_ofRest_64 : decode cX0_ofRest 64 = .ok (.iload_n 2, 1) := dk_28 (dk_at dksX0_ofRest_2 20 rfl rfl)
theorem dX0_ofRest_65 : decode cX0_ofRest 65 = .ok (.i2l, 1) := dk_133 (dk_at dksX0_ofRest_2 21 rfl rfl)
theorem dX0_ofRest_66 : decode cX0_ofRest 66 = .ok (.lconst 1, 1) := dk_10 (dk_at dksX0_ofRest_2 22 rfl rfl)
theorem dX0_ofRest_67 : decode cX0_ofRest 67 = .ok (.ldc2_w 410, 3) := dk_20 1 154 (dk_at dksX0_ofRest_3 0 rfl rfl)
theorem dX0_ofRest_70 : decode cX0_ofRest 70 = .ok (.invokestatic 305, 3) := dk_184 1 49 (dk_at dksX0_ofRest_3 3 rfl rfl)
theorem dX0_ofRest_73 : decode cX0_ofRest 73 = .ok (.aload_n 0, 1) := dk_42 (dk_at dksX0_ofRest_3 6 rfl rfl)
theorem dX0_ofRest_74 : decode cX0_ofRest 74 = .ok (.iload_n 2, 1) := dk_28 (dk_at dksX0_ofRest_3 7 rfl rfl)
theorem dX0_ofRest_75 : decode cX0_ofRest 75 = .ok (.iload_n 3, 1) := dk_29 (dk_at dksX0_ofRest_3 8 rfl rfl)
theorem dX0_ofRest_76 : decode cX0_ofRest 76 = .ok (.invokevirtual 412, 3) := dk_182 1 156 (dk_at dksX0_ofRest_3 9 rfl rfl)
theorem dX0_ofRest_79 : decode cX0_ofRest 79 = .ok (.ireturn, 1) := dk_172 (dk_at dksX0_ofRest_3 12 rfl rfl)
theorem dX0_ofRest_80 : decode cX0_ofRest 80 = .ok (.iload_n 2, 1) := dk_28 (dk_at dksX0_ofRest_3 13 rfl rfl)
theorem dX0_ofRest_81 : decode cX0_ofRest 81 = .ok (.i2l, 1) := dk_133 (dk_at dksX0_ofRest_3 14 rfl rfl)
theorem dX0_ofRest_82 : decode cX0_ofRest 82 = .ok (.lconst 0, 1) := dk_9 (dk_at dksX0_ofRest_3 15 rfl rfl)
theorem dX0_ofRest_83 : decode cX0_ofRest 83 = .ok (.ldc2_w 415, 3) := dk_20 1 159 (dk_at dksX0_ofRest_3 16 rfl rfl)
theorem dX0_ofRest_86 : decode cX0_ofRest 86 = .ok (.invokestatic 305, 3) := dk_184 1 49 (dk_at dksX0_ofRest_3 19 rfl rfl)
theorem dX0_ofRest_89 : decode cX0_ofRest 89 = .ok (.aload_n 0, 1) := dk_42 (dk_at dksX0_ofRest_3 22 rfl rfl)
theorem dX0_ofRest_90 : decode cX0_ofRest 90 = .ok (.getfield 274, 3) := dk_180 1 18 (dk_at dksX0_ofRest_4 0 rfl rfl)
theorem dX0_ofRest_93 : decode cX0_ofRest 93 = .ok (.bipush 12, 2) := dk_16 12 (dk_at dksX0_ofRest_4 3 rfl rfl)
theorem dX0_ofRest_95 : decode cX0_ofRest 95 = .ok (.if_icmp .ge 7, 3) := dk_162 0 7 (dk_at dksX0_ofRest_4 5 rfl rfl)
theorem dX0_ofRest_98 : decode cX0_ofRest 98 = .ok (.iconst 1, 1) := dk_4 (dk_at dksX0_ofRest_4 8 rfl rfl)
theorem dX0_ofRest_99 : decode cX0_ofRest 99 = .ok (.goto 4, 3) := dk_167 0 4 (dk_at dksX0_ofRest_4 9 rfl rfl)
theorem dX0_ofRest_102 : decode cX0_ofRest 102 = .ok (.iconst 0, 1) := dk_3 (dk_at dksX0_ofRest_4 12 rfl rfl)
theorem dX0_ofRest_103 : decode cX0_ofRest 103 = .ok (.bipush (-6), 2) := dk_16 250 (dk_at dksX0_ofRest_4 13 rfl rfl)
theorem dX0_ofRest_105 : decode cX0_ofRest 105 = .ok (.invokestatic 9, 3) := dk_184 0 9 (dk_at dksX0_ofRest_4 15 rfl rfl)
theorem dX0_ofRest_108 : decode cX0_ofRest 108 = .ok (.aload_n 0, 1) := dk_42 (dk_at dksX0_ofRest_4 18 rfl rfl)
theorem dX0_ofRest_109 : decode cX0_ofRest 109 = .ok (.getfield 83, 3) := dk_180 0 83 (dk_at dksX0_ofRest_4 19 rfl rfl)
theorem dX0_ofRest_112 : decode cX0_ofRest 112 = .ok (.aload_n 0, 1) := dk_42 (dk_at dksX0_ofRest_4 22 rfl rfl)
theorem dX0_ofRest_113 : decode cX0_ofRest 113 = .ok (.getfield 274, 3) := dk_180 1 18 (dk_at dksX0_ofRest_5 0 rfl rfl)
theorem dX0_ofRest_116 : decode cX0_ofRest 116 = .ok (.iload_n 2, 1) := dk_28 (dk_at dksX0_ofRest_5 3 rfl rfl)
theorem dX0_ofRest_117 : decode cX0_ofRest 117 = .ok (.i2b, 1) := dk_145 (dk_at dksX0_ofRest_5 4 rfl rfl)
theorem dX0_ofRest_118 : decode cX0_ofRest 118 = .ok (.bastore, 1) := dk_84 (dk_at dksX0_ofRest_5 5 rfl rfl)
theorem dX0_ofRest_119 : decode cX0_ofRest 119 = .ok (.aload_n 0, 1) := dk_42 (dk_at dksX0_ofRest_5 6 rfl rfl)
theorem dX0_ofRest_120 : decode cX0_ofRest 120 = .ok (.dup, 1) := dk_89 (dk_at dksX0_ofRest_5 7 rfl rfl)
theorem dX0_ofRest_121 : decode cX0_ofRest 121 = .ok (.getfield 274, 3) := dk_180 1 18 (dk_at dksX0_ofRest_5 8 rfl rfl)
theorem dX0_ofRest_124 : decode cX0_ofRest 124 = .ok (.iconst 1, 1) := dk_4 (dk_at dksX0_ofRest_5 11 rfl rfl)
theorem dX0_ofRest_125 : decode cX0_ofRest 125 = .ok (.iadd, 1) := dk_96 (dk_at dksX0_ofRest_5 12 rfl rfl)
theorem dX0_ofRest_126 : decode cX0_ofRest 126 = .ok (.putfield 274, 3) := dk_181 1 18 (dk_at dksX0_ofRest_5 13 rfl rfl)
theorem dX0_ofRest_129 : decode cX0_ofRest 129 = .ok (.aload_n 0, 1) := dk_42 (dk_at dksX0_ofRest_5 16 rfl rfl)
theorem dX0_ofRest_130 : decode cX0_ofRest 130 = .ok (.getfield 274, 3) := dk_180 1 18 (dk_at dksX0_ofRest_5 17 rfl rfl)
theorem dX0_ofRest_133 : decode cX0_ofRest 133 = .ok (.ireturn, 1) := dk_172 (dk_at dksX0_ofRest_5 20 rfl rfl)
theorem dX0_ofRest_134 : decode cX0_ofRest 134 = .ok (.aload_n 0, 1) := dk_42 (dk_at dksX0_ofRest_5 21 rfl rfl)
theorem dX0_ofRest_135 : decode cX0_ofRest 135 = .ok (.invokevirtual 417, 3) := dk_182 1 161 (dk_at dksX0_ofRest_6 0 rfl rfl)
theorem dX0_ofRest_138 : decode cX0_ofRest 138 = .ok (.ireturn, 1) := dk_172 (dk_at dksX0_ofRest_6 3 rfl rfl)
theorem dX0_ofRest_139 : decode cX0_ofRest 139 = .ok (.aload_n 0, 1) := dk_42 (dk_at dksX0_ofRest_6 4 rfl rfl)
theorem dX0_ofRest_140 : decode cX0_ofRest 140 = .ok (.iconst 1, 1) := dk_4 (dk_at dksX0_ofRest_6 5 rfl rfl)
theorem dX0_ofRest_141 : decode cX0_ofRest 141 = .ok (.putfield 420, 3) := dk_181 1 164 (dk_at dksX0_ofRest_6 6 rfl rfl)
theorem dX0_ofRest_144 : decode cX0_ofRest 144 = .ok (.aload_n 0, 1) := dk_42 (dk_at dksX0_ofRest_6 9 rfl rfl)
theorem dX0_ofRest_145 : decode cX0_ofRest 145 = .ok (.getfield 80, 3) := dk_180 0 80 (dk_at dksX0_ofRest_6 10 rfl rfl)
theorem dX0_ofRest_148 : decode cX0_ofRest 148 = .ok (.aload_n 0, 1) := dk_42 (dk_at dksX0_ofRest_6 13 rfl rfl)
theorem dX0_ofRest_149 : decode cX0_ofRest 149 = .ok (.getfield 73, 3) := dk_180 0 73 (dk_at dksX0_ofRest_6 14 rfl rfl)
theorem dX0_ofRest_152 : decode cX0_ofRest 152 = .ok (.invokevirtual 128, 3) := dk_182 0 128 (dk_at dksX0_ofRest_6 17 rfl rfl)
theorem dX0_ofRest_155 : decode cX0_ofRest 155 = .ok (.aload_n 0, 1) := dk_42 (dk_at dksX0_ofRest_6 20 rfl rfl)
theorem dX0_ofRest_156 : decode cX0_ofRest 156 = .ok (.getfield 73, 3) := dk_180 0 73 (dk_at dksX0_ofRest_6 21 rfl rfl)
theorem dX0_ofRest_159 : decode cX0_ofRest 159 = .ok (.getfield 424, 3) := dk_180 1 168 (dk_at dksX0_ofRest_7 0 rfl rfl)
theorem dX0_ofRest_162 : decode cX0_ofRest 162 = .ok (.ireturn, 1) := dk_172 (dk_at dksX0_ofRest_7 3 rfl rfl)
theorem dX0_ofRest_163 : decode cX0_ofRest 163 = .ok (.aload_n 0, 1) := dk_42 (dk_at dksX0_ofRest_7 4 rfl rfl)
theorem dX0_ofRest_164 : decode cX0_ofRest 164 = .ok (.getfield 420, 3) := dk_180 1 164 (dk_at dksX0_ofRest_7 5 rfl rfl)
theorem dX0_ofRest_167 : decode cX0_ofRest 167 = .ok (.bipush (-3), 2) := dk_16 253 (dk_at dksX0_ofRest_7 8 rfl rfl)
theorem dX0_ofRest_169 : decode cX0_ofRest 169 = .ok (.invokestatic 9, 3) := dk_184 0 9 (dk_at dksX0_ofRest_7 10 rfl rfl)
theorem dX0_ofRest_172 : decode cX0_ofRest 172 = .ok (.aload_n 0, 1) := dk_42 (dk_at dksX0_ofRest_7 13 rfl rfl)
theorem dX0_ofRest_173 : decode cX0_ofRest 173 = .ok (.getfield 73, 3) := dk_180 0 73 (dk_at dksX0_ofRest_7 14 rfl rfl)
theorem dX0_ofRest_176 : decode cX0_ofRest 176 = .ok (.aload_n 0, 1) := dk_42 (dk_at dksX0_ofRest_7 17 rfl rfl)
theorem dX0_ofRest_177 : decode cX0_ofRest 177 = .ok (.getfield 80, 3) := dk_180 0 80 (dk_at dksX0_ofRest_7 18 rfl rfl)
theorem dX0_ofRest_180 : decode cX0_ofRest 180 = .ok (.invokevirtual 128, 3) := dk_182 0 128 (dk_at dksX0_ofRest_7 21 rfl rfl)
theorem dX0_ofRest_183 : decode cX0_ofRest 183 = .ok (.aload_n 0, 1) := dk_42 (dk_at dksX0_ofRest_8 0 rfl rfl)
theorem dX0_ofRest_184 : decode cX0_ofRest 184 = .ok (.getfield 73, 3) := dk_180 0 73 (dk_at dksX0_ofRest_8 1 rfl rfl)
theorem dX0_ofRest_187 : decode cX0_ofRest 187 = .ok (.getfield 424, 3) := dk_180 1 168 (dk_at dksX0_ofRest_8 4 rfl rfl)
theorem dX0_ofRest_190 : decode cX0_ofRest 190 = .ok (.ireturn, 1) := dk_172 (dk_at dksX0_ofRest_8 7 rfl rfl)
theorem dX0_ofRest_191 : decode cX0_ofRest 191 = .ok (.aload_n 0, 1) := dk_42 (dk_at dksX0_ofRest_8 8 rfl rfl)
theorem dX0_ofRest_192 : decode cX0_ofRest 192 = .ok (.iload_n 1, 1) := dk_27 (dk_at dksX0_ofRest_8 9 rfl rfl)
theorem dX0_ofRest_193 : decode cX0_ofRest 193 = .ok (.iload_n 2, 1) := dk_28 (dk_at dksX0_ofRest_8 10 rfl rfl)
theorem dX0_ofRest_194 : decode cX0_ofRest 194 = .ok (.invokevirtual 426, 3) := dk_182 1 170 (dk_at dksX0_ofRest_8 11 rfl rfl)
theorem dX0_ofRest_197 : decode cX0_ofRest 197 = .ok (.ireturn, 1) := dk_172 (dk_at dksX0_ofRest_8 14 rfl rfl)
abbrev cX0_mostRight : ByteArray := prog_1_method_21_code
def yX0_mostRight : MethodName := ⟨RX0, "mostRight", "(I)I"⟩
def dkwX0_mostRight_9 : List UInt8 := [132, 4, 1, 167, 255, 220, 16, 10, 29, 16, 6, 108, 104, 29, 16, 6, 112, 96, 4, 96, 172]
abbrev dktX0_mostRight_9 : List UInt8 := dkwX0_mostRight_9 ++ []
def dkwX0_mostRight_8 : List UInt8 := [42, 180, 0, 104, 21, 4, 46, 42, 180, 0, 104, 29, 46, 164, 0, 8, 21, 4, 167, 0, 4, 29, 62]
abbrev dktX0_mostRight_8 : List UInt8 := dkwX0_mostRight_8 ++ dktX0_mostRight_9
def dkwX0_mostRight_7 : List UInt8 := [167, 255, 214, 132, 3, 1, 167, 255, 116, 3, 62, 4, 54, 4, 21, 4, 42, 180, 0, 104, 190, 162, 0, 32]
abbrev dktX0_mostRight_7 : List UInt8 := dkwX0_mostRight_7 ++ dktX0_mostRight_8
def dkwX0_mostRight_6 : List UInt8 := [21, 7, 123, 10, 127, 21, 4, 133, 148, 154, 0, 7, 4, 167, 0, 4, 3, 96, 79, 132, 7, 1]
abbrev dktX0_mostRight_6 : List UInt8 := dkwX0_mostRight_6 ++ dktX0_mostRight_7
def dkwX0_mostRight_5 : List UInt8 := [3, 54, 7, 21, 7, 42, 180, 0, 104, 190, 162, 0, 38, 42, 180, 0, 104, 21, 7, 92, 46, 22, 5]
abbrev dktX0_mostRight_5 : List UInt8 := dkwX0_mostRight_5 ++ dktX0_mostRight_6
def dkwX0_mostRight_4 : List UInt8 := [132, 7, 1, 167, 255, 202, 44, 182, 0, 146, 44, 180, 0, 171, 163, 0, 7, 4, 167, 0, 4, 3, 54, 4]
abbrev dktX0_mostRight_4 : List UInt8 := dkwX0_mostRight_4 ++ dktX0_mostRight_5
def dkwX0_mostRight_3 : List UInt8 := [112, 4, 96, 182, 0, 249, 44, 180, 0, 171, 163, 0, 10, 10, 21, 7, 121, 167, 0, 4, 9, 129, 55, 5]
abbrev dktX0_mostRight_3 : List UInt8 := dkwX0_mostRight_3 ++ dktX0_mostRight_4
def dkwX0_mostRight_2 : List UInt8 := [180, 0, 104, 190, 162, 0, 50, 22, 5, 42, 180, 0, 42, 21, 7, 16, 6, 108, 50, 44, 21, 7, 16, 6]
abbrev dktX0_mostRight_2 : List UInt8 := dkwX0_mostRight_2 ++ dktX0_mostRight_3
def dkwX0_mostRight_1 : List UInt8 := [42, 182, 0, 142, 77, 3, 62, 29, 27, 162, 0, 141, 3, 54, 4, 9, 55, 5, 3, 54, 7, 21, 7, 42]
abbrev dktX0_mostRight_1 : List UInt8 := dkwX0_mostRight_1 ++ dktX0_mostRight_2
def dkwX0_mostRight_0 : List UInt8 := [3, 61, 28, 42, 180, 0, 104, 190, 162, 0, 16, 42, 180, 0, 104, 28, 3, 79, 132, 2, 1, 167, 255, 237]
abbrev dktX0_mostRight_0 : List UInt8 := dkwX0_mostRight_0 ++ dktX0_mostRight_1
theorem dksX0_mostRight_0 : cX0_mostRight.data.toList.drop 0 = dktX0_mostRight_0 := by decide +kernel
theorem dksX0_mostRight_1 : cX0_mostRight.data.toList.drop 24 = dktX0_mostRight_1 := dk_seg dksX0_mostRight_0 24 rfl rfl
theorem dksX0_mostRight_2 : cX0_mostRight.data.toList.drop 48 = dktX0_mostRight_2 := dk_seg dksX0_mostRight_1 24 rfl rfl
theorem dksX0_mostRight_3 : cX0_mostRight.data.toList.drop 72 = dktX0_mostRight_3 := dk_seg dksX0_mostRight_2 24 rfl rfl
theorem dksX0_mostRight_4 : cX0_mostRight.data.toList.drop 96 = dktX0_mostRight_4 := dk_seg dksX0_mostRight_3 24 rfl rfl
theorem dksX0_mostRight_5 : cX0_mostRight.data.toList.drop 120 = dktX0_mostRight_5 := dk_seg dksX0_mostRight_4 24 rfl rfl
theorem dksX0_mostRight_6 : cX0_mostRight.data.toList.drop 143 = dktX0_mostRight_6 := dk_seg dksX0_mostRight_5 23 rfl rfl
theorem dksX0_mostRight_7 : cX0_mostRight.data.toList.drop 165 = dktX0_mostRight_7 := dk_seg dksX0_mostRight_6 22 rfl rfl
theorem dksX0_mostRight_8 : cX0_mostRight.data.toList.drop 189 = dktX0_mostRight_8 := dk_seg dksX0_mostRight_7 24 rfl rfl
theorem dksX0_mostRight_9 : cX0_mostRight.data.toList.drop 212 = dktX0_mostRight_9 := dk_seg dksX0_mostRight_8 23 rfl rfl
theorem dX0_mostRight_0 : decode cX0_mostRight 0 = .ok (.iconst 0, 1) := dk_3 (dk_at dksX0_mostRight_0 0 rfl rfl)
theorem dX0_mostRight_1 : decode cX0_mostRight 1 = .ok (.istore_n 2, 1) := dk_61 (dk_at dksX0_mostRight_0 1 rfl rfl)
theorem dX0_mostRight_2 : decode cX0_mostRight 2 = .ok (.iload_n 2, 1) := dk_28 (dk_at dksX0_mostRight_0 2 rfl rfl)
theorem dX0_mostRight_3 : decode cX0_mostRight 3 = .ok (.aload_n 0, 1) := dk_42 (dk_at dksX0_mostRight_0 3 rfl rfl)
theorem dX0_mostRight_4 : decode cX0_mostRight 4 = .ok (.getfield 104, 3) := dk_180 0 104 (dk_at dksX0_mostRight_0 4 rfl rfl)
theorem dX0_mostRight_7 : decode cX0_mostRight 7 = .ok (.arraylength, 1) := dk_190 (dk_at dksX0_mostRight_0 7 rfl rfl)
theorem dX0_mostRight_8 : decode cX0_mostRight 8 = .ok (.if_icmp .ge 16, 3) := dk_162 0 16 (dk_at dksX0_mostRight_0 8 rfl rfl)
theorem dX0_mostRight_11 : decode cX0_mostRight 11 = .ok (.aload_n 0, 1) := dk_42 (dk_at dksX0_mostRight_0 11 rfl rfl)
theorem dX0_mostRight_12 : decode cX0_mostRight 12 = .ok (.getfield 104, 3) := dk_180 0 104 (dk_at dksX0_mostRight_0 12 rfl rfl)
theorem dX0_mostRight_15 : decode cX0_mostRight 15 = .ok (.iload_n 2, 1) := dk_28 (dk_at dksX0_mostRight_0 15 rfl rfl)
theorem dX0_mostRight_16 : decode cX0_mostRight 16 = .ok (.iconst 0, 1) := dk_3 (dk_at dksX0_mostRight_0 16 rfl rfl)
theorem dX0_mostRight_17 : decode cX0_mostRight 17 = .ok (.iastore, 1) := dk_79 (dk_at dksX0_mostRight_0 17 rfl rfl)
theorem dX0_mostRight_18 : decode cX0_mostRight 18 = .ok (.iinc 2 1, 3) := dk_132 2 1 (dk_at dksX0_mostRight_0 18 rfl rfl)
theorem dX0_mostRight_21 : decode cX0_mostRight 21 = .ok (.goto (-19), 3) := dk_167 255 237 (dk_at dksX0_mostRight_0 21 rfl rfl)
theorem dX0_mostRight_24 : decode cX0_mostRight 24 = .ok (.aload_n 0, 1) := dk_42 (dk_at dksX0_mostRight_1 0 rfl rfl)
theorem dX0_mostRight_25 : decode cX0_mostRight 25 = .ok (.invokevirtual 142, 3) := dk_182 0 142 (dk_at dksX0_mostRight_1 1 rfl rfl)
theorem dX0_mostRight_28 : decode cX0_mostRight 28 = .ok (.astore_n 2, 1) := dk_77 (dk_at dksX0_mostRight_1 4 rfl rfl)
theorem dX0_mostRight_29 : decode cX0_mostRight 29 = .ok (.iconst 0, 1) := dk_3 (dk_at dksX0_mostRight_1 5 rfl rfl)
theorem dX0_mostRight_30 : decode cX0_mostRight 30 = .ok (.istore_n 3, 1) := dk_62 (dk_at dksX0_mostRight_1 6 rfl rfl)
theorem dX0_mostRight_31 : decode cX0_mostRight 31 = .ok (.iload_n 3, 1) := dk_29 (dk_at dksX0_mostRight_1 7 rfl rfl)
theorem dX0_mostRight_32 : decode cX0_mostRight 32 = .ok (.iload_n 1, 1) := dk_27 (dk_at dksX0_mostRight_1 8 rfl rfl)
theorem dX0_mostRight_33 : decode cX0_mostRight 33 = .ok (.if_icmp .ge 141, 3) := dk_162 0 141 (dk_at dksX0_mostRight_1 9 rfl rfl)
theorem dX0_mostRight_36 : decode cX0_mostRight 36 = .ok (.iconst 0, 1) := dk_3 (dk_at dksX0_mostRight_1 12 rfl rfl)
theorem dX0_mostRight_37 : decode cX0_mostRight 37 = .ok (.istore 4, 2) := dk_54 4 (dk_at dksX0_mostRight_1 13 rfl rfl)
theorem dX0_mostRight_39 : decode cX0_mostRight 39 = .ok (.lconst 0, 1) := dk_9 (dk_at dksX0_mostRight_1 15 rfl rfl)
theorem dX0_mostRight_40 : decode cX0_mostRight 40 = .ok (.lstore 5, 2) := dk_55 5 (dk_at dksX0_mostRight_1 16 rfl rfl)
theorem dX0_mostRight_42 : decode cX0_mostRight 42 = .ok (.iconst 0, 1) := dk_3 (dk_at dksX0_mostRight_1 18 rfl rfl)
theorem dX0_mostRight_43 : decode cX0_mostRight 43 = .ok (.istore 7, 2) := dk_54 7 (dk_at dksX0_mostRight_1 19 rfl rfl)
theorem dX0_mostRight_45 : decode cX0_mostRight 45 = .ok (.iload 7, 2) := dk_21 7 (dk_at dksX0_mostRight_1 21 rfl rfl)
theorem dX0_mostRight_47 : decode cX0_mostRight 47 = .ok (.aload_n 0, 1) := dk_42 (dk_at dksX0_mostRight_1 23 rfl rfl)
theorem dX0_mostRight_48 : decode cX0_mostRight 48 = .ok (.getfield 104, 3) := dk_180 0 104 (dk_at dksX0_mostRight_2 0 rfl rfl)
theorem dX0_mostRight_51 : decode cX0_mostRight 51 = .ok (.arraylength, 1) := dk_190 (dk_at dksX0_mostRight_2 3 rfl rfl)
theorem dX0_mostRight_52 : decode cX0_mostRight 52 = .ok (.if_icmp .ge 50, 3) := dk_162 0 50 (dk_at dksX0_mostRight_2 4 rfl rfl)
theorem dX0_mostRight_55 : decode cX0_mostRight 55 = .ok (.lload 5, 2) := dk_22 5 (dk_at dksX0_mostRight_2 7 rfl rfl)
theorem dX0_mostRight_57 : decode cX0_mostRight 57 = .ok (.aload_n 0, 1) := dk_42 (dk_at dksX0_mostRight_2 9 rfl rfl)
theorem dX0_mostRight_58 : decode cX0_mostRight 58 = .ok (.getfield 42, 3) := dk_180 0 42 (dk_at dksX0_mostRight_2 10 rfl rfl)
theorem dX0_mostRight_61 : decode cX0_mostRight 61 = .ok (.iload 7, 2) := dk_21 7 (dk_at dksX0_mostRight_2 13 rfl rfl)
theorem dX0_mostRight_63 : decode cX0_mostRight 63 = .ok (.bipush 6, 2) := dk_16 6 (dk_at dksX0_mostRight_2 15 rfl rfl)
theorem dX0_mostRight_65 : decode cX0_mostRight 65 = .ok (.idiv, 1) := dk_108 (dk_at dksX0_mostRight_2 17 rfl rfl)
theorem dX0_mostRight_66 : decode cX0_mostRight 66 = .ok (.aaload, 1) := dk_50 (dk_at dksX0_mostRight_2 18 rfl rfl)
theorem dX0_mostRight_67 : decode cX0_mostRight 67 = .ok (.aload_n 2, 1) := dk_44 (dk_at dksX0_mostRight_2 19 rfl rfl)
theorem dX0_mostRight_68 : decode cX0_mostRight 68 = .ok (.iload 7, 2) := dk_21 7 (dk_at dksX0_mostRight_2 20 rfl rfl)
theorem dX0_mostRight_70 : decode cX0_mostRight 70 = .ok (.bipush 6, 2) := dk_16 6 (dk_at dksX0_mostRight_2 22 rfl rfl)
theorem dX0_mostRight_72 : decode cX0_mostRight 72 = .ok (.irem, 1) := dk_112 (dk_at dksX0_mostRight_3 0 rfl rfl)
theorem dX0_mostRight_73 : decode cX0_mostRight 73 = .ok (.iconst 1, 1) := dk_4 (dk_at dksX0_mostRight_3 1 rfl rfl)
theorem dX0_mostRight_74 : decode cX0_mostRight 74 = .ok (.iadd, 1) := dk_96 (dk_at dksX0_mostRight_3 2 rfl rfl)
theorem dX0_mostRight_75 : decode cX0_mostRight 75 = .ok (.invokevirtual 249, 3) := dk_182 0 249 (dk_at dksX0_mostRight_3 3 rfl rfl)
theorem dX0_mostRight_78 : decode cX0_mostRight 78 = .ok (.aload_n 2, 1) := dk_44 (dk_at dksX0_mostRight_3 6 rfl rfl)
theorem dX0_mostRight_79 : decode cX0_mostRight 79 = .ok (.getfield 171, 3) := dk_180 0 171 (dk_at dksX0_mostRight_3 7 rfl rfl)
theorem dX0_mostRight_82 : decode cX0_mostRight 82 = .ok (.if_icmp .gt 10, 3) := dk_163 0 10 (dk_at dksX0_mostRight_3 10 rfl rfl)
theorem dX0_mostRight_85 : decode cX0_mostRight 85 = .ok (.lconst 1, 1) := dk_10 (dk_at dksX0_mostRight_3 13 rfl rfl)
theorem dX0_mostRight_86 : decode cX0_mostRight 86 = .ok (.iload 7, 2) := dk_21 7 (dk_at dksX0_mostRight_3 14 rfl rfl)
theorem dX0_mostRight_88 : decode cX0_mostRight 88 = .ok (.lshl, 1) := dk_121 (dk_at dksX0_mostRight_3 16 rfl rfl)
theorem dX0_mostRight_89 : decode cX0_mostRight 89 = .ok (.goto 4, 3) := dk_167 0 4 (dk_at dksX0_mostRight_3 17 rfl rfl)
theorem dX0_mostRight_92 : decode cX0_mostRight 92 = .ok (.lconst 0, 1) := dk_9 (dk_at dksX0_mostRight_3 20 rfl rfl)
theorem dX0_mostRight_93 : decode cX0_mostRight 93 = .ok (.lor, 1) := dk_129 (dk_at dksX0_mostRight_3 21 rfl rfl)
theorem dX0_mostRight_94 : decode cX0_mostRight 94 = .ok (.lstore 5, 2) := dk_55 5 (dk_at dksX0_mostRight_3 22 rfl rfl)
theorem dX0_mostRight_96 : decode cX0_mostRight 96 = .ok (.iinc 7 1, 3) := dk_132 7 1 (dk_at dksX0_mostRight_4 0 rfl rfl)
theorem dX0_mostRight_99 : decode cX0_mostRight 99 = .ok (.goto (-54), 3) := dk_167 255 202 (dk_at dksX0_mostRight_4 3 rfl rfl)
theorem dX0_mostRight_102 : decode cX0_mostRight 102 = .ok (.aload_n 2, 1) := dk_44 (dk_at dksX0_mostRight_4 6 rfl rfl)
theorem dX0_mostRight_103 : decode cX0_mostRight 103 = .ok (.invokevirtual 146, 3) := dk_182 0 146 (dk_at dksX0_mostRight_4 7 rfl rfl)
theorem dX0_mostRight_106 : decode cX0_mostRight 106 = .ok (.aload_n 2, 1) := dk_44 (dk_at dksX0_mostRight_4 10 rfl rfl)
theorem dX0_mostRight_107 : decode cX0_mostRight 107 = .ok (.getfield 171, 3) := dk_180 0 171 (dk_at dksX0_mostRight_4 11 rfl rfl)
theorem dX0_mostRight_110 : decode cX0_mostRight 110 = .ok (.if_icmp .gt 7, 3) := dk_163 0 7 (dk_at dksX0_mostRight_4 14 rfl rfl)
theorem dX0_mostRight_113 : decode cX0_mostRight 113 = .ok (.iconst 1, 1) := dk_4 (dk_at dksX0_mostRight_4 17 rfl rfl)
theorem dX0_mostRight_114 : decode cX0_mostRight 114 = .ok (.goto 4, 3) := dk_167 0 4 (dk_at dksX0_mostRight_4 18 rfl rfl)
theorem dX0_mostRight_117 : decode cX0_mostRight 117 = .ok (.iconst 0, 1) := dk_3 (dk_at dksX0_mostRight_4 21 rfl rfl)
theorem dX0_mostRight_118 : decode cX0_mostRight 118 = .ok (.istore 4, 2) := dk_54 4 (dk_at dksX0_mostRight_4 22 rfl rfl)
theorem dX0_mostRight_120 : decode cX0_mostRight 120 = .ok (.iconst 0, 1) := dk_3 (dk_at dksX0_mostRight_5 0 rfl rfl)
theorem dX0_mostRight_121 : decode cX0_mostRight 121 = .ok (.istore 7, 2) := dk_54 7 (dk_at dksX0_mostRight_5 1 rfl rfl)
theorem dX0_mostRight_123 : decode cX0_mostRight 123 = .ok (.iload 7, 2) := dk_21 7 (dk_at dksX0_mostRight_5 3 rfl rfl)
theorem dX0_mostRight_125 : decode cX0_mostRight 125 = .ok (.aload_n 0, 1) := dk_42 (dk_at dksX0_mostRight_5 5 rfl rfl)
theorem dX0_mostRight_126 : decode cX0_mostRight 126 = .ok (.getfield 104, 3) := dk_180 0 104 (dk_at dksX0_mostRight_5 6 rfl rfl)
theorem dX0_mostRight_129 : decode cX0_mostRight 129 = .ok (.arraylength, 1) := dk_190 (dk_at dksX0_mostRight_5 9 rfl rfl)
theorem dX0_mostRight_130 : decode cX0_mostRight 130 = .ok (.if_icmp .ge 38, 3) := dk_162 0 38 (dk_at dksX0_mostRight_5 10 rfl rfl)
theorem dX0_mostRight_133 : decode cX0_mostRight 133 = .ok (.aload_n 0, 1) := dk_42 (dk_at dksX0_mostRight_5 13 rfl rfl)
theorem dX0_mostRight_134 : decode cX0_mostRight 134 = .ok (.getfield 104, 3) := dk_180 0 104 (dk_at dksX0_mostRight_5 14 rfl rfl)
theorem dX0_mostRight_137 : decode cX0_mostRight 137 = .ok (.iload 7, 2) := dk_21 7 (dk_at dksX0_mostRight_5 17 rfl rfl)
theorem dX0_mostRight_139 : decode cX0_mostRight 139 = .ok (.dup2, 1) := dk_92 (dk_at dksX0_mostRight_5 19 rfl rfl)
theorem dX0_mostRight_140 : decode cX0_mostRight 140 = .ok (.iaload, 1) := dk_46 (dk_at dksX0_mostRight_5 20 rfl rfl)
theorem dX0_mostRight_141 : decode cX0_mostRight 141 = .ok (.lload 5, 2) := dk_22 5 (dk_at dksX0_mostRight_5 21 rfl rfl)
theorem dX0_mostRight_143 : decode cX0_mostRight 143 = .ok (.iload 7, 2) := dk_21 7 (dk_at dksX0_mostRight_6 0 rfl rfl)
theorem dX0_mostRight_145 : decode cX0_mostRight 145 = .ok (.lshr, 1) := dk_123 (dk_at dksX0_mostRight_6 2 rfl rfl)
theorem dX0_mostRight_146 : decode cX0_mostRight 146 = .ok (.lconst 1, 1) := dk_10 (dk_at dksX0_mostRight_6 3 rfl rfl)
theorem dX0_mostRight_147 : decode cX0_mostRight 147 = .ok (.land, 1) := dk_127 (dk_at dksX0_mostRight_6 4 rfl rfl)
theorem dX0_mostRight_148 : decode cX0_mostRight 148 = .ok (.iload 4, 2) := dk_21 4 (dk_at dksX0_mostRight_6 5 rfl rfl)
theorem dX0_mostRight_150 : decode cX0_mostRight 150 = .ok (.i2l, 1) := dk_133 (dk_at dksX0_mostRight_6 7 rfl rfl)
theorem dX0_mostRight_151 : decode cX0_mostRight 151 = .ok (.lcmp, 1) := dk_148 (dk_at dksX0_mostRight_6 8 rfl rfl)
theorem dX0_mostRight_152 : decode cX0_mostRight 152 = .ok (.ifCond .ne 7, 3) := dk_154 0 7 (dk_at dksX0_mostRight_6 9 rfl rfl)
theorem dX0_mostRight_155 : decode cX0_mostRight 155 = .ok (.iconst 1, 1) := dk_4 (dk_at dksX0_mostRight_6 12 rfl rfl)
theorem dX0_mostRight_156 : decode cX0_mostRight 156 = .ok (.goto 4, 3) := dk_167 0 4 (dk_at dksX0_mostRight_6 13 rfl rfl)
theorem dX0_mostRight_159 : decode cX0_mostRight 159 = .ok (.iconst 0, 1) := dk_3 (dk_at dksX0_mostRight_6 16 rfl rfl)
theorem dX0_mostRight_160 : decode cX0_mostRight 160 = .ok (.iadd, 1) := dk_96 (dk_at dksX0_mostRight_6 17 rfl rfl)
theorem dX0_mostRight_161 : decode cX0_mostRight 161 = .ok (.iastore, 1) := dk_79 (dk_at dksX0_mostRight_6 18 rfl rfl)
theorem dX0_mostRight_162 : decode cX0_mostRight 162 = .ok (.iinc 7 1, 3) := dk_132 7 1 (dk_at dksX0_mostRight_6 19 rfl rfl)
theorem dX0_mostRight_165 : decode cX0_mostRight 165 = .ok (.goto (-42), 3) := dk_167 255 214 (dk_at dksX0_mostRight_7 0 rfl rfl)
theorem dX0_mostRight_168 : decode cX0_mostRight 168 = .ok (.iinc 3 1, 3) := dk_132 3 1 (dk_at dksX0_mostRight_7 3 rfl rfl)
theorem dX0_mostRight_171 : decode cX0_mostRight 171 = .ok (.goto (-140), 3) := dk_167 255 116 (dk_at dksX0_mostRight_7 6 rfl rfl)
theorem dX0_mostRight_174 : decode cX0_mostRight 174 = .ok (.iconst 0, 1) := dk_3 (dk_at dksX0_mostRight_7 9 rfl rfl)
theorem dX0_mostRight_175 : decode cX0_mostRight 175 = .ok (.istore_n 3, 1) := dk_62 (dk_at dksX0_mostRight_7 10 rfl rfl)
theorem dX0_mostRight_176 : decode cX0_mostRight 176 = .ok (.iconst 1, 1) := dk_4 (dk_at dksX0_mostRight_7 11 rfl rfl)
theorem dX0_mostRight_177 : decode cX0_mostRight 177 = .ok (.istore 4, 2) := dk_54 4 (dk_at dksX0_mostRight_7 12 rfl rfl)
theorem dX0_mostRight_179 : decode cX0_mostRight 179 = .ok (.iload 4, 2) := dk_21 4 (dk_at dksX0_mostRight_7 14 rfl rfl)
theorem dX0_mostRight_181 : decode cX0_mostRight 181 = .ok (.aload_n 0, 1) := dk_42 (dk_at dksX0_mostRight_7 16 rfl rfl)
theorem dX0_mostRight_182 : decode cX0_mostRight 182 = .ok (.getfield 104, 3) := dk_180 0 104 (dk_at dksX0_mostRight_7 17 rfl rfl)
theorem dX0_mostRight_185 : decode cX0_mostRight 185 = .ok (.arraylength, 1) := dk_190 (dk_at dksX0_mostRight_7 20 rfl rfl)
theorem dX0_mostRight_186 : decode cX0_mostRight 186 = .ok (.if_icmp .ge 32, 3) := dk_162 0 32 (dk_at dksX0_mostRight_7 21 rfl rfl)
theorem dX0_mostRight_189 : decode cX0_mostRight 189 = .ok (.aload_n 0, 1) := dk_42 (dk_at dksX0_mostRight_8 0 rfl rfl)
theorem dX0_mostRight_190 : decode cX0_mostRight 190 = .ok (.getfield 104, 3) := dk_180 0 104 (dk_at dksX0_mostRight_8 1 rfl rfl)
theorem dX0_mostRight_193 : decode cX0_mostRight 193 = .ok (.iload 4, 2) := dk_21 4 (dk_at dksX0_mostRight_8 4 rfl rfl)
theorem dX0_mostRight_195 : decode cX0_mostRight 195 = .ok (.iaload, 1) := dk_46 (dk_at dksX0_mostRight_8 6 rfl rfl)
theorem dX0_mostRight_196 : decode cX0_mostRight 196 = .ok (.aload_n 0, 1) := dk_42 (dk_at dksX0_mostRight_8 7 rfl rfl)
theorem dX0_mostRight_197 : decode cX0_mostRight 197 = .ok (.getfield 104, 3) := dk_180 0 104 (dk_at dksX0_mostRight_8 8 rfl rfl)
theorem dX0_mostRight_200 : decode cX0_mostRight 200 = .ok (.iload_n 3, 1) := dk_29 (dk_at dksX0_mostRight_8 11 rfl rfl)
theorem dX0_mostRight_201 : decode cX0_mostRight 201 = .ok (.iaload, 1) := dk_46 (dk_at dksX0_mostRight_8 12 rfl rfl)
theorem dX0_mostRight_202 : decode cX0_mostRight 202 = .ok (.if_icmp .le 8, 3) := dk_164 0 8 (dk_at dksX0_mostRight_8 13 rfl rfl)
theorem dX0_mostRight_205 : decode cX0_mostRight 205 = .ok (.iload 4, 2) := dk_21 4 (dk_at dksX0_mostRight_8 16 rfl rfl)
theorem dX0_mostRight_207 : decode cX0_mostRight 207 = .ok (.goto 4, 3) := dk_167 0 4 (dk_at dksX0_mostRight_8 18 rfl rfl)
theorem dX0_mostRight_210 : decode cX0_mostRight 210 = .ok (.iload_n 3, 1) := dk_29 (dk_at dksX0_mostRight_8 21 rfl rfl)
theorem dX0_mostRight_211 : decode cX0_mostRight 211 = .ok (.istore_n 3, 1) := dk_62 (dk_at dksX0_mostRight_8 22 rfl rfl)
theorem dX0_mostRight_212 : decode cX0_mostRight 212 = .ok (.iinc 4 1, 3) := dk_132 4 1 (dk_at dksX0_mostRight_9 0 rfl rfl)
theorem dX0_mostRight_215 : decode cX0_mostRight 215 = .ok (.goto (-36), 3) := dk_167 255 220 (dk_at dksX0_mostRight_9 3 rfl rfl)
theorem dX0_mostRight_218 : decode cX0_mostRight 218 = .ok (.bipush 10, 2) := dk_16 10 (dk_at dksX0_mostRight_9 6 rfl rfl)
theorem dX0_mostRight_220 : decode cX0_mostRight 220 = .ok (.iload_n 3, 1) := dk_29 (dk_at dksX0_mostRight_9 8 rfl rfl)
theorem dX0_mostRight_221 : decode cX0_mostRight 221 = .ok (.bipush 6, 2) := dk_16 6 (dk_at dksX0_mostRight_9 9 rfl rfl)
theorem dX0_mostRight_223 : decode cX0_mostRight 223 = .ok (.idiv, 1) := dk_108 (dk_at dksX0_mostRight_9 11 rfl rfl)
theorem dX0_mostRight_224 : decode cX0_mostRight 224 = .ok (.imul, 1) := dk_104 (dk_at dksX0_mostRight_9 12 rfl rfl)
theorem dX0_mostRight_225 : decode cX0_mostRight 225 = .ok (.iload_n 3, 1) := dk_29 (dk_at dksX0_mostRight_9 13 rfl rfl)
theorem dX0_mostRight_226 : decode cX0_mostRight 226 = .ok (.bipush 6, 2) := dk_16 6 (dk_at dksX0_mostRight_9 14 rfl rfl)
theorem dX0_mostRight_228 : decode cX0_mostRight 228 = .ok (.irem, 1) := dk_112 (dk_at dksX0_mostRight_9 16 rfl rfl)
theorem dX0_mostRight_229 : decode cX0_mostRight 229 = .ok (.iadd, 1) := dk_96 (dk_at dksX0_mostRight_9 17 rfl rfl)
theorem dX0_mostRight_230 : decode cX0_mostRight 230 = .ok (.iconst 1, 1) := dk_4 (dk_at dksX0_mostRight_9 18 rfl rfl)
theorem dX0_mostRight_231 : decode cX0_mostRight 231 = .ok (.iadd, 1) := dk_96 (dk_at dksX0_mostRight_9 19 rfl rfl)
theorem dX0_mostRight_232 : decode cX0_mostRight 232 = .ok (.ireturn, 1) := dk_172 (dk_at dksX0_mostRight_9 20 rfl rfl)
abbrev cX0_swingOfLonger : ByteArray := prog_1_method_22_code
def yX0_swingOfLonger : MethodName := ⟨RX0, "swingOfLonger", "(I)I"⟩
def dkwX0_swingOfLonger_2 : List UInt8 := [180, 0, 156, 42, 180, 0, 165, 100, 172]
abbrev dktX0_swingOfLonger_2 : List UInt8 := dkwX0_swingOfLonger_2 ++ []
def dkwX0_swingOfLonger_1 : List UInt8 := [180, 0, 255, 29, 46, 4, 96, 184, 0, 168, 79, 132, 3, 1, 167, 255, 226, 42, 44, 27, 182, 1, 2, 42]
abbrev dktX0_swingOfLonger_1 : List UInt8 := dkwX0_swingOfLonger_1 ++ dktX0_swingOfLonger_2
def dkwX0_swingOfLonger_0 : List UInt8 := [42, 182, 0, 142, 77, 3, 62, 29, 44, 180, 0, 252, 162, 0, 28, 44, 180, 0, 255, 29, 16, 6, 44]
abbrev dktX0_swingOfLonger_0 : List UInt8 := dkwX0_swingOfLonger_0 ++ dktX0_swingOfLonger_1
theorem dksX0_swingOfLonger_0 : cX0_swingOfLonger.data.toList.drop 0 = dktX0_swingOfLonger_0 := by decide +kernel
theorem dksX0_swingOfLonger_1 : cX0_swingOfLonger.data.toList.drop 23 = dktX0_swingOfLonger_1 := dk_seg dksX0_swingOfLonger_0 23 rfl rfl
theorem dksX0_swingOfLonger_2 : cX0_swingOfLonger.data.toList.drop 47 = dktX0_swingOfLonger_2 := dk_seg dksX0_swingOfLonger_1 24 rfl rfl
theorem dX0_swingOfLonger_0 : decode cX0_swingOfLonger 0 = .ok (.aload_n 0, 1) := dk_42 (dk_at dksX0_swingOfLonger_0 0 rfl rfl)
theorem dX0_swingOfLonger_1 : decode cX0_swingOfLonger 1 = .ok (.invokevirtual 142, 3) := dk_182 0 142 (dk_at dksX0_swingOfLonger_0 1 rfl rfl)
theorem dX0_swingOfLonger_4 : decode cX0_swingOfLonger 4 = .ok (.astore_n 2, 1) := dk_77 (dk_at dksX0_swingOfLonger_0 4 rfl rfl)
theorem dX0_swingOfLonger_5 : decode cX0_swingOfLonger 5 = .ok (.iconst 0, 1) := dk_3 (dk_at dksX0_swingOfLonger_0 5 rfl rfl)
theorem dX0_swingOfLonger_6 : decode cX0_swingOfLonger 6 = .ok (.istore_n 3, 1) := dk_62 (dk_at dksX0_swingOfLonger_0 6 rfl rfl)
theorem dX0_swingOfLonger_7 : decode cX0_swingOfLonger 7 = .ok (.iload_n 3, 1) := dk_29 (dk_at dksX0_swingOfLonger_0 7 rfl rfl)
theorem dX0_swingOfLonger_8 : decode cX0_swingOfLonger 8 = .ok (.aload_n 2, 1) := dk_44 (dk_at dksX0_swingOfLonger_0 8 rfl rfl)
theorem dX0_swingOfLonger_9 : decode cX0_swingOfLonger 9 = .ok (.getfield 252, 3) := dk_180 0 252 (dk_at dksX0_swingOfLonger_0 9 rfl rfl)
theorem dX0_swingOfLonger_12 : decode cX0_swingOfLonger 12 = .ok (.if_icmp .ge 28, 3) := dk_162 0 28 (dk_at dksX0_swingOfLonger_0 12 rfl rfl)
theorem dX0_swingOfLonger_15 : decode cX0_swingOfLonger 15 = .ok (.aload_n 2, 1) := dk_44 (dk_at dksX0_swingOfLonger_0 15 rfl rfl)
theorem dX0_swingOfLonger_16 : decode cX0_swingOfLonger 16 = .ok (.getfield 255, 3) := dk_180 0 255 (dk_at dksX0_swingOfLonger_0 16 rfl rfl)
theorem dX0_swingOfLonger_19 : decode cX0_swingOfLonger 19 = .ok (.iload_n 3, 1) := dk_29 (dk_at dksX0_swingOfLonger_0 19 rfl rfl)
theorem dX0_swingOfLonger_20 : decode cX0_swingOfLonger 20 = .ok (.bipush 6, 2) := dk_16 6 (dk_at dksX0_swingOfLonger_0 20 rfl rfl)
theorem dX0_swingOfLonger_22 : decode cX0_swingOfLonger 22 = .ok (.aload_n 2, 1) := dk_44 (dk_at dksX0_swingOfLonger_0 22 rfl rfl)
theorem dX0_swingOfLonger_23 : decode cX0_swingOfLonger 23 = .ok (.getfield 255, 3) := dk_180 0 255 (dk_at dksX0_swingOfLonger_1 0 rfl rfl)
theorem dX0_swingOfLonger_26 : decode cX0_swingOfLonger 26 = .ok (.iload_n 3, 1) := dk_29 (dk_at dksX0_swingOfLonger_1 3 rfl rfl)
theorem dX0_swingOfLonger_27 : decode cX0_swingOfLonger 27 = .ok (.iaload, 1) := dk_46 (dk_at dksX0_swingOfLonger_1 4 rfl rfl)
theorem dX0_swingOfLonger_28 : decode cX0_swingOfLonger 28 = .ok (.iconst 1, 1) := dk_4 (dk_at dksX0_swingOfLonger_1 5 rfl rfl)
theorem dX0_swingOfLonger_29 : decode cX0_swingOfLonger 29 = .ok (.iadd, 1) := dk_96 (dk_at dksX0_swingOfLonger_1 6 rfl rfl)
theorem dX0_swingOfLonger_30 : decode cX0_swingOfLonger 30 = .ok (.invokestatic 168, 3) := dk_184 0 168 (dk_at dksX0_swingOfLonger_1 7 rfl rfl)
theorem dX0_swingOfLonger_33 : decode cX0_swingOfLonger 33 = .ok (.iastore, 1) := dk_79 (dk_at dksX0_swingOfLonger_1 10 rfl rfl)
theorem dX0_swingOfLonger_34 : decode cX0_swingOfLonger 34 = .ok (.iinc 3 1, 3) := dk_132 3 1 (dk_at dksX0_swingOfLonger_1 11 rfl rfl)
theorem dX0_swingOfLonger_37 : decode cX0_swingOfLonger 37 = .ok (.goto (-30), 3) := dk_167 255 226 (dk_at dksX0_swingOfLonger_1 14 rfl rfl)
theorem dX0_swingOfLonger_40 : decode cX0_swingOfLonger 40 = .ok (.aload_n 0, 1) := dk_42 (dk_at dksX0_swingOfLonger_1 17 rfl rfl)
theorem dX0_swingOfLonger_41 : decode cX0_swingOfLonger 41 = .ok (.aload_n 2, 1) := dk_44 (dk_at dksX0_swingOfLonger_1 18 rfl rfl)
theorem dX0_swingOfLonger_42 : decode cX0_swingOfLonger 42 = .ok (.iload_n 1, 1) := dk_27 (dk_at dksX0_swingOfLonger_1 19 rfl rfl)
theorem dX0_swingOfLonger_43 : decode cX0_swingOfLonger 43 = .ok (.invokevirtual 258, 3) := dk_182 1 2 (dk_at dksX0_swingOfLonger_1 20 rfl rfl)
theorem dX0_swingOfLonger_46 : decode cX0_swingOfLonger 46 = .ok (.aload_n 0, 1) := dk_42 (dk_at dksX0_swingOfLonger_1 23 rfl rfl)
theorem dX0_swingOfLonger_47 : decode cX0_swingOfLonger 47 = .ok (.getfield 156, 3) := dk_180 0 156 (dk_at dksX0_swingOfLonger_2 0 rfl rfl)
theorem dX0_swingOfLonger_50 : decode cX0_swingOfLonger 50 = .ok (.aload_n 0, 1) := dk_42 (dk_at dksX0_swingOfLonger_2 3 rfl rfl)
theorem dX0_swingOfLonger_51 : decode cX0_swingOfLonger 51 = .ok (.getfield 165, 3) := dk_180 0 165 (dk_at dksX0_swingOfLonger_2 4 rfl rfl)
theorem dX0_swingOfLonger_54 : decode cX0_swingOfLonger 54 = .ok (.isub, 1) := dk_100 (dk_at dksX0_swingOfLonger_2 7 rfl rfl)
theorem dX0_swingOfLonger_55 : decode cX0_swingOfLonger 55 = .ok (.ireturn, 1) := dk_172 (dk_at dksX0_swingOfLonger_2 8 rfl rfl)
abbrev cX0_bySeeds : ByteArray := prog_1_method_23_code
def yX0_bySeeds : MethodName := ⟨RX0, "bySeeds", "(II)I"⟩
def dkwX0_bySeeds_4 : List UInt8 := [172]
abbrev dktX0_bySeeds_4 : List UInt8 := dkwX0_bySeeds_4 ++ []
def dkwX0_bySeeds_3 : List UInt8 := [132, 7, 1, 167, 255, 208, 21, 4, 25, 6, 182, 0, 146, 96, 54, 4, 132, 5, 1, 167, 255, 177, 21, 4]
abbrev dktX0_bySeeds_3 : List UInt8 := dkwX0_bySeeds_3 ++ dktX0_bySeeds_4
def dkwX0_bySeeds_2 : List UInt8 := [180, 1, 11, 21, 7, 29, 19, 1, 14, 126, 17, 1, 0, 108, 25, 6, 182, 1, 15, 4, 96, 112, 79]
abbrev dktX0_bySeeds_2 : List UInt8 := dkwX0_bySeeds_2 ++ dktX0_bySeeds_3
def dkwX0_bySeeds_1 : List UInt8 := [21, 7, 25, 6, 180, 1, 6, 162, 0, 44, 29, 19, 1, 9, 104, 19, 1, 10, 96, 62, 25, 6]
abbrev dktX0_bySeeds_1 : List UInt8 := dkwX0_bySeeds_1 ++ dktX0_bySeeds_2
def dkwX0_bySeeds_0 : List UInt8 := [28, 62, 3, 54, 4, 3, 54, 5, 21, 5, 27, 162, 0, 79, 42, 182, 0, 142, 58, 6, 3, 54, 7]
abbrev dktX0_bySeeds_0 : List UInt8 := dkwX0_bySeeds_0 ++ dktX0_bySeeds_1
theorem dksX0_bySeeds_0 : cX0_bySeeds.data.toList.drop 0 = dktX0_bySeeds_0 := by decide +kernel
theorem dksX0_bySeeds_1 : cX0_bySeeds.data.toList.drop 23 = dktX0_bySeeds_1 := dk_seg dksX0_bySeeds_0 23 rfl rfl
theorem dksX0_bySeeds_2 : cX0_bySeeds.data.toList.drop 45 = dktX0_bySeeds_2 := dk_seg dksX0_bySeeds_1 22 rfl rfl
theorem dksX0_bySeeds_3 : cX0_bySeeds.data.toList.drop 68 = dktX0_bySeeds_3 := dk_seg dksX0_bySeeds_2 23 rfl rfl
theorem dksX0_bySeeds_4 : cX0_bySeeds.data.toList.drop 92 = dktX0_bySeeds_4 := dk_seg dksX0_bySeeds_3 24 rfl rfl
theorem dX0_bySeeds_0 : decode cX0_bySeeds 0 = .ok (.iload_n 2, 1) := dk_28 (dk_at dksX0_bySeeds_0 0 rfl rfl)
theorem dX0_bySeeds_1 : decode cX0_bySeeds 1 = .ok (.istore_n 3, 1) := dk_62 (dk_at dksX0_bySeeds_0 1 rfl rfl)
theorem dX0_bySeeds_2 : decode cX0_bySeeds 2 = .ok (.iconst 0, 1) := dk_3 (dk_at dksX0_bySeeds_0 2 rfl rfl)
theorem dX0_bySeeds_3 : decode cX0_bySeeds 3 = .ok (.istore 4, 2) := dk_54 4 (dk_at dksX0_bySeeds_0 3 rfl rfl)
theorem dX0_bySeeds_5 : decode cX0_bySeeds 5 = .ok (.iconst 0, 1) := dk_3 (dk_at dksX0_bySeeds_0 5 rfl rfl)
theorem dX0_bySeeds_6 : decode cX0_bySeeds 6 = .ok (.istore 5, 2) := dk_54 5 (dk_at dksX0_bySeeds_0 6 rfl rfl)
theorem dX0_bySeeds_8 : decode cX0_bySeeds 8 = .ok (.iload 5, 2) := dk_21 5 (dk_at dksX0_bySeeds_0 8 rfl rfl)
theorem dX0_bySeeds_10 : decode cX0_bySeeds 10 = .ok (.iload_n 1, 1) := dk_27 (dk_at dksX0_bySeeds_0 10 rfl rfl)
theorem dX0_bySeeds_11 : decode cX0_bySeeds 11 = .ok (.if_icmp .ge 79, 3) := dk_162 0 79 (dk_at dksX0_bySeeds_0 11 rfl rfl)
theorem dX0_bySeeds_14 : decode cX0_bySeeds 14 = .ok (.aload_n 0, 1) := dk_42 (dk_at dksX0_bySeeds_0 14 rfl rfl)
theorem dX0_bySeeds_15 : decode cX0_bySeeds 15 = .ok (.invokevirtual 142, 3) := dk_182 0 142 (dk_at dksX0_bySeeds_0 15 rfl rfl)
theorem dX0_bySeeds_18 : decode cX0_bySeeds 18 = .ok (.astore 6, 2) := dk_58 6 (dk_at dksX0_bySeeds_0 18 rfl rfl)
theorem dX0_bySeeds_20 : decode cX0_bySeeds 20 = .ok (.iconst 0, 1) := dk_3 (dk_at dksX0_bySeeds_0 20 rfl rfl)
theorem dX0_bySeeds_21 : decode cX0_bySeeds 21 = .ok (.istore 7, 2) := dk_54 7 (dk_at dksX0_bySeeds_0 21 rfl rfl)
theorem dX0_bySeeds_23 : decode cX0_bySeeds 23 = .ok (.iload 7, 2) := dk_21 7 (dk_at dksX0_bySeeds_1 0 rfl rfl)
theorem dX0_bySeeds_25 : decode cX0_bySeeds 25 = .ok (.aload 6, 2) := dk_25 6 (dk_at dksX0_bySeeds_1 2 rfl rfl)
theorem dX0_bySeeds_27 : decode cX0_bySeeds 27 = .ok (.getfield 262, 3) := dk_180 1 6 (dk_at dksX0_bySeeds_1 4 rfl rfl)
theorem dX0_bySeeds_30 : decode cX0_bySeeds 30 = .ok (.if_icmp .ge 44, 3) := dk_162 0 44 (dk_at dksX0_bySeeds_1 7 rfl rfl)
theorem dX0_bySeeds_33 : decode cX0_bySeeds 33 = .ok (.iload_n 3, 1) := dk_29 (dk_at dksX0_bySeeds_1 10 rfl rfl)
theorem dX0_bySeeds_34 : decode cX0_bySeeds 34 = .ok (.ldc_w 265, 3) := dk_19 1 9 (dk_at dksX0_bySeeds_1 11 rfl rfl)
theorem dX0_bySeeds_37 : decode cX0_bySeeds 37 = .ok (.imul, 1) := dk_104 (dk_at dksX0_bySeeds_1 14 rfl rfl)
theorem dX0_bySeeds_38 : decode cX0_bySeeds 38 = .ok (.ldc_w 266, 3) := dk_19 1 10 (dk_at dksX0_bySeeds_1 15 rfl rfl)
theorem dX0_bySeeds_41 : decode cX0_bySeeds 41 = .ok (.iadd, 1) := dk_96 (dk_at dksX0_bySeeds_1 18 rfl rfl)
theorem dX0_bySeeds_42 : decode cX0_bySeeds 42 = .ok (.istore_n 3, 1) := dk_62 (dk_at dksX0_bySeeds_1 19 rfl rfl)
theorem dX0_bySeeds_43 : decode cX0_bySeeds 43 = .ok (.aload 6, 2) := dk_25 6 (dk_at dksX0_bySeeds_1 20 rfl rfl)
theorem dX0_bySeeds_45 : decode cX0_bySeeds 45 = .ok (.getfield 267, 3) := dk_180 1 11 (dk_at dksX0_bySeeds_2 0 rfl rfl)
theorem dX0_bySeeds_48 : decode cX0_bySeeds 48 = .ok (.iload 7, 2) := dk_21 7 (dk_at dksX0_bySeeds_2 3 rfl rfl)
theorem dX0_bySeeds_50 : decode cX0_bySeeds 50 = .ok (.iload_n 3, 1) := dk_29 (dk_at dksX0_bySeeds_2 5 rfl rfl)
theorem dX0_bySeeds_51 : decode cX0_bySeeds 51 = .ok (.ldc_w 270, 3) := dk_19 1 14 (dk_at dksX0_bySeeds_2 6 rfl rfl)
theorem dX0_bySeeds_54 : decode cX0_bySeeds 54 = .ok (.iand, 1) := dk_126 (dk_at dksX0_bySeeds_2 9 rfl rfl)
theorem dX0_bySeeds_55 : decode cX0_bySeeds 55 = .ok (.sipush 256, 3) := dk_17 1 0 (dk_at dksX0_bySeeds_2 10 rfl rfl)
theorem dX0_bySeeds_58 : decode cX0_bySeeds 58 = .ok (.idiv, 1) := dk_108 (dk_at dksX0_bySeeds_2 13 rfl rfl)
theorem dX0_bySeeds_59 : decode cX0_bySeeds 59 = .ok (.aload 6, 2) := dk_25 6 (dk_at dksX0_bySeeds_2 14 rfl rfl)
theorem dX0_bySeeds_61 : decode cX0_bySeeds 61 = .ok (.invokevirtual 271, 3) := dk_182 1 15 (dk_at dksX0_bySeeds_2 16 rfl rfl)
theorem dX0_bySeeds_64 : decode cX0_bySeeds 64 = .ok (.iconst 1, 1) := dk_4 (dk_at dksX0_bySeeds_2 19 rfl rfl)
theorem dX0_bySeeds_65 : decode cX0_bySeeds 65 = .ok (.iadd, 1) := dk_96 (dk_at dksX0_bySeeds_2 20 rfl rfl)
theorem dX0_bySeeds_66 : decode cX0_bySeeds 66 = .ok (.irem, 1) := dk_112 (dk_at dksX0_bySeeds_2 21 rfl rfl)
theorem dX0_bySeeds_67 : decode cX0_bySeeds 67 = .ok (.iastore, 1) := dk_79 (dk_at dksX0_bySeeds_2 22 rfl rfl)
theorem dX0_bySeeds_68 : decode cX0_bySeeds 68 = .ok (.iinc 7 1, 3) := dk_132 7 1 (dk_at dksX0_bySeeds_3 0 rfl rfl)
theorem dX0_bySeeds_71 : decode cX0_bySeeds 71 = .ok (.goto (-48), 3) := dk_167 255 208 (dk_at dksX0_bySeeds_3 3 rfl rfl)
theorem dX0_bySeeds_74 : decode cX0_bySeeds 74 = .ok (.iload 4, 2) := dk_21 4 (dk_at dksX0_bySeeds_3 6 rfl rfl)
theorem dX0_bySeeds_76 : decode cX0_bySeeds 76 = .ok (.aload 6, 2) := dk_25 6 (dk_at dksX0_bySeeds_3 8 rfl rfl)
theorem dX0_bySeeds_78 : decode cX0_bySeeds 78 = .ok (.invokevirtual 146, 3) := dk_182 0 146 (dk_at dksX0_bySeeds_3 10 rfl rfl)
theorem dX0_bySeeds_81 : decode cX0_bySeeds 81 = .ok (.iadd, 1) := dk_96 (dk_at dksX0_bySeeds_3 13 rfl rfl)
theorem dX0_bySeeds_82 : decode cX0_bySeeds 82 = .ok (.istore 4, 2) := dk_54 4 (dk_at dksX0_bySeeds_3 14 rfl rfl)
theorem dX0_bySeeds_84 : decode cX0_bySeeds 84 = .ok (.iinc 5 1, 3) := dk_132 5 1 (dk_at dksX0_bySeeds_3 16 rfl rfl)
theorem dX0_bySeeds_87 : decode cX0_bySeeds 87 = .ok (.goto (-79), 3) := dk_167 255 177 (dk_at dksX0_bySeeds_3 19 rfl rfl)
theorem dX0_bySeeds_90 : decode cX0_bySeeds 90 = .ok (.iload 4, 2) := dk_21 4 (dk_at dksX0_bySeeds_3 22 rfl rfl)
theorem dX0_bySeeds_92 : decode cX0_bySeeds 92 = .ok (.ireturn, 1) := dk_172 (dk_at dksX0_bySeeds_4 0 rfl rfl)
abbrev cX0_judgeRow : ByteArray := prog_1_method_24_code
def yX0_judgeRow : MethodName := ⟨RX0, "judgeRow", "()I"⟩
def dkwX0_judgeRow_1 : List UInt8 := [182, 0, 146, 42, 180, 0, 83, 29, 51, 159, 0, 5, 29, 172, 132, 3, 1, 167, 255, 233, 16, 247, 172]
abbrev dktX0_judgeRow_1 : List UInt8 := dkwX0_judgeRow_1 ++ []
def dkwX0_judgeRow_0 : List UInt8 := [42, 180, 1, 18, 60, 42, 3, 181, 1, 18, 42, 182, 0, 142, 77, 3, 62, 29, 27, 162, 0, 24, 44]
abbrev dktX0_judgeRow_0 : List UInt8 := dkwX0_judgeRow_0 ++ dktX0_judgeRow_1
theorem dksX0_judgeRow_0 : cX0_judgeRow.data.toList.drop 0 = dktX0_judgeRow_0 := by decide +kernel
theorem dksX0_judgeRow_1 : cX0_judgeRow.data.toList.drop 23 = dktX0_judgeRow_1 := dk_seg dksX0_judgeRow_0 23 rfl rfl
theorem dX0_judgeRow_0 : decode cX0_judgeRow 0 = .ok (.aload_n 0, 1) := dk_42 (dk_at dksX0_judgeRow_0 0 rfl rfl)
theorem dX0_judgeRow_1 : decode cX0_judgeRow 1 = .ok (.getfield 274, 3) := dk_180 1 18 (dk_at dksX0_judgeRow_0 1 rfl rfl)
theorem dX0_judgeRow_4 : decode cX0_judgeRow 4 = .ok (.istore_n 1, 1) := dk_60 (dk_at dksX0_judgeRow_0 4 rfl rfl)
theorem dX0_judgeRow_5 : decode cX0_judgeRow 5 = .ok (.aload_n 0, 1) := dk_42 (dk_at dksX0_judgeRow_0 5 rfl rfl)
theorem dX0_judgeRow_6 : decode cX0_judgeRow 6 = .ok (.iconst 0, 1) := dk_3 (dk_at dksX0_judgeRow_0 6 rfl rfl)
theorem dX0_judgeRow_7 : decode cX0_judgeRow 7 = .ok (.putfield 274, 3) := dk_181 1 18 (dk_at dksX0_judgeRow_0 7 rfl rfl)
theorem dX0_judgeRow_10 : decode cX0_judgeRow 10 = .ok (.aload_n 0, 1) := dk_42 (dk_at dksX0_judgeRow_0 10 rfl rfl)
theorem dX0_judgeRow_11 : decode cX0_judgeRow 11 = .ok (.invokevirtual 142, 3) := dk_182 0 142 (dk_at dksX0_judgeRow_0 11 rfl rfl)
theorem dX0_judgeRow_14 : decode cX0_judgeRow 14 = .ok (.astore_n 2, 1) := dk_77 (dk_at dksX0_judgeRow_0 14 rfl rfl)
theorem dX0_judgeRow_15 : decode cX0_judgeRow 15 = .ok (.iconst 0, 1) := dk_3 (dk_at dksX0_judgeRow_0 15 rfl rfl)
theorem dX0_judgeRow_16 : decode cX0_judgeRow 16 = .ok (.istore_n 3, 1) := dk_62 (dk_at dksX0_judgeRow_0 16 rfl rfl)
theorem dX0_judgeRow_17 : decode cX0_judgeRow 17 = .ok (.iload_n 3, 1) := dk_29 (dk_at dksX0_judgeRow_0 17 rfl rfl)
theorem dX0_judgeRow_18 : decode cX0_judgeRow 18 = .ok (.iload_n 1, 1) := dk_27 (dk_at dksX0_judgeRow_0 18 rfl rfl)
theorem dX0_judgeRow_19 : decode cX0_judgeRow 19 = .ok (.if_icmp .ge 24, 3) := dk_162 0 24 (dk_at dksX0_judgeRow_0 19 rfl rfl)
theorem dX0_judgeRow_22 : decode cX0_judgeRow 22 = .ok (.aload_n 2, 1) := dk_44 (dk_at dksX0_judgeRow_0 22 rfl rfl)
theorem dX0_judgeRow_23 : decode cX0_judgeRow 23 = .ok (.invokevirtual 146, 3) := dk_182 0 146 (dk_at dksX0_judgeRow_1 0 rfl rfl)
theorem dX0_judgeRow_26 : decode cX0_judgeRow 26 = .ok (.aload_n 0, 1) := dk_42 (dk_at dksX0_judgeRow_1 3 rfl rfl)
theorem dX0_judgeRow_27 : decode cX0_judgeRow 27 = .ok (.getfield 83, 3) := dk_180 0 83 (dk_at dksX0_judgeRow_1 4 rfl rfl)
theorem dX0_judgeRow_30 : decode cX0_judgeRow 30 = .ok (.iload_n 3, 1) := dk_29 (dk_at dksX0_judgeRow_1 7 rfl rfl)
theorem dX0_judgeRow_31 : decode cX0_judgeRow 31 = .ok (.baload, 1) := dk_51 (dk_at dksX0_judgeRow_1 8 rfl rfl)
theorem dX0_judgeRow_32 : decode cX0_judgeRow 32 = .ok (.if_icmp .eq 5, 3) := dk_159 0 5 (dk_at dksX0_judgeRow_1 9 rfl rfl)
theorem dX0_judgeRow_35 : decode cX0_judgeRow 35 = .ok (.iload_n 3, 1) := dk_29 (dk_at dksX0_judgeRow_1 12 rfl rfl)
theorem dX0_judgeRow_36 : decode cX0_judgeRow 36 = .ok (.ireturn, 1) := dk_172 (dk_at dksX0_judgeRow_1 13 rfl rfl)
theorem dX0_judgeRow_37 : decode cX0_judgeRow 37 = .ok (.iinc 3 1, 3) := dk_132 3 1 (dk_at dksX0_judgeRow_1 14 rfl rfl)
theorem dX0_judgeRow_40 : decode cX0_judgeRow 40 = .ok (.goto (-23), 3) := dk_167 255 233 (dk_at dksX0_judgeRow_1 17 rfl rfl)
theorem dX0_judgeRow_43 : decode cX0_judgeRow 43 = .ok (.bipush (-9), 2) := dk_16 247 (dk_at dksX0_judgeRow_1 20 rfl rfl)
theorem dX0_judgeRow_45 : decode cX0_judgeRow 45 = .ok (.ireturn, 1) := dk_172 (dk_at dksX0_judgeRow_1 22 rfl rfl)
abbrev cX0_ofPlans : ByteArray := prog_1_method_41_code
def yX0_ofPlans : MethodName := ⟨RX0, "ofPlans", "(II)I"⟩
def dkwX0_ofPlans_4 : List UInt8 := [180, 0, 206, 42, 180, 0, 227, 100, 172, 42, 182, 1, 138, 172, 42, 182, 1, 141, 172]
abbrev dktX0_ofPlans_4 : List UInt8 := dkwX0_ofPlans_4 ++ []
def dkwX0_ofPlans_3 : List UInt8 := [172, 42, 42, 180, 0, 73, 182, 0, 239, 42, 180, 0, 196, 154, 0, 8, 16, 247, 167, 0, 12, 42]
abbrev dktX0_ofPlans_3 : List UInt8 := dkwX0_ofPlans_3 ++ dktX0_ofPlans_4
def dkwX0_ofPlans_2 : List UInt8 := [42, 42, 180, 0, 73, 182, 0, 239, 42, 180, 0, 196, 172, 42, 28, 182, 1, 132, 172, 42, 28, 182, 1, 135]
abbrev dktX0_ofPlans_2 : List UInt8 := dkwX0_ofPlans_2 ++ dktX0_ofPlans_3
def dkwX0_ofPlans_1 : List UInt8 := [170, 0, 0, 0, 0, 0, 95, 0, 0, 0, 16, 0, 0, 0, 20, 0, 0, 0, 35, 0, 0, 0, 48, 0, 0, 0, 54, 0, 0, 0, 60, 0, 0, 0, 90]
abbrev dktX0_ofPlans_1 : List UInt8 := dkwX0_ofPlans_1 ++ dktX0_ofPlans_2
def dkwX0_ofPlans_0 : List UInt8 := [27]
abbrev dktX0_ofPlans_0 : List UInt8 := dkwX0_ofPlans_0 ++ dktX0_ofPlans_1
theorem dksX0_ofPlans_0 : cX0_ofPlans.data.toList.drop 0 = dktX0_ofPlans_0 := by decide +kernel
theorem dksX0_ofPlans_1 : cX0_ofPlans.data.toList.drop 1 = dktX0_ofPlans_1 := dk_seg dksX0_ofPlans_0 1 rfl rfl
theorem dksX0_ofPlans_2 : cX0_ofPlans.data.toList.drop 36 = dktX0_ofPlans_2 := dk_seg dksX0_ofPlans_1 35 rfl rfl
theorem dksX0_ofPlans_3 : cX0_ofPlans.data.toList.drop 60 = dktX0_ofPlans_3 := dk_seg dksX0_ofPlans_2 24 rfl rfl
theorem dksX0_ofPlans_4 : cX0_ofPlans.data.toList.drop 82 = dktX0_ofPlans_4 := dk_seg dksX0_ofPlans_3 22 rfl rfl
theorem dX0_ofPlans_0 : decode cX0_ofPlans 0 = .ok (.iload_n 1, 1) := dk_27 (dk_at dksX0_ofPlans_0 0 rfl rfl)
theorem dX0_ofPlans_1 : decode cX0_ofPlans 1 = .ok (.tableswitch 95 16 20 #[35, 48, 54, 60, 90], 35) := by decide +kernel
theorem dX0_ofPlans_36 : decode cX0_ofPlans 36 = .ok (.aload_n 0, 1) := dk_42 (dk_at dksX0_ofPlans_2 0 rfl rfl)
theorem dX0_ofPlans_37 : decode cX0_ofPlans 37 = .ok (.aload_n 0, 1) := dk_42 (dk_at dksX0_ofPlans_2 1 rfl rfl)
theorem dX0_ofPlans_38 : decode cX0_ofPlans 38 = .ok (.getfield 73, 3) := dk_180 0 73 (dk_at dksX0_ofPlans_2 2 rfl rfl)
theorem dX0_ofPlans_41 : decode cX0_ofPlans 41 = .ok (.invokevirtual 239, 3) := dk_182 0 239 (dk_at dksX0_ofPlans_2 5 rfl rfl)
theorem dX0_ofPlans_44 : decode cX0_ofPlans 44 = .ok (.aload_n 0, 1) := dk_42 (dk_at dksX0_ofPlans_2 8 rfl rfl)
theorem dX0_ofPlans_45 : decode cX0_ofPlans 45 = .ok (.getfield 196, 3) := dk_180 0 196 (dk_at dksX0_ofPlans_2 9 rfl rfl)
theorem dX0_ofPlans_48 : decode cX0_ofPlans 48 = .ok (.ireturn, 1) := dk_172 (dk_at dksX0_ofPlans_2 12 rfl rfl)
theorem dX0_ofPlans_49 : decode cX0_ofPlans 49 = .ok (.aload_n 0, 1) := dk_42 (dk_at dksX0_ofPlans_2 13 rfl rfl)
theorem dX0_ofPlans_50 : decode cX0_ofPlans 50 = .ok (.iload_n 2, 1) := dk_28 (dk_at dksX0_ofPlans_2 14 rfl rfl)
theorem dX0_ofPlans_51 : decode cX0_ofPlans 51 = .ok (.invokevirtual 388, 3) := dk_182 1 132 (dk_at dksX0_ofPlans_2 15 rfl rfl)
theorem dX0_ofPlans_54 : decode cX0_ofPlans 54 = .ok (.ireturn, 1) := dk_172 (dk_at dksX0_ofPlans_2 18 rfl rfl)
theorem dX0_ofPlans_55 : decode cX0_ofPlans 55 = .ok (.aload_n 0, 1) := dk_42 (dk_at dksX0_ofPlans_2 19 rfl rfl)
theorem dX0_ofPlans_56 : decode cX0_ofPlans 56 = .ok (.iload_n 2, 1) := dk_28 (dk_at dksX0_ofPlans_2 20 rfl rfl)
theorem dX0_ofPlans_57 : decode cX0_ofPlans 57 = .ok (.invokevirtual 391, 3) := dk_182 1 135 (dk_at dksX0_ofPlans_2 21 rfl rfl)
theorem dX0_ofPlans_60 : decode cX0_ofPlans 60 = .ok (.ireturn, 1) := dk_172 (dk_at dksX0_ofPlans_3 0 rfl rfl)
theorem dX0_ofPlans_61 : decode cX0_ofPlans 61 = .ok (.aload_n 0, 1) := dk_42 (dk_at dksX0_ofPlans_3 1 rfl rfl)
theorem dX0_ofPlans_62 : decode cX0_ofPlans 62 = .ok (.aload_n 0, 1) := dk_42 (dk_at dksX0_ofPlans_3 2 rfl rfl)
theorem dX0_ofPlans_63 : decode cX0_ofPlans 63 = .ok (.getfield 73, 3) := dk_180 0 73 (dk_at dksX0_ofPlans_3 3 rfl rfl)
theorem dX0_ofPlans_66 : decode cX0_ofPlans 66 = .ok (.invokevirtual 239, 3) := dk_182 0 239 (dk_at dksX0_ofPlans_3 6 rfl rfl)
theorem dX0_ofPlans_69 : decode cX0_ofPlans 69 = .ok (.aload_n 0, 1) := dk_42 (dk_at dksX0_ofPlans_3 9 rfl rfl)
theorem dX0_ofPlans_70 : decode cX0_ofPlans 70 = .ok (.getfield 196, 3) := dk_180 0 196 (dk_at dksX0_ofPlans_3 10 rfl rfl)
theorem dX0_ofPlans_73 : decode cX0_ofPlans 73 = .ok (.ifCond .ne 8, 3) := dk_154 0 8 (dk_at dksX0_ofPlans_3 13 rfl rfl)
theorem dX0_ofPlans_76 : decode cX0_ofPlans 76 = .ok (.bipush (-9), 2) := dk_16 247 (dk_at dksX0_ofPlans_3 16 rfl rfl)
theorem dX0_ofPlans_78 : decode cX0_ofPlans 78 = .ok (.goto 12, 3) := dk_167 0 12 (dk_at dksX0_ofPlans_3 18 rfl rfl)
theorem dX0_ofPlans_81 : decode cX0_ofPlans 81 = .ok (.aload_n 0, 1) := dk_42 (dk_at dksX0_ofPlans_3 21 rfl rfl)
theorem dX0_ofPlans_82 : decode cX0_ofPlans 82 = .ok (.getfield 206, 3) := dk_180 0 206 (dk_at dksX0_ofPlans_4 0 rfl rfl)
theorem dX0_ofPlans_85 : decode cX0_ofPlans 85 = .ok (.aload_n 0, 1) := dk_42 (dk_at dksX0_ofPlans_4 3 rfl rfl)
theorem dX0_ofPlans_86 : decode cX0_ofPlans 86 = .ok (.getfield 227, 3) := dk_180 0 227 (dk_at dksX0_ofPlans_4 4 rfl rfl)
theorem dX0_ofPlans_89 : decode cX0_ofPlans 89 = .ok (.isub, 1) := dk_100 (dk_at dksX0_ofPlans_4 7 rfl rfl)
theorem dX0_ofPlans_90 : decode cX0_ofPlans 90 = .ok (.ireturn, 1) := dk_172 (dk_at dksX0_ofPlans_4 8 rfl rfl)
theorem dX0_ofPlans_91 : decode cX0_ofPlans 91 = .ok (.aload_n 0, 1) := dk_42 (dk_at dksX0_ofPlans_4 9 rfl rfl)
theorem dX0_ofPlans_92 : decode cX0_ofPlans 92 = .ok (.invokevirtual 394, 3) := dk_182 1 138 (dk_at dksX0_ofPlans_4 10 rfl rfl)
theorem dX0_ofPlans_95 : decode cX0_ofPlans 95 = .ok (.ireturn, 1) := dk_172 (dk_at dksX0_ofPlans_4 13 rfl rfl)
theorem dX0_ofPlans_96 : decode cX0_ofPlans 96 = .ok (.aload_n 0, 1) := dk_42 (dk_at dksX0_ofPlans_4 14 rfl rfl)
theorem dX0_ofPlans_97 : decode cX0_ofPlans 97 = .ok (.invokevirtual 397, 3) := dk_182 1 141 (dk_at dksX0_ofPlans_4 15 rfl rfl)
theorem dX0_ofPlans_100 : decode cX0_ofPlans 100 = .ok (.ireturn, 1) := dk_172 (dk_at dksX0_ofPlans_4 18 rfl rfl)
abbrev cX0_findPlans : ByteArray := prog_1_method_16_code
def yX0_findPlans : MethodName := ⟨RX0, "findPlans", "(LGoodHalfEmpty$Town;)V"⟩
def dkwX0_findPlans_4 : List UInt8 := [182, 0, 220, 62, 167, 255, 187, 177]
abbrev dktX0_findPlans_4 : List UInt8 := dkwX0_findPlans_4 ++ []
def dkwX0_findPlans_3 : List UInt8 := [181, 0, 209, 3, 61, 42, 43, 21, 4, 182, 0, 212, 153, 0, 11, 42, 21, 4, 21, 5, 182, 0, 216, 42]
abbrev dktX0_findPlans_3 : List UInt8 := dkwX0_findPlans_3 ++ dktX0_findPlans_4
def dkwX0_findPlans_2 : List UInt8 := [54, 5, 28, 154, 0, 12, 21, 5, 42, 180, 0, 206, 164, 0, 15, 42, 21, 5, 181, 0, 206, 42, 21, 4]
abbrev dktX0_findPlans_2 : List UInt8 := dkwX0_findPlans_2 ++ dktX0_findPlans_3
def dkwX0_findPlans_1 : List UInt8 := [181, 0, 196, 4, 61, 4, 62, 29, 153, 0, 71, 42, 182, 0, 199, 54, 4, 42, 43, 21, 4, 182, 0, 202]
abbrev dktX0_findPlans_1 : List UInt8 := dkwX0_findPlans_1 ++ dktX0_findPlans_2
def dkwX0_findPlans_0 : List UInt8 := [3, 61, 28, 7, 162, 0, 16, 42, 180, 0, 98, 28, 3, 79, 132, 2, 1, 167, 255, 241, 42, 3]
abbrev dktX0_findPlans_0 : List UInt8 := dkwX0_findPlans_0 ++ dktX0_findPlans_1
theorem dksX0_findPlans_0 : cX0_findPlans.data.toList.drop 0 = dktX0_findPlans_0 := by decide +kernel
theorem dksX0_findPlans_1 : cX0_findPlans.data.toList.drop 22 = dktX0_findPlans_1 := dk_seg dksX0_findPlans_0 22 rfl rfl
theorem dksX0_findPlans_2 : cX0_findPlans.data.toList.drop 46 = dktX0_findPlans_2 := dk_seg dksX0_findPlans_1 24 rfl rfl
theorem dksX0_findPlans_3 : cX0_findPlans.data.toList.drop 70 = dktX0_findPlans_3 := dk_seg dksX0_findPlans_2 24 rfl rfl
theorem dksX0_findPlans_4 : cX0_findPlans.data.toList.drop 94 = dktX0_findPlans_4 := dk_seg dksX0_findPlans_3 24 rfl rfl
theorem dX0_findPlans_0 : decode cX0_findPlans 0 = .ok (.iconst 0, 1) := dk_3 (dk_at dksX0_findPlans_0 0 rfl rfl)
theorem dX0_findPlans_1 : decode cX0_findPlans 1 = .ok (.istore_n 2, 1) := dk_61 (dk_at dksX0_findPlans_0 1 rfl rfl)
theorem dX0_findPlans_2 : decode cX0_findPlans 2 = .ok (.iload_n 2, 1) := dk_28 (dk_at dksX0_findPlans_0 2 rfl rfl)
theorem dX0_findPlans_3 : decode cX0_findPlans 3 = .ok (.iconst 4, 1) := dk_7 (dk_at dksX0_findPlans_0 3 rfl rfl)
theorem dX0_findPlans_4 : decode cX0_findPlans 4 = .ok (.if_icmp .ge 16, 3) := dk_162 0 16 (dk_at dksX0_findPlans_0 4 rfl rfl)
theorem dX0_findPlans_7 : decode cX0_findPlans 7 = .ok (.aload_n 0, 1) := dk_42 (dk_at dksX0_findPlans_0 7 rfl rfl)
theorem dX0_findPlans_8 : decode cX0_findPlans 8 = .ok (.getfield 98, 3) := dk_180 0 98 (dk_at dksX0_findPlans_0 8 rfl rfl)
theorem dX0_findPlans_11 : decode cX0_findPlans 11 = .ok (.iload_n 2, 1) := dk_28 (dk_at dksX0_findPlans_0 11 rfl rfl)
theorem dX0_findPlans_12 : decode cX0_findPlans 12 = .ok (.iconst 0, 1) := dk_3 (dk_at dksX0_findPlans_0 12 rfl rfl)
theorem dX0_findPlans_13 : decode cX0_findPlans 13 = .ok (.iastore, 1) := dk_79 (dk_at dksX0_findPlans_0 13 rfl rfl)
theorem dX0_findPlans_14 : decode cX0_findPlans 14 = .ok (.iinc 2 1, 3) := dk_132 2 1 (dk_at dksX0_findPlans_0 14 rfl rfl)
theorem dX0_findPlans_17 : decode cX0_findPlans 17 = .ok (.goto (-15), 3) := dk_167 255 241 (dk_at dksX0_findPlans_0 17 rfl rfl)
theorem dX0_findPlans_20 : decode cX0_findPlans 20 = .ok (.aload_n 0, 1) := dk_42 (dk_at dksX0_findPlans_0 20 rfl rfl)
theorem dX0_findPlans_21 : decode cX0_findPlans 21 = .ok (.iconst 0, 1) := dk_3 (dk_at dksX0_findPlans_0 21 rfl rfl)
theorem dX0_findPlans_22 : decode cX0_findPlans 22 = .ok (.putfield 196, 3) := dk_181 0 196 (dk_at dksX0_findPlans_1 0 rfl rfl)
theorem dX0_findPlans_25 : decode cX0_findPlans 25 = .ok (.iconst 1, 1) := dk_4 (dk_at dksX0_findPlans_1 3 rfl rfl)
theorem dX0_findPlans_26 : decode cX0_findPlans 26 = .ok (.istore_n 2, 1) := dk_61 (dk_at dksX0_findPlans_1 4 rfl rfl)
theorem dX0_findPlans_27 : decode cX0_findPlans 27 = .ok (.iconst 1, 1) := dk_4 (dk_at dksX0_findPlans_1 5 rfl rfl)
theorem dX0_findPlans_28 : decode cX0_findPlans 28 = .ok (.istore_n 3, 1) := dk_62 (dk_at dksX0_findPlans_1 6 rfl rfl)
theorem dX0_findPlans_29 : decode cX0_findPlans 29 = .ok (.iload_n 3, 1) := dk_29 (dk_at dksX0_findPlans_1 7 rfl rfl)
theorem dX0_findPlans_30 : decode cX0_findPlans 30 = .ok (.ifCond .eq 71, 3) := dk_153 0 71 (dk_at dksX0_findPlans_1 8 rfl rfl)
theorem dX0_findPlans_33 : decode cX0_findPlans 33 = .ok (.aload_n 0, 1) := dk_42 (dk_at dksX0_findPlans_1 11 rfl rfl)
theorem dX0_findPlans_34 : decode cX0_findPlans 34 = .ok (.invokevirtual 199, 3) := dk_182 0 199 (dk_at dksX0_findPlans_1 12 rfl rfl)
theorem dX0_findPlans_37 : decode cX0_findPlans 37 = .ok (.istore 4, 2) := dk_54 4 (dk_at dksX0_findPlans_1 15 rfl rfl)
theorem dX0_findPlans_39 : decode cX0_findPlans 39 = .ok (.aload_n 0, 1) := dk_42 (dk_at dksX0_findPlans_1 17 rfl rfl)
theorem dX0_findPlans_40 : decode cX0_findPlans 40 = .ok (.aload_n 1, 1) := dk_43 (dk_at dksX0_findPlans_1 18 rfl rfl)
theorem dX0_findPlans_41 : decode cX0_findPlans 41 = .ok (.iload 4, 2) := dk_21 4 (dk_at dksX0_findPlans_1 19 rfl rfl)
theorem dX0_findPlans_43 : decode cX0_findPlans 43 = .ok (.invokevirtual 202, 3) := dk_182 0 202 (dk_at dksX0_findPlans_1 21 rfl rfl)
theorem dX0_findPlans_46 : decode cX0_findPlans 46 = .ok (.istore 5, 2) := dk_54 5 (dk_at dksX0_findPlans_2 0 rfl rfl)
theorem dX0_findPlans_48 : decode cX0_findPlans 48 = .ok (.iload_n 2, 1) := dk_28 (dk_at dksX0_findPlans_2 2 rfl rfl)
theorem dX0_findPlans_49 : decode cX0_findPlans 49 = .ok (.ifCond .ne 12, 3) := dk_154 0 12 (dk_at dksX0_findPlans_2 3 rfl rfl)
theorem dX0_findPlans_52 : decode cX0_findPlans 52 = .ok (.iload 5, 2) := dk_21 5 (dk_at dksX0_findPlans_2 6 rfl rfl)
theorem dX0_findPlans_54 : decode cX0_findPlans 54 = .ok (.aload_n 0, 1) := dk_42 (dk_at dksX0_findPlans_2 8 rfl rfl)
theorem dX0_findPlans_55 : decode cX0_findPlans 55 = .ok (.getfield 206, 3) := dk_180 0 206 (dk_at dksX0_findPlans_2 9 rfl rfl)
theorem dX0_findPlans_58 : decode cX0_findPlans 58 = .ok (.if_icmp .le 15, 3) := dk_164 0 15 (dk_at dksX0_findPlans_2 12 rfl rfl)
theorem dX0_findPlans_61 : decode cX0_findPlans 61 = .ok (.aload_n 0, 1) := dk_42 (dk_at dksX0_findPlans_2 15 rfl rfl)
theorem dX0_findPlans_62 : decode cX0_findPlans 62 = .ok (.iload 5, 2) := dk_21 5 (dk_at dksX0_findPlans_2 16 rfl rfl)
theorem dX0_findPlans_64 : decode cX0_findPlans 64 = .ok (.putfield 206, 3) := dk_181 0 206 (dk_at dksX0_findPlans_2 18 rfl rfl)
theorem dX0_findPlans_67 : decode cX0_findPlans 67 = .ok (.aload_n 0, 1) := dk_42 (dk_at dksX0_findPlans_2 21 rfl rfl)
theorem dX0_findPlans_68 : decode cX0_findPlans 68 = .ok (.iload 4, 2) := dk_21 4 (dk_at dksX0_findPlans_2 22 rfl rfl)
theorem dX0_findPlans_70 : decode cX0_findPlans 70 = .ok (.putfield 209, 3) := dk_181 0 209 (dk_at dksX0_findPlans_3 0 rfl rfl)
theorem dX0_findPlans_73 : decode cX0_findPlans 73 = .ok (.iconst 0, 1) := dk_3 (dk_at dksX0_findPlans_3 3 rfl rfl)
theorem dX0_findPlans_74 : decode cX0_findPlans 74 = .ok (.istore_n 2, 1) := dk_61 (dk_at dksX0_findPlans_3 4 rfl rfl)
theorem dX0_findPlans_75 : decode cX0_findPlans 75 = .ok (.aload_n 0, 1) := dk_42 (dk_at dksX0_findPlans_3 5 rfl rfl)
theorem dX0_findPlans_76 : decode cX0_findPlans 76 = .ok (.aload_n 1, 1) := dk_43 (dk_at dksX0_findPlans_3 6 rfl rfl)
theorem dX0_findPlans_77 : decode cX0_findPlans 77 = .ok (.iload 4, 2) := dk_21 4 (dk_at dksX0_findPlans_3 7 rfl rfl)
theorem dX0_findPlans_79 : decode cX0_findPlans 79 = .ok (.invokevirtual 212, 3) := dk_182 0 212 (dk_at dksX0_findPlans_3 9 rfl rfl)
theorem dX0_findPlans_82 : decode cX0_findPlans 82 = .ok (.ifCond .eq 11, 3) := dk_153 0 11 (dk_at dksX0_findPlans_3 12 rfl rfl)
theorem dX0_findPlans_85 : decode cX0_findPlans 85 = .ok (.aload_n 0, 1) := dk_42 (dk_at dksX0_findPlans_3 15 rfl rfl)
theorem dX0_findPlans_86 : decode cX0_findPlans 86 = .ok (.iload 4, 2) := dk_21 4 (dk_at dksX0_findPlans_3 16 rfl rfl)
theorem dX0_findPlans_88 : decode cX0_findPlans 88 = .ok (.iload 5, 2) := dk_21 5 (dk_at dksX0_findPlans_3 18 rfl rfl)
theorem dX0_findPlans_90 : decode cX0_findPlans 90 = .ok (.invokevirtual 216, 3) := dk_182 0 216 (dk_at dksX0_findPlans_3 20 rfl rfl)
theorem dX0_findPlans_93 : decode cX0_findPlans 93 = .ok (.aload_n 0, 1) := dk_42 (dk_at dksX0_findPlans_3 23 rfl rfl)
theorem dX0_findPlans_94 : decode cX0_findPlans 94 = .ok (.invokevirtual 220, 3) := dk_182 0 220 (dk_at dksX0_findPlans_4 0 rfl rfl)
theorem dX0_findPlans_97 : decode cX0_findPlans 97 = .ok (.istore_n 3, 1) := dk_62 (dk_at dksX0_findPlans_4 3 rfl rfl)
theorem dX0_findPlans_98 : decode cX0_findPlans 98 = .ok (.goto (-69), 3) := dk_167 255 187 (dk_at dksX0_findPlans_4 4 rfl rfl)
theorem dX0_findPlans_101 : decode cX0_findPlans 101 = .ok (.return_, 1) := dk_177 (dk_at dksX0_findPlans_4 7 rfl rfl)
abbrev cX0_presentOf : ByteArray := prog_1_method_12_code
def yX0_presentOf : MethodName := ⟨RX0, "presentOf", "()I"⟩
def dkwX0_presentOf_1 : List UInt8 := [132, 2, 1, 167, 255, 233, 27, 172]
abbrev dktX0_presentOf_1 : List UInt8 := dkwX0_presentOf_1 ++ []
def dkwX0_presentOf_0 : List UInt8 := [3, 60, 3, 61, 28, 42, 180, 0, 73, 180, 0, 177, 162, 0, 18, 27, 42, 180, 0, 98, 28, 46, 96, 60]
abbrev dktX0_presentOf_0 : List UInt8 := dkwX0_presentOf_0 ++ dktX0_presentOf_1
theorem dksX0_presentOf_0 : cX0_presentOf.data.toList.drop 0 = dktX0_presentOf_0 := by decide +kernel
theorem dksX0_presentOf_1 : cX0_presentOf.data.toList.drop 24 = dktX0_presentOf_1 := dk_seg dksX0_presentOf_0 24 rfl rfl
theorem dX0_presentOf_0 : decode cX0_presentOf 0 = .ok (.iconst 0, 1) := dk_3 (dk_at dksX0_presentOf_0 0 rfl rfl)
theorem dX0_presentOf_1 : decode cX0_presentOf 1 = .ok (.istore_n 1, 1) := dk_60 (dk_at dksX0_presentOf_0 1 rfl rfl)
theorem dX0_presentOf_2 : decode cX0_presentOf 2 = .ok (.iconst 0, 1) := dk_3 (dk_at dksX0_presentOf_0 2 rfl rfl)
theorem dX0_presentOf_3 : decode cX0_presentOf 3 = .ok (.istore_n 2, 1) := dk_61 (dk_at dksX0_presentOf_0 3 rfl rfl)
theorem dX0_presentOf_4 : decode cX0_presentOf 4 = .ok (.iload_n 2, 1) := dk_28 (dk_at dksX0_presentOf_0 4 rfl rfl)
theorem dX0_presentOf_5 : decode cX0_presentOf 5 = .ok (.aload_n 0, 1) := dk_42 (dk_at dksX0_presentOf_0 5 rfl rfl)
theorem dX0_presentOf_6 : decode cX0_presentOf 6 = .ok (.getfield 73, 3) := dk_180 0 73 (dk_at dksX0_presentOf_0 6 rfl rfl)
theorem dX0_presentOf_9 : decode cX0_presentOf 9 = .ok (.getfield 177, 3) := dk_180 0 177 (dk_at dksX0_presentOf_0 9 rfl rfl)
theorem dX0_presentOf_12 : decode cX0_presentOf 12 = .ok (.if_icmp .ge 18, 3) := dk_162 0 18 (dk_at dksX0_presentOf_0 12 rfl rfl)
theorem dX0_presentOf_15 : decode cX0_presentOf 15 = .ok (.iload_n 1, 1) := dk_27 (dk_at dksX0_presentOf_0 15 rfl rfl)
theorem dX0_presentOf_16 : decode cX0_presentOf 16 = .ok (.aload_n 0, 1) := dk_42 (dk_at dksX0_presentOf_0 16 rfl rfl)
theorem dX0_presentOf_17 : decode cX0_presentOf 17 = .ok (.getfield 98, 3) := dk_180 0 98 (dk_at dksX0_presentOf_0 17 rfl rfl)
theorem dX0_presentOf_20 : decode cX0_presentOf 20 = .ok (.iload_n 2, 1) := dk_28 (dk_at dksX0_presentOf_0 20 rfl rfl)
theorem dX0_presentOf_21 : decode cX0_presentOf 21 = .ok (.iaload, 1) := dk_46 (dk_at dksX0_presentOf_0 21 rfl rfl)
theorem dX0_presentOf_22 : decode cX0_presentOf 22 = .ok (.iadd, 1) := dk_96 (dk_at dksX0_presentOf_0 22 rfl rfl)
theorem dX0_presentOf_23 : decode cX0_presentOf 23 = .ok (.istore_n 1, 1) := dk_60 (dk_at dksX0_presentOf_0 23 rfl rfl)
theorem dX0_presentOf_24 : decode cX0_presentOf 24 = .ok (.iinc 2 1, 3) := dk_132 2 1 (dk_at dksX0_presentOf_1 0 rfl rfl)
theorem dX0_presentOf_27 : decode cX0_presentOf 27 = .ok (.goto (-23), 3) := dk_167 255 233 (dk_at dksX0_presentOf_1 3 rfl rfl)
theorem dX0_presentOf_30 : decode cX0_presentOf 30 = .ok (.iload_n 1, 1) := dk_27 (dk_at dksX0_presentOf_1 6 rfl rfl)
theorem dX0_presentOf_31 : decode cX0_presentOf 31 = .ok (.ireturn, 1) := dk_172 (dk_at dksX0_presentOf_1 7 rfl rfl)
abbrev cX0_worthOfPlan : ByteArray := prog_1_method_15_code
def yX0_worthOfPlan : MethodName := ⟨RX0, "worthOfPlan", "(LGoodHalfEmpty$Town;I)I"⟩
def dkwX0_worthOfPlan_2 : List UInt8 := [21, 4, 46, 100, 25, 5, 180, 0, 189, 104, 96, 96, 62, 132, 4, 1, 167, 255, 197, 29, 172]
abbrev dktX0_worthOfPlan_2 : List UInt8 := dkwX0_worthOfPlan_2 ++ []
def dkwX0_worthOfPlan_1 : List UInt8 := [42, 180, 0, 98, 21, 4, 46, 43, 25, 5, 28, 182, 0, 192, 104, 25, 5, 180, 0, 184, 42, 180, 0, 98]
abbrev dktX0_worthOfPlan_1 : List UInt8 := dkwX0_worthOfPlan_1 ++ dktX0_worthOfPlan_2
def dkwX0_worthOfPlan_0 : List UInt8 := [3, 62, 3, 54, 4, 21, 4, 43, 180, 0, 177, 162, 0, 56, 43, 180, 0, 180, 21, 4, 50, 58, 5, 29]
abbrev dktX0_worthOfPlan_0 : List UInt8 := dkwX0_worthOfPlan_0 ++ dktX0_worthOfPlan_1
theorem dksX0_worthOfPlan_0 : cX0_worthOfPlan.data.toList.drop 0 = dktX0_worthOfPlan_0 := by decide +kernel
theorem dksX0_worthOfPlan_1 : cX0_worthOfPlan.data.toList.drop 24 = dktX0_worthOfPlan_1 := dk_seg dksX0_worthOfPlan_0 24 rfl rfl
theorem dksX0_worthOfPlan_2 : cX0_worthOfPlan.data.toList.drop 48 = dktX0_worthOfPlan_2 := dk_seg dksX0_worthOfPlan_1 24 rfl rfl
theorem dX0_worthOfPlan_0 : decode cX0_worthOfPlan 0 = .ok (.iconst 0, 1) := dk_3 (dk_at dksX0_worthOfPlan_0 0 rfl rfl)
theorem dX0_worthOfPlan_1 : decode cX0_worthOfPlan 1 = .ok (.istore_n 3, 1) := dk_62 (dk_at dksX0_worthOfPlan_0 1 rfl rfl)
theorem dX0_worthOfPlan_2 : decode cX0_worthOfPlan 2 = .ok (.iconst 0, 1) := dk_3 (dk_at dksX0_worthOfPlan_0 2 rfl rfl)
theorem dX0_worthOfPlan_3 : decode cX0_worthOfPlan 3 = .ok (.istore 4, 2) := dk_54 4 (dk_at dksX0_worthOfPlan_0 3 rfl rfl)
theorem dX0_worthOfPlan_5 : decode cX0_worthOfPlan 5 = .ok (.iload 4, 2) := dk_21 4 (dk_at dksX0_worthOfPlan_0 5 rfl rfl)
theorem dX0_worthOfPlan_7 : decode cX0_worthOfPlan 7 = .ok (.aload_n 1, 1) := dk_43 (dk_at dksX0_worthOfPlan_0 7 rfl rfl)
theorem dX0_worthOfPlan_8 : decode cX0_worthOfPlan 8 = .ok (.getfield 177, 3) := dk_180 0 177 (dk_at dksX0_worthOfPlan_0 8 rfl rfl)
theorem dX0_worthOfPlan_11 : decode cX0_worthOfPlan 11 = .ok (.if_icmp .ge 56, 3) := dk_162 0 56 (dk_at dksX0_worthOfPlan_0 11 rfl rfl)
theorem dX0_worthOfPlan_14 : decode cX0_worthOfPlan 14 = .ok (.aload_n 1, 1) := dk_43 (dk_at dksX0_worthOfPlan_0 14 rfl rfl)
theorem dX0_worthOfPlan_15 : decode cX0_worthOfPlan 15 = .ok (.getfield 180, 3) := dk_180 0 180 (dk_at dksX0_worthOfPlan_0 15 rfl rfl)
theorem dX0_worthOfPlan_18 : decode cX0_worthOfPlan 18 = .ok (.iload 4, 2) := dk_21 4 (dk_at dksX0_worthOfPlan_0 18 rfl rfl)
theorem dX0_worthOfPlan_20 : decode cX0_worthOfPlan 20 = .ok (.aaload, 1) := dk_50 (dk_at dksX0_worthOfPlan_0 20 rfl rfl)
theorem dX0_worthOfPlan_21 : decode cX0_worthOfPlan 21 = .ok (.astore 5, 2) := dk_58 5 (dk_at dksX0_worthOfPlan_0 21 rfl rfl)
theorem dX0_worthOfPlan_23 : decode cX0_worthOfPlan 23 = .ok (.iload_n 3, 1) := dk_29 (dk_at dksX0_worthOfPlan_0 23 rfl rfl)
theorem dX0_worthOfPlan_24 : decode cX0_worthOfPlan 24 = .ok (.aload_n 0, 1) := dk_42 (dk_at dksX0_worthOfPlan_1 0 rfl rfl)
theorem dX0_worthOfPlan_25 : decode cX0_worthOfPlan 25 = .ok (.getfield 98, 3) := dk_180 0 98 (dk_at dksX0_worthOfPlan_1 1 rfl rfl)
theorem dX0_worthOfPlan_28 : decode cX0_worthOfPlan 28 = .ok (.iload 4, 2) := dk_21 4 (dk_at dksX0_worthOfPlan_1 4 rfl rfl)
theorem dX0_worthOfPlan_30 : decode cX0_worthOfPlan 30 = .ok (.iaload, 1) := dk_46 (dk_at dksX0_worthOfPlan_1 6 rfl rfl)
theorem dX0_worthOfPlan_31 : decode cX0_worthOfPlan 31 = .ok (.aload_n 1, 1) := dk_43 (dk_at dksX0_worthOfPlan_1 7 rfl rfl)
theorem dX0_worthOfPlan_32 : decode cX0_worthOfPlan 32 = .ok (.aload 5, 2) := dk_25 5 (dk_at dksX0_worthOfPlan_1 8 rfl rfl)
theorem dX0_worthOfPlan_34 : decode cX0_worthOfPlan 34 = .ok (.iload_n 2, 1) := dk_28 (dk_at dksX0_worthOfPlan_1 10 rfl rfl)
theorem dX0_worthOfPlan_35 : decode cX0_worthOfPlan 35 = .ok (.invokevirtual 192, 3) := dk_182 0 192 (dk_at dksX0_worthOfPlan_1 11 rfl rfl)
theorem dX0_worthOfPlan_38 : decode cX0_worthOfPlan 38 = .ok (.imul, 1) := dk_104 (dk_at dksX0_worthOfPlan_1 14 rfl rfl)
theorem dX0_worthOfPlan_39 : decode cX0_worthOfPlan 39 = .ok (.aload 5, 2) := dk_25 5 (dk_at dksX0_worthOfPlan_1 15 rfl rfl)
theorem dX0_worthOfPlan_41 : decode cX0_worthOfPlan 41 = .ok (.getfield 184, 3) := dk_180 0 184 (dk_at dksX0_worthOfPlan_1 17 rfl rfl)
theorem dX0_worthOfPlan_44 : decode cX0_worthOfPlan 44 = .ok (.aload_n 0, 1) := dk_42 (dk_at dksX0_worthOfPlan_1 20 rfl rfl)
theorem dX0_worthOfPlan_45 : decode cX0_worthOfPlan 45 = .ok (.getfield 98, 3) := dk_180 0 98 (dk_at dksX0_worthOfPlan_1 21 rfl rfl)
theorem dX0_worthOfPlan_48 : decode cX0_worthOfPlan 48 = .ok (.iload 4, 2) := dk_21 4 (dk_at dksX0_worthOfPlan_2 0 rfl rfl)
theorem dX0_worthOfPlan_50 : decode cX0_worthOfPlan 50 = .ok (.iaload, 1) := dk_46 (dk_at dksX0_worthOfPlan_2 2 rfl rfl)
theorem dX0_worthOfPlan_51 : decode cX0_worthOfPlan 51 = .ok (.isub, 1) := dk_100 (dk_at dksX0_worthOfPlan_2 3 rfl rfl)
theorem dX0_worthOfPlan_52 : decode cX0_worthOfPlan 52 = .ok (.aload 5, 2) := dk_25 5 (dk_at dksX0_worthOfPlan_2 4 rfl rfl)
theorem dX0_worthOfPlan_54 : decode cX0_worthOfPlan 54 = .ok (.getfield 189, 3) := dk_180 0 189 (dk_at dksX0_worthOfPlan_2 6 rfl rfl)
theorem dX0_worthOfPlan_57 : decode cX0_worthOfPlan 57 = .ok (.imul, 1) := dk_104 (dk_at dksX0_worthOfPlan_2 9 rfl rfl)
theorem dX0_worthOfPlan_58 : decode cX0_worthOfPlan 58 = .ok (.iadd, 1) := dk_96 (dk_at dksX0_worthOfPlan_2 10 rfl rfl)
theorem dX0_worthOfPlan_59 : decode cX0_worthOfPlan 59 = .ok (.iadd, 1) := dk_96 (dk_at dksX0_worthOfPlan_2 11 rfl rfl)
theorem dX0_worthOfPlan_60 : decode cX0_worthOfPlan 60 = .ok (.istore_n 3, 1) := dk_62 (dk_at dksX0_worthOfPlan_2 12 rfl rfl)
theorem dX0_worthOfPlan_61 : decode cX0_worthOfPlan 61 = .ok (.iinc 4 1, 3) := dk_132 4 1 (dk_at dksX0_worthOfPlan_2 13 rfl rfl)
theorem dX0_worthOfPlan_64 : decode cX0_worthOfPlan 64 = .ok (.goto (-59), 3) := dk_167 255 197 (dk_at dksX0_worthOfPlan_2 16 rfl rfl)
theorem dX0_worthOfPlan_67 : decode cX0_worthOfPlan 67 = .ok (.iload_n 3, 1) := dk_29 (dk_at dksX0_worthOfPlan_2 19 rfl rfl)
theorem dX0_worthOfPlan_68 : decode cX0_worthOfPlan 68 = .ok (.ireturn, 1) := dk_172 (dk_at dksX0_worthOfPlan_2 20 rfl rfl)
abbrev cX0_doesRest : ByteArray := prog_1_method_14_code
def yX0_doesRest : MethodName := ⟨RX0, "doesRest", "(LGoodHalfEmpty$Town;I)Z"⟩
def dkwX0_doesRest_4 : List UInt8 := [167, 255, 168, 29, 172]
abbrev dktX0_doesRest_4 : List UInt8 := dkwX0_doesRest_4 ++ []
def dkwX0_doesRest_3 : List UInt8 := [28, 4, 96, 182, 0, 192, 25, 5, 180, 0, 189, 163, 0, 7, 4, 167, 0, 4, 3, 62, 132, 4, 1]
abbrev dktX0_doesRest_3 : List UInt8 := dkwX0_doesRest_3 ++ dktX0_doesRest_4
def dkwX0_doesRest_2 : List UInt8 := [182, 0, 192, 163, 0, 39, 42, 180, 0, 98, 21, 4, 46, 25, 5, 180, 0, 184, 159, 0, 20, 43, 25, 5]
abbrev dktX0_doesRest_2 : List UInt8 := dkwX0_doesRest_2 ++ dktX0_doesRest_3
def dkwX0_doesRest_1 : List UInt8 := [50, 58, 5, 42, 180, 0, 98, 21, 4, 46, 153, 0, 18, 25, 5, 180, 0, 189, 43, 25, 5, 28]
abbrev dktX0_doesRest_1 : List UInt8 := dkwX0_doesRest_1 ++ dktX0_doesRest_2
def dkwX0_doesRest_0 : List UInt8 := [4, 62, 3, 54, 4, 21, 4, 43, 180, 0, 177, 162, 0, 85, 29, 153, 0, 81, 43, 180, 0, 180, 21, 4]
abbrev dktX0_doesRest_0 : List UInt8 := dkwX0_doesRest_0 ++ dktX0_doesRest_1
theorem dksX0_doesRest_0 : cX0_doesRest.data.toList.drop 0 = dktX0_doesRest_0 := by decide +kernel
theorem dksX0_doesRest_1 : cX0_doesRest.data.toList.drop 24 = dktX0_doesRest_1 := dk_seg dksX0_doesRest_0 24 rfl rfl
theorem dksX0_doesRest_2 : cX0_doesRest.data.toList.drop 46 = dktX0_doesRest_2 := dk_seg dksX0_doesRest_1 22 rfl rfl
theorem dksX0_doesRest_3 : cX0_doesRest.data.toList.drop 70 = dktX0_doesRest_3 := dk_seg dksX0_doesRest_2 24 rfl rfl
theorem dksX0_doesRest_4 : cX0_doesRest.data.toList.drop 93 = dktX0_doesRest_4 := dk_seg dksX0_doesRest_3 23 rfl rfl
theorem dX0_doesRest_0 : decode cX0_doesRest 0 = .ok (.iconst 1, 1) := dk_4 (dk_at dksX0_doesRest_0 0 rfl rfl)
theorem dX0_doesRest_1 : decode cX0_doesRest 1 = .ok (.istore_n 3, 1) := dk_62 (dk_at dksX0_doesRest_0 1 rfl rfl)
theorem dX0_doesRest_2 : decode cX0_doesRest 2 = .ok (.iconst 0, 1) := dk_3 (dk_at dksX0_doesRest_0 2 rfl rfl)
theorem dX0_doesRest_3 : decode cX0_doesRest 3 = .ok (.istore 4, 2) := dk_54 4 (dk_at dksX0_doesRest_0 3 rfl rfl)
theorem dX0_doesRest_5 : decode cX0_doesRest 5 = .ok (.iload 4, 2) := dk_21 4 (dk_at dksX0_doesRest_0 5 rfl rfl)
theorem dX0_doesRest_7 : decode cX0_doesRest 7 = .ok (.aload_n 1, 1) := dk_43 (dk_at dksX0_doesRest_0 7 rfl rfl)
theorem dX0_doesRest_8 : decode cX0_doesRest 8 = .ok (.getfield 177, 3) := dk_180 0 177 (dk_at dksX0_doesRest_0 8 rfl rfl)
theorem dX0_doesRest_11 : decode cX0_doesRest 11 = .ok (.if_icmp .ge 85, 3) := dk_162 0 85 (dk_at dksX0_doesRest_0 11 rfl rfl)
theorem dX0_doesRest_14 : decode cX0_doesRest 14 = .ok (.iload_n 3, 1) := dk_29 (dk_at dksX0_doesRest_0 14 rfl rfl)
theorem dX0_doesRest_15 : decode cX0_doesRest 15 = .ok (.ifCond .eq 81, 3) := dk_153 0 81 (dk_at dksX0_doesRest_0 15 rfl rfl)
theorem dX0_doesRest_18 : decode cX0_doesRest 18 = .ok (.aload_n 1, 1) := dk_43 (dk_at dksX0_doesRest_0 18 rfl rfl)
theorem dX0_doesRest_19 : decode cX0_doesRest 19 = .ok (.getfield 180, 3) := dk_180 0 180 (dk_at dksX0_doesRest_0 19 rfl rfl)
theorem dX0_doesRest_22 : decode cX0_doesRest 22 = .ok (.iload 4, 2) := dk_21 4 (dk_at dksX0_doesRest_0 22 rfl rfl)
theorem dX0_doesRest_24 : decode cX0_doesRest 24 = .ok (.aaload, 1) := dk_50 (dk_at dksX0_doesRest_1 0 rfl rfl)
theorem dX0_doesRest_25 : decode cX0_doesRest 25 = .ok (.astore 5, 2) := dk_58 5 (dk_at dksX0_doesRest_1 1 rfl rfl)
theorem dX0_doesRest_27 : decode cX0_doesRest 27 = .ok (.aload_n 0, 1) := dk_42 (dk_at dksX0_doesRest_1 3 rfl rfl)
theorem dX0_doesRest_28 : decode cX0_doesRest 28 = .ok (.getfield 98, 3) := dk_180 0 98 (dk_at dksX0_doesRest_1 4 rfl rfl)
theorem dX0_doesRest_31 : decode cX0_doesRest 31 = .ok (.iload 4, 2) := dk_21 4 (dk_at dksX0_doesRest_1 7 rfl rfl)
theorem dX0_doesRest_33 : decode cX0_doesRest 33 = .ok (.iaload, 1) := dk_46 (dk_at dksX0_doesRest_1 9 rfl rfl)
theorem dX0_doesRest_34 : decode cX0_doesRest 34 = .ok (.ifCond .eq 18, 3) := dk_153 0 18 (dk_at dksX0_doesRest_1 10 rfl rfl)
theorem dX0_doesRest_37 : decode cX0_doesRest 37 = .ok (.aload 5, 2) := dk_25 5 (dk_at dksX0_doesRest_1 13 rfl rfl)
theorem dX0_doesRest_39 : decode cX0_doesRest 39 = .ok (.getfield 189, 3) := dk_180 0 189 (dk_at dksX0_doesRest_1 15 rfl rfl)
theorem dX0_doesRest_42 : decode cX0_doesRest 42 = .ok (.aload_n 1, 1) := dk_43 (dk_at dksX0_doesRest_1 18 rfl rfl)
theorem dX0_doesRest_43 : decode cX0_doesRest 43 = .ok (.aload 5, 2) := dk_25 5 (dk_at dksX0_doesRest_1 19 rfl rfl)
theorem dX0_doesRest_45 : decode cX0_doesRest 45 = .ok (.iload_n 2, 1) := dk_28 (dk_at dksX0_doesRest_1 21 rfl rfl)
theorem dX0_doesRest_46 : decode cX0_doesRest 46 = .ok (.invokevirtual 192, 3) := dk_182 0 192 (dk_at dksX0_doesRest_2 0 rfl rfl)
theorem dX0_doesRest_49 : decode cX0_doesRest 49 = .ok (.if_icmp .gt 39, 3) := dk_163 0 39 (dk_at dksX0_doesRest_2 3 rfl rfl)
theorem dX0_doesRest_52 : decode cX0_doesRest 52 = .ok (.aload_n 0, 1) := dk_42 (dk_at dksX0_doesRest_2 6 rfl rfl)
theorem dX0_doesRest_53 : decode cX0_doesRest 53 = .ok (.getfield 98, 3) := dk_180 0 98 (dk_at dksX0_doesRest_2 7 rfl rfl)
theorem dX0_doesRest_56 : decode cX0_doesRest 56 = .ok (.iload 4, 2) := dk_21 4 (dk_at dksX0_doesRest_2 10 rfl rfl)
theorem dX0_doesRest_58 : decode cX0_doesRest 58 = .ok (.iaload, 1) := dk_46 (dk_at dksX0_doesRest_2 12 rfl rfl)
theorem dX0_doesRest_59 : decode cX0_doesRest 59 = .ok (.aload 5, 2) := dk_25 5 (dk_at dksX0_doesRest_2 13 rfl rfl)
theorem dX0_doesRest_61 : decode cX0_doesRest 61 = .ok (.getfield 184, 3) := dk_180 0 184 (dk_at dksX0_doesRest_2 15 rfl rfl)
theorem dX0_doesRest_64 : decode cX0_doesRest 64 = .ok (.if_icmp .eq 20, 3) := dk_159 0 20 (dk_at dksX0_doesRest_2 18 rfl rfl)
theorem dX0_doesRest_67 : decode cX0_doesRest 67 = .ok (.aload_n 1, 1) := dk_43 (dk_at dksX0_doesRest_2 21 rfl rfl)
theorem dX0_doesRest_68 : decode cX0_doesRest 68 = .ok (.aload 5, 2) := dk_25 5 (dk_at dksX0_doesRest_2 22 rfl rfl)
theorem dX0_doesRest_70 : decode cX0_doesRest 70 = .ok (.iload_n 2, 1) := dk_28 (dk_at dksX0_doesRest_3 0 rfl rfl)
theorem dX0_doesRest_71 : decode cX0_doesRest 71 = .ok (.iconst 1, 1) := dk_4 (dk_at dksX0_doesRest_3 1 rfl rfl)
theorem dX0_doesRest_72 : decode cX0_doesRest 72 = .ok (.iadd, 1) := dk_96 (dk_at dksX0_doesRest_3 2 rfl rfl)
theorem dX0_doesRest_73 : decode cX0_doesRest 73 = .ok (.invokevirtual 192, 3) := dk_182 0 192 (dk_at dksX0_doesRest_3 3 rfl rfl)
theorem dX0_doesRest_76 : decode cX0_doesRest 76 = .ok (.aload 5, 2) := dk_25 5 (dk_at dksX0_doesRest_3 6 rfl rfl)
theorem dX0_doesRest_78 : decode cX0_doesRest 78 = .ok (.getfield 189, 3) := dk_180 0 189 (dk_at dksX0_doesRest_3 8 rfl rfl)
theorem dX0_doesRest_81 : decode cX0_doesRest 81 = .ok (.if_icmp .gt 7, 3) := dk_163 0 7 (dk_at dksX0_doesRest_3 11 rfl rfl)
theorem dX0_doesRest_84 : decode cX0_doesRest 84 = .ok (.iconst 1, 1) := dk_4 (dk_at dksX0_doesRest_3 14 rfl rfl)
theorem dX0_doesRest_85 : decode cX0_doesRest 85 = .ok (.goto 4, 3) := dk_167 0 4 (dk_at dksX0_doesRest_3 15 rfl rfl)
theorem dX0_doesRest_88 : decode cX0_doesRest 88 = .ok (.iconst 0, 1) := dk_3 (dk_at dksX0_doesRest_3 18 rfl rfl)
theorem dX0_doesRest_89 : decode cX0_doesRest 89 = .ok (.istore_n 3, 1) := dk_62 (dk_at dksX0_doesRest_3 19 rfl rfl)
theorem dX0_doesRest_90 : decode cX0_doesRest 90 = .ok (.iinc 4 1, 3) := dk_132 4 1 (dk_at dksX0_doesRest_3 20 rfl rfl)
theorem dX0_doesRest_93 : decode cX0_doesRest 93 = .ok (.goto (-88), 3) := dk_167 255 168 (dk_at dksX0_doesRest_4 0 rfl rfl)
theorem dX0_doesRest_96 : decode cX0_doesRest 96 = .ok (.iload_n 3, 1) := dk_29 (dk_at dksX0_doesRest_4 3 rfl rfl)
theorem dX0_doesRest_97 : decode cX0_doesRest 97 = .ok (.ireturn, 1) := dk_172 (dk_at dksX0_doesRest_4 4 rfl rfl)
abbrev cX0_keepRest : ByteArray := prog_1_method_17_code
def yX0_keepRest : MethodName := ⟨RX0, "keepRest", "(II)V"⟩
def dkwX0_keepRest_2 : List UInt8 := [184, 0, 159, 181, 0, 227, 177]
abbrev dktX0_keepRest_2 : List UInt8 := dkwX0_keepRest_2 ++ []
def dkwX0_keepRest_1 : List UInt8 := [180, 0, 101, 3, 7, 184, 0, 230, 42, 89, 180, 0, 196, 4, 96, 181, 0, 196, 42, 42, 180, 0, 227, 28]
abbrev dktX0_keepRest_1 : List UInt8 := dkwX0_keepRest_1 ++ dktX0_keepRest_2
def dkwX0_keepRest_0 : List UInt8 := [42, 180, 0, 196, 154, 0, 27, 42, 27, 181, 0, 224, 42, 28, 181, 0, 227, 42, 180, 0, 98, 3, 42]
abbrev dktX0_keepRest_0 : List UInt8 := dkwX0_keepRest_0 ++ dktX0_keepRest_1
theorem dksX0_keepRest_0 : cX0_keepRest.data.toList.drop 0 = dktX0_keepRest_0 := by decide +kernel
theorem dksX0_keepRest_1 : cX0_keepRest.data.toList.drop 23 = dktX0_keepRest_1 := dk_seg dksX0_keepRest_0 23 rfl rfl
theorem dksX0_keepRest_2 : cX0_keepRest.data.toList.drop 47 = dktX0_keepRest_2 := dk_seg dksX0_keepRest_1 24 rfl rfl
theorem dX0_keepRest_0 : decode cX0_keepRest 0 = .ok (.aload_n 0, 1) := dk_42 (dk_at dksX0_keepRest_0 0 rfl rfl)
theorem dX0_keepRest_1 : decode cX0_keepRest 1 = .ok (.getfield 196, 3) := dk_180 0 196 (dk_at dksX0_keepRest_0 1 rfl rfl)
theorem dX0_keepRest_4 : decode cX0_keepRest 4 = .ok (.ifCond .ne 27, 3) := dk_154 0 27 (dk_at dksX0_keepRest_0 4 rfl rfl)
theorem dX0_keepRest_7 : decode cX0_keepRest 7 = .ok (.aload_n 0, 1) := dk_42 (dk_at dksX0_keepRest_0 7 rfl rfl)
theorem dX0_keepRest_8 : decode cX0_keepRest 8 = .ok (.iload_n 1, 1) := dk_27 (dk_at dksX0_keepRest_0 8 rfl rfl)
theorem dX0_keepRest_9 : decode cX0_keepRest 9 = .ok (.putfield 224, 3) := dk_181 0 224 (dk_at dksX0_keepRest_0 9 rfl rfl)
theorem dX0_keepRest_12 : decode cX0_keepRest 12 = .ok (.aload_n 0, 1) := dk_42 (dk_at dksX0_keepRest_0 12 rfl rfl)
theorem dX0_keepRest_13 : decode cX0_keepRest 13 = .ok (.iload_n 2, 1) := dk_28 (dk_at dksX0_keepRest_0 13 rfl rfl)
theorem dX0_keepRest_14 : decode cX0_keepRest 14 = .ok (.putfield 227, 3) := dk_181 0 227 (dk_at dksX0_keepRest_0 14 rfl rfl)
theorem dX0_keepRest_17 : decode cX0_keepRest 17 = .ok (.aload_n 0, 1) := dk_42 (dk_at dksX0_keepRest_0 17 rfl rfl)
theorem dX0_keepRest_18 : decode cX0_keepRest 18 = .ok (.getfield 98, 3) := dk_180 0 98 (dk_at dksX0_keepRest_0 18 rfl rfl)
theorem dX0_keepRest_21 : decode cX0_keepRest 21 = .ok (.iconst 0, 1) := dk_3 (dk_at dksX0_keepRest_0 21 rfl rfl)
theorem dX0_keepRest_22 : decode cX0_keepRest 22 = .ok (.aload_n 0, 1) := dk_42 (dk_at dksX0_keepRest_0 22 rfl rfl)
theorem dX0_keepRest_23 : decode cX0_keepRest 23 = .ok (.getfield 101, 3) := dk_180 0 101 (dk_at dksX0_keepRest_1 0 rfl rfl)
theorem dX0_keepRest_26 : decode cX0_keepRest 26 = .ok (.iconst 0, 1) := dk_3 (dk_at dksX0_keepRest_1 3 rfl rfl)
theorem dX0_keepRest_27 : decode cX0_keepRest 27 = .ok (.iconst 4, 1) := dk_7 (dk_at dksX0_keepRest_1 4 rfl rfl)
theorem dX0_keepRest_28 : decode cX0_keepRest 28 = .ok (.invokestatic 230, 3) := dk_184 0 230 (dk_at dksX0_keepRest_1 5 rfl rfl)
theorem dX0_keepRest_31 : decode cX0_keepRest 31 = .ok (.aload_n 0, 1) := dk_42 (dk_at dksX0_keepRest_1 8 rfl rfl)
theorem dX0_keepRest_32 : decode cX0_keepRest 32 = .ok (.dup, 1) := dk_89 (dk_at dksX0_keepRest_1 9 rfl rfl)
theorem dX0_keepRest_33 : decode cX0_keepRest 33 = .ok (.getfield 196, 3) := dk_180 0 196 (dk_at dksX0_keepRest_1 10 rfl rfl)
theorem dX0_keepRest_36 : decode cX0_keepRest 36 = .ok (.iconst 1, 1) := dk_4 (dk_at dksX0_keepRest_1 13 rfl rfl)
theorem dX0_keepRest_37 : decode cX0_keepRest 37 = .ok (.iadd, 1) := dk_96 (dk_at dksX0_keepRest_1 14 rfl rfl)
theorem dX0_keepRest_38 : decode cX0_keepRest 38 = .ok (.putfield 196, 3) := dk_181 0 196 (dk_at dksX0_keepRest_1 15 rfl rfl)
theorem dX0_keepRest_41 : decode cX0_keepRest 41 = .ok (.aload_n 0, 1) := dk_42 (dk_at dksX0_keepRest_1 18 rfl rfl)
theorem dX0_keepRest_42 : decode cX0_keepRest 42 = .ok (.aload_n 0, 1) := dk_42 (dk_at dksX0_keepRest_1 19 rfl rfl)
theorem dX0_keepRest_43 : decode cX0_keepRest 43 = .ok (.getfield 227, 3) := dk_180 0 227 (dk_at dksX0_keepRest_1 20 rfl rfl)
theorem dX0_keepRest_46 : decode cX0_keepRest 46 = .ok (.iload_n 2, 1) := dk_28 (dk_at dksX0_keepRest_1 23 rfl rfl)
theorem dX0_keepRest_47 : decode cX0_keepRest 47 = .ok (.invokestatic 159, 3) := dk_184 0 159 (dk_at dksX0_keepRest_2 0 rfl rfl)
theorem dX0_keepRest_50 : decode cX0_keepRest 50 = .ok (.putfield 227, 3) := dk_181 0 227 (dk_at dksX0_keepRest_2 3 rfl rfl)
theorem dX0_keepRest_53 : decode cX0_keepRest 53 = .ok (.return_, 1) := dk_177 (dk_at dksX0_keepRest_2 6 rfl rfl)
abbrev cX0_nextPlan : ByteArray := prog_1_method_13_code
def yX0_nextPlan : MethodName := ⟨RX0, "nextPlan", "()Z"⟩
def dkwX0_nextPlan_2 : List UInt8 := [180, 0, 98, 27, 3, 79, 132, 1, 255, 167, 255, 209, 3, 172]
abbrev dktX0_nextPlan_2 : List UInt8 := dkwX0_nextPlan_2 ++ []
def dkwX0_nextPlan_1 : List UInt8 := [42, 180, 0, 98, 27, 46, 42, 180, 0, 73, 180, 0, 180, 27, 50, 180, 0, 184, 163, 0, 5, 4, 172, 42]
abbrev dktX0_nextPlan_1 : List UInt8 := dkwX0_nextPlan_1 ++ dktX0_nextPlan_2
def dkwX0_nextPlan_0 : List UInt8 := [42, 180, 0, 73, 180, 0, 177, 4, 100, 60, 27, 155, 0, 49, 42, 180, 0, 98, 27, 92, 46, 4, 96, 79]
abbrev dktX0_nextPlan_0 : List UInt8 := dkwX0_nextPlan_0 ++ dktX0_nextPlan_1
theorem dksX0_nextPlan_0 : cX0_nextPlan.data.toList.drop 0 = dktX0_nextPlan_0 := by decide +kernel
theorem dksX0_nextPlan_1 : cX0_nextPlan.data.toList.drop 24 = dktX0_nextPlan_1 := dk_seg dksX0_nextPlan_0 24 rfl rfl
theorem dksX0_nextPlan_2 : cX0_nextPlan.data.toList.drop 48 = dktX0_nextPlan_2 := dk_seg dksX0_nextPlan_1 24 rfl rfl
theorem dX0_nextPlan_0 : decode cX0_nextPlan 0 = .ok (.aload_n 0, 1) := dk_42 (dk_at dksX0_nextPlan_0 0 rfl rfl)
theorem dX0_nextPlan_1 : decode cX0_nextPlan 1 = .ok (.getfield 73, 3) := dk_180 0 73 (dk_at dksX0_nextPlan_0 1 rfl rfl)
theorem dX0_nextPlan_4 : decode cX0_nextPlan 4 = .ok (.getfield 177, 3) := dk_180 0 177 (dk_at dksX0_nextPlan_0 4 rfl rfl)
theorem dX0_nextPlan_7 : decode cX0_nextPlan 7 = .ok (.iconst 1, 1) := dk_4 (dk_at dksX0_nextPlan_0 7 rfl rfl)
theorem dX0_nextPlan_8 : decode cX0_nextPlan 8 = .ok (.isub, 1) := dk_100 (dk_at dksX0_nextPlan_0 8 rfl rfl)
theorem dX0_nextPlan_9 : decode cX0_nextPlan 9 = .ok (.istore_n 1, 1) := dk_60 (dk_at dksX0_nextPlan_0 9 rfl rfl)
theorem dX0_nextPlan_10 : decode cX0_nextPlan 10 = .ok (.iload_n 1, 1) := dk_27 (dk_at dksX0_nextPlan_0 10 rfl rfl)
theorem dX0_nextPlan_11 : decode cX0_nextPlan 11 = .ok (.ifCond .lt 49, 3) := dk_155 0 49 (dk_at dksX0_nextPlan_0 11 rfl rfl)
theorem dX0_nextPlan_14 : decode cX0_nextPlan 14 = .ok (.aload_n 0, 1) := dk_42 (dk_at dksX0_nextPlan_0 14 rfl rfl)
theorem dX0_nextPlan_15 : decode cX0_nextPlan 15 = .ok (.getfield 98, 3) := dk_180 0 98 (dk_at dksX0_nextPlan_0 15 rfl rfl)
theorem dX0_nextPlan_18 : decode cX0_nextPlan 18 = .ok (.iload_n 1, 1) := dk_27 (dk_at dksX0_nextPlan_0 18 rfl rfl)
theorem dX0_nextPlan_19 : decode cX0_nextPlan 19 = .ok (.dup2, 1) := dk_92 (dk_at dksX0_nextPlan_0 19 rfl rfl)
theorem dX0_nextPlan_20 : decode cX0_nextPlan 20 = .ok (.iaload, 1) := dk_46 (dk_at dksX0_nextPlan_0 20 rfl rfl)
theorem dX0_nextPlan_21 : decode cX0_nextPlan 21 = .ok (.iconst 1, 1) := dk_4 (dk_at dksX0_nextPlan_0 21 rfl rfl)
theorem dX0_nextPlan_22 : decode cX0_nextPlan 22 = .ok (.iadd, 1) := dk_96 (dk_at dksX0_nextPlan_0 22 rfl rfl)
theorem dX0_nextPlan_23 : decode cX0_nextPlan 23 = .ok (.iastore, 1) := dk_79 (dk_at dksX0_nextPlan_0 23 rfl rfl)
theorem dX0_nextPlan_24 : decode cX0_nextPlan 24 = .ok (.aload_n 0, 1) := dk_42 (dk_at dksX0_nextPlan_1 0 rfl rfl)
theorem dX0_nextPlan_25 : decode cX0_nextPlan 25 = .ok (.getfield 98, 3) := dk_180 0 98 (dk_at dksX0_nextPlan_1 1 rfl rfl)
theorem dX0_nextPlan_28 : decode cX0_nextPlan 28 = .ok (.iload_n 1, 1) := dk_27 (dk_at dksX0_nextPlan_1 4 rfl rfl)
theorem dX0_nextPlan_29 : decode cX0_nextPlan 29 = .ok (.iaload, 1) := dk_46 (dk_at dksX0_nextPlan_1 5 rfl rfl)
theorem dX0_nextPlan_30 : decode cX0_nextPlan 30 = .ok (.aload_n 0, 1) := dk_42 (dk_at dksX0_nextPlan_1 6 rfl rfl)
theorem dX0_nextPlan_31 : decode cX0_nextPlan 31 = .ok (.getfield 73, 3) := dk_180 0 73 (dk_at dksX0_nextPlan_1 7 rfl rfl)
theorem dX0_nextPlan_34 : decode cX0_nextPlan 34 = .ok (.getfield 180, 3) := dk_180 0 180 (dk_at dksX0_nextPlan_1 10 rfl rfl)
theorem dX0_nextPlan_37 : decode cX0_nextPlan 37 = .ok (.iload_n 1, 1) := dk_27 (dk_at dksX0_nextPlan_1 13 rfl rfl)
theorem dX0_nextPlan_38 : decode cX0_nextPlan 38 = .ok (.aaload, 1) := dk_50 (dk_at dksX0_nextPlan_1 14 rfl rfl)
theorem dX0_nextPlan_39 : decode cX0_nextPlan 39 = .ok (.getfield 184, 3) := dk_180 0 184 (dk_at dksX0_nextPlan_1 15 rfl rfl)
theorem dX0_nextPlan_42 : decode cX0_nextPlan 42 = .ok (.if_icmp .gt 5, 3) := dk_163 0 5 (dk_at dksX0_nextPlan_1 18 rfl rfl)
theorem dX0_nextPlan_45 : decode cX0_nextPlan 45 = .ok (.iconst 1, 1) := dk_4 (dk_at dksX0_nextPlan_1 21 rfl rfl)
theorem dX0_nextPlan_46 : decode cX0_nextPlan 46 = .ok (.ireturn, 1) := dk_172 (dk_at dksX0_nextPlan_1 22 rfl rfl)
theorem dX0_nextPlan_47 : decode cX0_nextPlan 47 = .ok (.aload_n 0, 1) := dk_42 (dk_at dksX0_nextPlan_1 23 rfl rfl)
theorem dX0_nextPlan_48 : decode cX0_nextPlan 48 = .ok (.getfield 98, 3) := dk_180 0 98 (dk_at dksX0_nextPlan_2 0 rfl rfl)
theorem dX0_nextPlan_51 : decode cX0_nextPlan 51 = .ok (.iload_n 1, 1) := dk_27 (dk_at dksX0_nextPlan_2 3 rfl rfl)
theorem dX0_nextPlan_52 : decode cX0_nextPlan 52 = .ok (.iconst 0, 1) := dk_3 (dk_at dksX0_nextPlan_2 4 rfl rfl)
theorem dX0_nextPlan_53 : decode cX0_nextPlan 53 = .ok (.iastore, 1) := dk_79 (dk_at dksX0_nextPlan_2 5 rfl rfl)
theorem dX0_nextPlan_54 : decode cX0_nextPlan 54 = .ok (.iinc 1 (-1), 3) := dk_132 1 255 (dk_at dksX0_nextPlan_2 6 rfl rfl)
theorem dX0_nextPlan_57 : decode cX0_nextPlan 57 = .ok (.goto (-47), 3) := dk_167 255 209 (dk_at dksX0_nextPlan_2 9 rfl rfl)
theorem dX0_nextPlan_60 : decode cX0_nextPlan 60 = .ok (.iconst 0, 1) := dk_3 (dk_at dksX0_nextPlan_2 12 rfl rfl)
theorem dX0_nextPlan_61 : decode cX0_nextPlan 61 = .ok (.ireturn, 1) := dk_172 (dk_at dksX0_nextPlan_2 13 rfl rfl)
abbrev cX0_restTold : ByteArray := prog_1_method_39_code
def yX0_restTold : MethodName := ⟨RX0, "restTold", "(I)I"⟩
def dkwX0_restTold_2 : List UInt8 := [16, 247, 167, 0, 20, 27, 156, 0, 10, 42, 180, 0, 224, 167, 0, 9, 42, 180, 0, 101, 27, 46, 172]
abbrev dktX0_restTold_2 : List UInt8 := dkwX0_restTold_2 ++ []
def dkwX0_restTold_1 : List UInt8 := [4, 167, 0, 4, 3, 2, 184, 0, 9, 42, 42, 180, 0, 73, 182, 0, 239, 42, 180, 0, 196, 154, 0, 8]
abbrev dktX0_restTold_1 : List UInt8 := dkwX0_restTold_1 ++ dktX0_restTold_2
def dkwX0_restTold_0 : List UInt8 := [27, 2, 159, 0, 22, 27, 133, 9, 42, 180, 0, 73, 180, 0, 177, 4, 100, 133, 184, 0, 13, 153, 0, 7]
abbrev dktX0_restTold_0 : List UInt8 := dkwX0_restTold_0 ++ dktX0_restTold_1
theorem dksX0_restTold_0 : cX0_restTold.data.toList.drop 0 = dktX0_restTold_0 := by decide +kernel
theorem dksX0_restTold_1 : cX0_restTold.data.toList.drop 24 = dktX0_restTold_1 := dk_seg dksX0_restTold_0 24 rfl rfl
theorem dksX0_restTold_2 : cX0_restTold.data.toList.drop 48 = dktX0_restTold_2 := dk_seg dksX0_restTold_1 24 rfl rfl
theorem dX0_restTold_0 : decode cX0_restTold 0 = .ok (.iload_n 1, 1) := dk_27 (dk_at dksX0_restTold_0 0 rfl rfl)
theorem dX0_restTold_1 : decode cX0_restTold 1 = .ok (.iconst (-1), 1) := dk_2 (dk_at dksX0_restTold_0 1 rfl rfl)
theorem dX0_restTold_2 : decode cX0_restTold 2 = .ok (.if_icmp .eq 22, 3) := dk_159 0 22 (dk_at dksX0_restTold_0 2 rfl rfl)
theorem dX0_restTold_5 : decode cX0_restTold 5 = .ok (.iload_n 1, 1) := dk_27 (dk_at dksX0_restTold_0 5 rfl rfl)
theorem dX0_restTold_6 : decode cX0_restTold 6 = .ok (.i2l, 1) := dk_133 (dk_at dksX0_restTold_0 6 rfl rfl)
theorem dX0_restTold_7 : decode cX0_restTold 7 = .ok (.lconst 0, 1) := dk_9 (dk_at dksX0_restTold_0 7 rfl rfl)
theorem dX0_restTold_8 : decode cX0_restTold 8 = .ok (.aload_n 0, 1) := dk_42 (dk_at dksX0_restTold_0 8 rfl rfl)
theorem dX0_restTold_9 : decode cX0_restTold 9 = .ok (.getfield 73, 3) := dk_180 0 73 (dk_at dksX0_restTold_0 9 rfl rfl)
theorem dX0_restTold_12 : decode cX0_restTold 12 = .ok (.getfield 177, 3) := dk_180 0 177 (dk_at dksX0_restTold_0 12 rfl rfl)
theorem dX0_restTold_15 : decode cX0_restTold 15 = .ok (.iconst 1, 1) := dk_4 (dk_at dksX0_restTold_0 15 rfl rfl)
theorem dX0_restTold_16 : decode cX0_restTold 16 = .ok (.isub, 1) := dk_100 (dk_at dksX0_restTold_0 16 rfl rfl)
theorem dX0_restTold_17 : decode cX0_restTold 17 = .ok (.i2l, 1) := dk_133 (dk_at dksX0_restTold_0 17 rfl rfl)
theorem dX0_restTold_18 : decode cX0_restTold 18 = .ok (.invokestatic 13, 3) := dk_184 0 13 (dk_at dksX0_restTold_0 18 rfl rfl)
theorem dX0_restTold_21 : decode cX0_restTold 21 = .ok (.ifCond .eq 7, 3) := dk_153 0 7 (dk_at dksX0_restTold_0 21 rfl rfl)
theorem dX0_restTold_24 : decode cX0_restTold 24 = .ok (.iconst 1, 1) := dk_4 (dk_at dksX0_restTold_1 0 rfl rfl)
theorem dX0_restTold_25 : decode cX0_restTold 25 = .ok (.goto 4, 3) := dk_167 0 4 (dk_at dksX0_restTold_1 1 rfl rfl)
theorem dX0_restTold_28 : decode cX0_restTold 28 = .ok (.iconst 0, 1) := dk_3 (dk_at dksX0_restTold_1 4 rfl rfl)
theorem dX0_restTold_29 : decode cX0_restTold 29 = .ok (.iconst (-1), 1) := dk_2 (dk_at dksX0_restTold_1 5 rfl rfl)
theorem dX0_restTold_30 : decode cX0_restTold 30 = .ok (.invokestatic 9, 3) := dk_184 0 9 (dk_at dksX0_restTold_1 6 rfl rfl)
theorem dX0_restTold_33 : decode cX0_restTold 33 = .ok (.aload_n 0, 1) := dk_42 (dk_at dksX0_restTold_1 9 rfl rfl)
theorem dX0_restTold_34 : decode cX0_restTold 34 = .ok (.aload_n 0, 1) := dk_42 (dk_at dksX0_restTold_1 10 rfl rfl)
theorem dX0_restTold_35 : decode cX0_restTold 35 = .ok (.getfield 73, 3) := dk_180 0 73 (dk_at dksX0_restTold_1 11 rfl rfl)
theorem dX0_restTold_38 : decode cX0_restTold 38 = .ok (.invokevirtual 239, 3) := dk_182 0 239 (dk_at dksX0_restTold_1 14 rfl rfl)
theorem dX0_restTold_41 : decode cX0_restTold 41 = .ok (.aload_n 0, 1) := dk_42 (dk_at dksX0_restTold_1 17 rfl rfl)
theorem dX0_restTold_42 : decode cX0_restTold 42 = .ok (.getfield 196, 3) := dk_180 0 196 (dk_at dksX0_restTold_1 18 rfl rfl)
theorem dX0_restTold_45 : decode cX0_restTold 45 = .ok (.ifCond .ne 8, 3) := dk_154 0 8 (dk_at dksX0_restTold_1 21 rfl rfl)
theorem dX0_restTold_48 : decode cX0_restTold 48 = .ok (.bipush (-9), 2) := dk_16 247 (dk_at dksX0_restTold_2 0 rfl rfl)
theorem dX0_restTold_50 : decode cX0_restTold 50 = .ok (.goto 20, 3) := dk_167 0 20 (dk_at dksX0_restTold_2 2 rfl rfl)
theorem dX0_restTold_53 : decode cX0_restTold 53 = .ok (.iload_n 1, 1) := dk_27 (dk_at dksX0_restTold_2 5 rfl rfl)
theorem dX0_restTold_54 : decode cX0_restTold 54 = .ok (.ifCond .ge 10, 3) := dk_156 0 10 (dk_at dksX0_restTold_2 6 rfl rfl)
theorem dX0_restTold_57 : decode cX0_restTold 57 = .ok (.aload_n 0, 1) := dk_42 (dk_at dksX0_restTold_2 9 rfl rfl)
theorem dX0_restTold_58 : decode cX0_restTold 58 = .ok (.getfield 224, 3) := dk_180 0 224 (dk_at dksX0_restTold_2 10 rfl rfl)
theorem dX0_restTold_61 : decode cX0_restTold 61 = .ok (.goto 9, 3) := dk_167 0 9 (dk_at dksX0_restTold_2 13 rfl rfl)
theorem dX0_restTold_64 : decode cX0_restTold 64 = .ok (.aload_n 0, 1) := dk_42 (dk_at dksX0_restTold_2 16 rfl rfl)
theorem dX0_restTold_65 : decode cX0_restTold 65 = .ok (.getfield 101, 3) := dk_180 0 101 (dk_at dksX0_restTold_2 17 rfl rfl)
theorem dX0_restTold_68 : decode cX0_restTold 68 = .ok (.iload_n 1, 1) := dk_27 (dk_at dksX0_restTold_2 20 rfl rfl)
theorem dX0_restTold_69 : decode cX0_restTold 69 = .ok (.iaload, 1) := dk_46 (dk_at dksX0_restTold_2 21 rfl rfl)
theorem dX0_restTold_70 : decode cX0_restTold 70 = .ok (.ireturn, 1) := dk_172 (dk_at dksX0_restTold_2 22 rfl rfl)
