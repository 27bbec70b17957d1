set_option maxRecDepth 100000
abbrev cX1_bombs : ByteArray := prog_1_method_42_code
def yX1_bombs : MethodName := ⟨RX1, "bombs", "(I)I"⟩
def dkwX1_bombs_3 : List UInt8 := [183, 1, 26, 182, 1, 27, 101, 136, 172]
abbrev dktX1_bombs_3 : List UInt8 := dkwX1_bombs_3 ++ []
def dkwX1_bombs_2 : List UInt8 := [29, 46, 182, 1, 73, 182, 0, 219, 132, 3, 1, 167, 255, 226, 20, 1, 65, 42, 27, 187, 1, 24, 89, 4]
abbrev dktX1_bombs_2 : List UInt8 := dkwX1_bombs_2 ++ dktX1_bombs_3
def dkwX1_bombs_1 : List UInt8 := [181, 0, 103, 3, 62, 29, 6, 162, 0, 31, 42, 42, 44, 29, 44, 180, 1, 67, 29, 46, 44, 180, 1, 70]
abbrev dktX1_bombs_1 : List UInt8 := dkwX1_bombs_1 ++ dktX1_bombs_2
def dkwX1_bombs_0 : List UInt8 := [42, 27, 182, 0, 151, 154, 0, 5, 2, 172, 42, 180, 0, 36, 27, 182, 0, 162, 192, 0, 2, 77, 42, 3]
abbrev dktX1_bombs_0 : List UInt8 := dkwX1_bombs_0 ++ dktX1_bombs_1
theorem dksX1_bombs_0 : cX1_bombs.data.toList.drop 0 = dktX1_bombs_0 := by decide +kernel
theorem dksX1_bombs_1 : cX1_bombs.data.toList.drop 24 = dktX1_bombs_1 := dk_seg dksX1_bombs_0 24 rfl rfl
theorem dksX1_bombs_2 : cX1_bombs.data.toList.drop 48 = dktX1_bombs_2 := dk_seg dksX1_bombs_1 24 rfl rfl
theorem dksX1_bombs_3 : cX1_bombs.data.toList.drop 72 = dktX1_bombs_3 := dk_seg dksX1_bombs_2 24 rfl rfl
theorem dX1_bombs_0 : decode cX1_bombs 0 = .ok (.aload_n 0, 1) := dk_42 (dk_at dksX1_bombs_0 0 rfl rfl)
theorem dX1_bombs_1 : decode cX1_bombs 1 = .ok (.iload_n 1, 1) := dk_27 (dk_at dksX1_bombs_0 1 rfl rfl)
theorem dX1_bombs_2 : decode cX1_bombs 2 = .ok (.invokevirtual 151, 3) := dk_182 0 151 (dk_at dksX1_bombs_0 2 rfl rfl)
theorem dX1_bombs_5 : decode cX1_bombs 5 = .ok (.ifCond .ne 5, 3) := dk_154 0 5 (dk_at dksX1_bombs_0 5 rfl rfl)
theorem dX1_bombs_8 : decode cX1_bombs 8 = .ok (.iconst (-1), 1) := dk_2 (dk_at dksX1_bombs_0 8 rfl rfl)
theorem dX1_bombs_9 : decode cX1_bombs 9 = .ok (.ireturn, 1) := dk_172 (dk_at dksX1_bombs_0 9 rfl rfl)
theorem dX1_bombs_10 : decode cX1_bombs 10 = .ok (.aload_n 0, 1) := dk_42 (dk_at dksX1_bombs_0 10 rfl rfl)
theorem dX1_bombs_11 : decode cX1_bombs 11 = .ok (.getfield 36, 3) := dk_180 0 36 (dk_at dksX1_bombs_0 11 rfl rfl)
theorem dX1_bombs_14 : decode cX1_bombs 14 = .ok (.iload_n 1, 1) := dk_27 (dk_at dksX1_bombs_0 14 rfl rfl)
theorem dX1_bombs_15 : decode cX1_bombs 15 = .ok (.invokevirtual 162, 3) := dk_182 0 162 (dk_at dksX1_bombs_0 15 rfl rfl)
theorem dX1_bombs_18 : decode cX1_bombs 18 = .ok (.checkcast 2, 3) := dk_192 0 2 (dk_at dksX1_bombs_0 18 rfl rfl)
theorem dX1_bombs_21 : decode cX1_bombs 21 = .ok (.astore_n 2, 1) := dk_77 (dk_at dksX1_bombs_0 21 rfl rfl)
theorem dX1_bombs_22 : decode cX1_bombs 22 = .ok (.aload_n 0, 1) := dk_42 (dk_at dksX1_bombs_0 22 rfl rfl)
theorem dX1_bombs_23 : decode cX1_bombs 23 = .ok (.iconst 0, 1) := dk_3 (dk_at dksX1_bombs_0 23 rfl rfl)
theorem dX1_bombs_24 : decode cX1_bombs 24 = .ok (.putfield 103, 3) := dk_181 0 103 (dk_at dksX1_bombs_1 0 rfl rfl)
theorem dX1_bombs_27 : decode cX1_bombs 27 = .ok (.iconst 0, 1) := dk_3 (dk_at dksX1_bombs_1 3 rfl rfl)
theorem dX1_bombs_28 : decode cX1_bombs 28 = .ok (.istore_n 3, 1) := dk_62 (dk_at dksX1_bombs_1 4 rfl rfl)
theorem dX1_bombs_29 : decode cX1_bombs 29 = .ok (.iload_n 3, 1) := dk_29 (dk_at dksX1_bombs_1 5 rfl rfl)
theorem dX1_bombs_30 : decode cX1_bombs 30 = .ok (.iconst 3, 1) := dk_6 (dk_at dksX1_bombs_1 6 rfl rfl)
theorem dX1_bombs_31 : decode cX1_bombs 31 = .ok (.if_icmp .ge 31, 3) := dk_162 0 31 (dk_at dksX1_bombs_1 7 rfl rfl)
theorem dX1_bombs_34 : decode cX1_bombs 34 = .ok (.aload_n 0, 1) := dk_42 (dk_at dksX1_bombs_1 10 rfl rfl)
theorem dX1_bombs_35 : decode cX1_bombs 35 = .ok (.aload_n 0, 1) := dk_42 (dk_at dksX1_bombs_1 11 rfl rfl)
theorem dX1_bombs_36 : decode cX1_bombs 36 = .ok (.aload_n 2, 1) := dk_44 (dk_at dksX1_bombs_1 12 rfl rfl)
theorem dX1_bombs_37 : decode cX1_bombs 37 = .ok (.iload_n 3, 1) := dk_29 (dk_at dksX1_bombs_1 13 rfl rfl)
theorem dX1_bombs_38 : decode cX1_bombs 38 = .ok (.aload_n 2, 1) := dk_44 (dk_at dksX1_bombs_1 14 rfl rfl)
theorem dX1_bombs_39 : decode cX1_bombs 39 = .ok (.getfield 323, 3) := dk_180 1 67 (dk_at dksX1_bombs_1 15 rfl rfl)
theorem dX1_bombs_42 : decode cX1_bombs 42 = .ok (.iload_n 3, 1) := dk_29 (dk_at dksX1_bombs_1 18 rfl rfl)
theorem dX1_bombs_43 : decode cX1_bombs 43 = .ok (.iaload, 1) := dk_46 (dk_at dksX1_bombs_1 19 rfl rfl)
theorem dX1_bombs_44 : decode cX1_bombs 44 = .ok (.aload_n 2, 1) := dk_44 (dk_at dksX1_bombs_1 20 rfl rfl)
theorem dX1_bombs_45 : decode cX1_bombs 45 = .ok (.getfield 326, 3) := dk_180 1 70 (dk_at dksX1_bombs_1 21 rfl rfl)
theorem dX1_bombs_48 : decode cX1_bombs 48 = .ok (.iload_n 3, 1) := dk_29 (dk_at dksX1_bombs_2 0 rfl rfl)
theorem dX1_bombs_49 : decode cX1_bombs 49 = .ok (.iaload, 1) := dk_46 (dk_at dksX1_bombs_2 1 rfl rfl)
theorem dX1_bombs_50 : decode cX1_bombs 50 = .ok (.invokevirtual 329, 3) := dk_182 1 73 (dk_at dksX1_bombs_2 2 rfl rfl)
theorem dX1_bombs_53 : decode cX1_bombs 53 = .ok (.invokevirtual 219, 3) := dk_182 0 219 (dk_at dksX1_bombs_2 5 rfl rfl)
theorem dX1_bombs_56 : decode cX1_bombs 56 = .ok (.iinc 3 1, 3) := dk_132 3 1 (dk_at dksX1_bombs_2 8 rfl rfl)
theorem dX1_bombs_59 : decode cX1_bombs 59 = .ok (.goto (-30), 3) := dk_167 255 226 (dk_at dksX1_bombs_2 11 rfl rfl)
theorem dX1_bombs_62 : decode cX1_bombs 62 = .ok (.ldc2_w 321, 3) := dk_20 1 65 (dk_at dksX1_bombs_2 14 rfl rfl)
theorem dX1_bombs_65 : decode cX1_bombs 65 = .ok (.aload_n 0, 1) := dk_42 (dk_at dksX1_bombs_2 17 rfl rfl)
theorem dX1_bombs_66 : decode cX1_bombs 66 = .ok (.iload_n 1, 1) := dk_27 (dk_at dksX1_bombs_2 18 rfl rfl)
theorem dX1_bombs_67 : decode cX1_bombs 67 = .ok (.new 280, 3) := dk_187 1 24 (dk_at dksX1_bombs_2 19 rfl rfl)
theorem dX1_bombs_70 : decode cX1_bombs 70 = .ok (.dup, 1) := dk_89 (dk_at dksX1_bombs_2 22 rfl rfl)
theorem dX1_bombs_71 : decode cX1_bombs 71 = .ok (.iconst 1, 1) := dk_4 (dk_at dksX1_bombs_2 23 rfl rfl)
theorem dX1_bombs_72 : decode cX1_bombs 72 = .ok (.invokespecial 282, 3) := dk_183 1 26 (dk_at dksX1_bombs_3 0 rfl rfl)
theorem dX1_bombs_75 : decode cX1_bombs 75 = .ok (.invokevirtual 283, 3) := dk_182 1 27 (dk_at dksX1_bombs_3 3 rfl rfl)
theorem dX1_bombs_78 : decode cX1_bombs 78 = .ok (.lsub, 1) := dk_101 (dk_at dksX1_bombs_3 6 rfl rfl)
theorem dX1_bombs_79 : decode cX1_bombs 79 = .ok (.l2i, 1) := dk_136 (dk_at dksX1_bombs_3 7 rfl rfl)
theorem dX1_bombs_80 : decode cX1_bombs 80 = .ok (.ireturn, 1) := dk_172 (dk_at dksX1_bombs_3 8 rfl rfl)
abbrev cX1_missed : ByteArray := prog_1_method_41_code
def yX1_missed : MethodName := ⟨RX1, "missed", "(LNextLoad$Lifter;III)J"⟩
def dkwX1_missed_2 : List UInt8 := [21, 7, 21, 4, 96, 54, 7, 132, 8, 1, 167, 255, 209, 22, 5, 173]
abbrev dktX1_missed_2 : List UInt8 := dkwX1_missed_2 ++ []
def dkwX1_missed_1 : List UInt8 := [22, 5, 17, 3, 232, 42, 43, 28, 21, 7, 21, 8, 182, 0, 171, 100, 133, 105, 20, 1, 12, 109, 55, 5]
abbrev dktX1_missed_1 : List UInt8 := dkwX1_missed_1 ++ dktX1_missed_2
def dkwX1_missed_0 : List UInt8 := [20, 1, 65, 55, 5, 29, 54, 7, 3, 54, 8, 21, 8, 6, 162, 0, 47, 21, 7, 16, 40, 163, 0, 40]
abbrev dktX1_missed_0 : List UInt8 := dkwX1_missed_0 ++ dktX1_missed_1
theorem dksX1_missed_0 : cX1_missed.data.toList.drop 0 = dktX1_missed_0 := by decide +kernel
theorem dksX1_missed_1 : cX1_missed.data.toList.drop 24 = dktX1_missed_1 := dk_seg dksX1_missed_0 24 rfl rfl
theorem dksX1_missed_2 : cX1_missed.data.toList.drop 48 = dktX1_missed_2 := dk_seg dksX1_missed_1 24 rfl rfl
theorem dX1_missed_0 : decode cX1_missed 0 = .ok (.ldc2_w 321, 3) := dk_20 1 65 (dk_at dksX1_missed_0 0 rfl rfl)
theorem dX1_missed_3 : decode cX1_missed 3 = .ok (.lstore 5, 2) := dk_55 5 (dk_at dksX1_missed_0 3 rfl rfl)
theorem dX1_missed_5 : decode cX1_missed 5 = .ok (.iload_n 3, 1) := dk_29 (dk_at dksX1_missed_0 5 rfl rfl)
theorem dX1_missed_6 : decode cX1_missed 6 = .ok (.istore 7, 2) := dk_54 7 (dk_at dksX1_missed_0 6 rfl rfl)
theorem dX1_missed_8 : decode cX1_missed 8 = .ok (.iconst 0, 1) := dk_3 (dk_at dksX1_missed_0 8 rfl rfl)
theorem dX1_missed_9 : decode cX1_missed 9 = .ok (.istore 8, 2) := dk_54 8 (dk_at dksX1_missed_0 9 rfl rfl)
theorem dX1_missed_11 : decode cX1_missed 11 = .ok (.iload 8, 2) := dk_21 8 (dk_at dksX1_missed_0 11 rfl rfl)
theorem dX1_missed_13 : decode cX1_missed 13 = .ok (.iconst 3, 1) := dk_6 (dk_at dksX1_missed_0 13 rfl rfl)
theorem dX1_missed_14 : decode cX1_missed 14 = .ok (.if_icmp .ge 47, 3) := dk_162 0 47 (dk_at dksX1_missed_0 14 rfl rfl)
theorem dX1_missed_17 : decode cX1_missed 17 = .ok (.iload 7, 2) := dk_21 7 (dk_at dksX1_missed_0 17 rfl rfl)
theorem dX1_missed_19 : decode cX1_missed 19 = .ok (.bipush 40, 2) := dk_16 40 (dk_at dksX1_missed_0 19 rfl rfl)
theorem dX1_missed_21 : decode cX1_missed 21 = .ok (.if_icmp .gt 40, 3) := dk_163 0 40 (dk_at dksX1_missed_0 21 rfl rfl)
theorem dX1_missed_24 : decode cX1_missed 24 = .ok (.lload 5, 2) := dk_22 5 (dk_at dksX1_missed_1 0 rfl rfl)
theorem dX1_missed_26 : decode cX1_missed 26 = .ok (.sipush 1000, 3) := dk_17 3 232 (dk_at dksX1_missed_1 2 rfl rfl)
theorem dX1_missed_29 : decode cX1_missed 29 = .ok (.aload_n 0, 1) := dk_42 (dk_at dksX1_missed_1 5 rfl rfl)
theorem dX1_missed_30 : decode cX1_missed 30 = .ok (.aload_n 1, 1) := dk_43 (dk_at dksX1_missed_1 6 rfl rfl)
theorem dX1_missed_31 : decode cX1_missed 31 = .ok (.iload_n 2, 1) := dk_28 (dk_at dksX1_missed_1 7 rfl rfl)
theorem dX1_missed_32 : decode cX1_missed 32 = .ok (.iload 7, 2) := dk_21 7 (dk_at dksX1_missed_1 8 rfl rfl)
theorem dX1_missed_34 : decode cX1_missed 34 = .ok (.iload 8, 2) := dk_21 8 (dk_at dksX1_missed_1 10 rfl rfl)
theorem dX1_missed_36 : decode cX1_missed 36 = .ok (.invokevirtual 171, 3) := dk_182 0 171 (dk_at dksX1_missed_1 12 rfl rfl)
theorem dX1_missed_39 : decode cX1_missed 39 = .ok (.isub, 1) := dk_100 (dk_at dksX1_missed_1 15 rfl rfl)
theorem dX1_missed_40 : decode cX1_missed 40 = .ok (.i2l, 1) := dk_133 (dk_at dksX1_missed_1 16 rfl rfl)
theorem dX1_missed_41 : decode cX1_missed 41 = .ok (.lmul, 1) := dk_105 (dk_at dksX1_missed_1 17 rfl rfl)
theorem dX1_missed_42 : decode cX1_missed 42 = .ok (.ldc2_w 268, 3) := dk_20 1 12 (dk_at dksX1_missed_1 18 rfl rfl)
theorem dX1_missed_45 : decode cX1_missed 45 = .ok (.ldiv, 1) := dk_109 (dk_at dksX1_missed_1 21 rfl rfl)
theorem dX1_missed_46 : decode cX1_missed 46 = .ok (.lstore 5, 2) := dk_55 5 (dk_at dksX1_missed_1 22 rfl rfl)
theorem dX1_missed_48 : decode cX1_missed 48 = .ok (.iload 7, 2) := dk_21 7 (dk_at dksX1_missed_2 0 rfl rfl)
theorem dX1_missed_50 : decode cX1_missed 50 = .ok (.iload 4, 2) := dk_21 4 (dk_at dksX1_missed_2 2 rfl rfl)
theorem dX1_missed_52 : decode cX1_missed 52 = .ok (.iadd, 1) := dk_96 (dk_at dksX1_missed_2 4 rfl rfl)
theorem dX1_missed_53 : decode cX1_missed 53 = .ok (.istore 7, 2) := dk_54 7 (dk_at dksX1_missed_2 5 rfl rfl)
theorem dX1_missed_55 : decode cX1_missed 55 = .ok (.iinc 8 1, 3) := dk_132 8 1 (dk_at dksX1_missed_2 7 rfl rfl)
theorem dX1_missed_58 : decode cX1_missed 58 = .ok (.goto (-47), 3) := dk_167 255 209 (dk_at dksX1_missed_2 10 rfl rfl)
theorem dX1_missed_61 : decode cX1_missed 61 = .ok (.lload 5, 2) := dk_22 5 (dk_at dksX1_missed_2 13 rfl rfl)
theorem dX1_missed_63 : decode cX1_missed 63 = .ok (.lreturn, 1) := dk_173 (dk_at dksX1_missed_2 15 rfl rfl)
abbrev cX1_opener : ByteArray := prog_1_method_43_code
def yX1_opener : MethodName := ⟨RX1, "opener", "(III)I"⟩
def dkwX1_opener_3 : List UInt8 := [167, 255, 220, 16, 254, 172]
abbrev dktX1_opener_3 : List UInt8 := dkwX1_opener_3 ++ []
def dkwX1_opener_2 : List UInt8 := [192, 0, 2, 28, 21, 4, 3, 182, 1, 73, 29, 133, 148, 157, 0, 6, 21, 4, 172, 132, 4, 255]
abbrev dktX1_opener_2 : List UInt8 := dkwX1_opener_2 ++ dktX1_opener_3
def dkwX1_opener_1 : List UInt8 := [154, 0, 5, 2, 172, 16, 40, 54, 4, 21, 4, 158, 0, 37, 42, 42, 180, 0, 36, 27, 182, 0, 162]
abbrev dktX1_opener_1 : List UInt8 := dkwX1_opener_1 ++ dktX1_opener_2
def dkwX1_opener_0 : List UInt8 := [42, 27, 182, 0, 151, 153, 0, 22, 28, 184, 0, 155, 153, 0, 15, 29, 133, 9, 20, 1, 65, 184, 0, 110]
abbrev dktX1_opener_0 : List UInt8 := dkwX1_opener_0 ++ dktX1_opener_1
theorem dksX1_opener_0 : cX1_opener.data.toList.drop 0 = dktX1_opener_0 := by decide +kernel
theorem dksX1_opener_1 : cX1_opener.data.toList.drop 24 = dktX1_opener_1 := dk_seg dksX1_opener_0 24 rfl rfl
theorem dksX1_opener_2 : cX1_opener.data.toList.drop 47 = dktX1_opener_2 := dk_seg dksX1_opener_1 23 rfl rfl
theorem dksX1_opener_3 : cX1_opener.data.toList.drop 69 = dktX1_opener_3 := dk_seg dksX1_opener_2 22 rfl rfl
theorem dX1_opener_0 : decode cX1_opener 0 = .ok (.aload_n 0, 1) := dk_42 (dk_at dksX1_opener_0 0 rfl rfl)
theorem dX1_opener_1 : decode cX1_opener 1 = .ok (.iload_n 1, 1) := dk_27 (dk_at dksX1_opener_0 1 rfl rfl)
theorem dX1_opener_2 : decode cX1_opener 2 = .ok (.invokevirtual 151, 3) := dk_182 0 151 (dk_at dksX1_opener_0 2 rfl rfl)
theorem dX1_opener_5 : decode cX1_opener 5 = .ok (.ifCond .eq 22, 3) := dk_153 0 22 (dk_at dksX1_opener_0 5 rfl rfl)
theorem dX1_opener_8 : decode cX1_opener 8 = .ok (.iload_n 2, 1) := dk_28 (dk_at dksX1_opener_0 8 rfl rfl)
theorem dX1_opener_9 : decode cX1_opener 9 = .ok (.invokestatic 155, 3) := dk_184 0 155 (dk_at dksX1_opener_0 9 rfl rfl)
theorem dX1_opener_12 : decode cX1_opener 12 = .ok (.ifCond .eq 15, 3) := dk_153 0 15 (dk_at dksX1_opener_0 12 rfl rfl)
theorem dX1_opener_15 : decode cX1_opener 15 = .ok (.iload_n 3, 1) := dk_29 (dk_at dksX1_opener_0 15 rfl rfl)
theorem dX1_opener_16 : decode cX1_opener 16 = .ok (.i2l, 1) := dk_133 (dk_at dksX1_opener_0 16 rfl rfl)
theorem dX1_opener_17 : decode cX1_opener 17 = .ok (.lconst 0, 1) := dk_9 (dk_at dksX1_opener_0 17 rfl rfl)
theorem dX1_opener_18 : decode cX1_opener 18 = .ok (.ldc2_w 321, 3) := dk_20 1 65 (dk_at dksX1_opener_0 18 rfl rfl)
theorem dX1_opener_21 : decode cX1_opener 21 = .ok (.invokestatic 110, 3) := dk_184 0 110 (dk_at dksX1_opener_0 21 rfl rfl)
theorem dX1_opener_24 : decode cX1_opener 24 = .ok (.ifCond .ne 5, 3) := dk_154 0 5 (dk_at dksX1_opener_1 0 rfl rfl)
theorem dX1_opener_27 : decode cX1_opener 27 = .ok (.iconst (-1), 1) := dk_2 (dk_at dksX1_opener_1 3 rfl rfl)
theorem dX1_opener_28 : decode cX1_opener 28 = .ok (.ireturn, 1) := dk_172 (dk_at dksX1_opener_1 4 rfl rfl)
theorem dX1_opener_29 : decode cX1_opener 29 = .ok (.bipush 40, 2) := dk_16 40 (dk_at dksX1_opener_1 5 rfl rfl)
theorem dX1_opener_31 : decode cX1_opener 31 = .ok (.istore 4, 2) := dk_54 4 (dk_at dksX1_opener_1 7 rfl rfl)
theorem dX1_opener_33 : decode cX1_opener 33 = .ok (.iload 4, 2) := dk_21 4 (dk_at dksX1_opener_1 9 rfl rfl)
theorem dX1_opener_35 : decode cX1_opener 35 = .ok (.ifCond .le 37, 3) := dk_158 0 37 (dk_at dksX1_opener_1 11 rfl rfl)
theorem dX1_opener_38 : decode cX1_opener 38 = .ok (.aload_n 0, 1) := dk_42 (dk_at dksX1_opener_1 14 rfl rfl)
theorem dX1_opener_39 : decode cX1_opener 39 = .ok (.aload_n 0, 1) := dk_42 (dk_at dksX1_opener_1 15 rfl rfl)
theorem dX1_opener_40 : decode cX1_opener 40 = .ok (.getfield 36, 3) := dk_180 0 36 (dk_at dksX1_opener_1 16 rfl rfl)
theorem dX1_opener_43 : decode cX1_opener 43 = .ok (.iload_n 1, 1) := dk_27 (dk_at dksX1_opener_1 19 rfl rfl)
theorem dX1_opener_44 : decode cX1_opener 44 = .ok (.invokevirtual 162, 3) := dk_182 0 162 (dk_at dksX1_opener_1 20 rfl rfl)
theorem dX1_opener_47 : decode cX1_opener 47 = .ok (.checkcast 2, 3) := dk_192 0 2 (dk_at dksX1_opener_2 0 rfl rfl)
theorem dX1_opener_50 : decode cX1_opener 50 = .ok (.iload_n 2, 1) := dk_28 (dk_at dksX1_opener_2 3 rfl rfl)
theorem dX1_opener_51 : decode cX1_opener 51 = .ok (.iload 4, 2) := dk_21 4 (dk_at dksX1_opener_2 4 rfl rfl)
theorem dX1_opener_53 : decode cX1_opener 53 = .ok (.iconst 0, 1) := dk_3 (dk_at dksX1_opener_2 6 rfl rfl)
theorem dX1_opener_54 : decode cX1_opener 54 = .ok (.invokevirtual 329, 3) := dk_182 1 73 (dk_at dksX1_opener_2 7 rfl rfl)
theorem dX1_opener_57 : decode cX1_opener 57 = .ok (.iload_n 3, 1) := dk_29 (dk_at dksX1_opener_2 10 rfl rfl)
theorem dX1_opener_58 : decode cX1_opener 58 = .ok (.i2l, 1) := dk_133 (dk_at dksX1_opener_2 11 rfl rfl)
theorem dX1_opener_59 : decode cX1_opener 59 = .ok (.lcmp, 1) := dk_148 (dk_at dksX1_opener_2 12 rfl rfl)
theorem dX1_opener_60 : decode cX1_opener 60 = .ok (.ifCond .gt 6, 3) := dk_157 0 6 (dk_at dksX1_opener_2 13 rfl rfl)
theorem dX1_opener_63 : decode cX1_opener 63 = .ok (.iload 4, 2) := dk_21 4 (dk_at dksX1_opener_2 16 rfl rfl)
theorem dX1_opener_65 : decode cX1_opener 65 = .ok (.ireturn, 1) := dk_172 (dk_at dksX1_opener_2 18 rfl rfl)
theorem dX1_opener_66 : decode cX1_opener 66 = .ok (.iinc 4 (-1), 3) := dk_132 4 255 (dk_at dksX1_opener_2 19 rfl rfl)
theorem dX1_opener_69 : decode cX1_opener 69 = .ok (.goto (-36), 3) := dk_167 255 220 (dk_at dksX1_opener_3 0 rfl rfl)
theorem dX1_opener_72 : decode cX1_opener 72 = .ok (.bipush (-2), 2) := dk_16 254 (dk_at dksX1_opener_3 3 rfl rfl)
theorem dX1_opener_74 : decode cX1_opener 74 = .ok (.ireturn, 1) := dk_172 (dk_at dksX1_opener_3 5 rfl rfl)
abbrev cX1_heavy : ByteArray := prog_1_method_45_code
def yX1_heavy : MethodName := ⟨RX1, "heavy", "(I)I"⟩
def dkwX1_heavy_1 : List UInt8 := [172]
abbrev dktX1_heavy_1 : List UInt8 := dkwX1_heavy_1 ++ []
def dkwX1_heavy_0 : List UInt8 := [42, 27, 182, 0, 151, 153, 0, 18, 42, 27, 187, 1, 48, 89, 183, 1, 50, 182, 1, 84, 167, 0, 4, 2]
abbrev dktX1_heavy_0 : List UInt8 := dkwX1_heavy_0 ++ dktX1_heavy_1
theorem dksX1_heavy_0 : cX1_heavy.data.toList.drop 0 = dktX1_heavy_0 := by decide +kernel
theorem dksX1_heavy_1 : cX1_heavy.data.toList.drop 24 = dktX1_heavy_1 := dk_seg dksX1_heavy_0 24 rfl rfl
theorem dX1_heavy_0 : decode cX1_heavy 0 = .ok (.aload_n 0, 1) := dk_42 (dk_at dksX1_heavy_0 0 rfl rfl)
theorem dX1_heavy_1 : decode cX1_heavy 1 = .ok (.iload_n 1, 1) := dk_27 (dk_at dksX1_heavy_0 1 rfl rfl)
theorem dX1_heavy_2 : decode cX1_heavy 2 = .ok (.invokevirtual 151, 3) := dk_182 0 151 (dk_at dksX1_heavy_0 2 rfl rfl)
theorem dX1_heavy_5 : decode cX1_heavy 5 = .ok (.ifCond .eq 18, 3) := dk_153 0 18 (dk_at dksX1_heavy_0 5 rfl rfl)
theorem dX1_heavy_8 : decode cX1_heavy 8 = .ok (.aload_n 0, 1) := dk_42 (dk_at dksX1_heavy_0 8 rfl rfl)
theorem dX1_heavy_9 : decode cX1_heavy 9 = .ok (.iload_n 1, 1) := dk_27 (dk_at dksX1_heavy_0 9 rfl rfl)
theorem dX1_heavy_10 : decode cX1_heavy 10 = .ok (.new 304, 3) := dk_187 1 48 (dk_at dksX1_heavy_0 10 rfl rfl)
theorem dX1_heavy_13 : decode cX1_heavy 13 = .ok (.dup, 1) := dk_89 (dk_at dksX1_heavy_0 13 rfl rfl)
theorem dX1_heavy_14 : decode cX1_heavy 14 = .ok (.invokespecial 306, 3) := dk_183 1 50 (dk_at dksX1_heavy_0 14 rfl rfl)
theorem dX1_heavy_17 : decode cX1_heavy 17 = .ok (.invokevirtual 340, 3) := dk_182 1 84 (dk_at dksX1_heavy_0 17 rfl rfl)
theorem dX1_heavy_20 : decode cX1_heavy 20 = .ok (.goto 4, 3) := dk_167 0 4 (dk_at dksX1_heavy_0 20 rfl rfl)
theorem dX1_heavy_23 : decode cX1_heavy 23 = .ok (.iconst (-1), 1) := dk_2 (dk_at dksX1_heavy_0 23 rfl rfl)
theorem dX1_heavy_24 : decode cX1_heavy 24 = .ok (.ireturn, 1) := dk_172 (dk_at dksX1_heavy_1 0 rfl rfl)
abbrev cX1_tellsFree : ByteArray := prog_1_method_44_code
def yX1_tellsFree : MethodName := ⟨RX1, "tellsFree", "(ILNextLoad$Aim;)I"⟩
def dkwX1_tellsFree_1 : List UInt8 := [27, 50, 182, 1, 80, 133, 182, 0, 219, 42, 42, 27, 44, 182, 1, 27, 182, 0, 219, 33, 136, 172]
abbrev dktX1_tellsFree_1 : List UInt8 := dkwX1_tellsFree_1 ++ []
def dkwX1_tellsFree_0 : List UInt8 := [42, 27, 44, 182, 1, 77, 66, 42, 3, 181, 0, 103, 42, 42, 180, 0, 84, 42, 180, 0, 45, 180, 0, 175]
abbrev dktX1_tellsFree_0 : List UInt8 := dkwX1_tellsFree_0 ++ dktX1_tellsFree_1
theorem dksX1_tellsFree_0 : cX1_tellsFree.data.toList.drop 0 = dktX1_tellsFree_0 := by decide +kernel
theorem dksX1_tellsFree_1 : cX1_tellsFree.data.toList.drop 24 = dktX1_tellsFree_1 := dk_seg dksX1_tellsFree_0 24 rfl rfl
theorem dX1_tellsFree_0 : decode cX1_tellsFree 0 = .ok (.aload_n 0, 1) := dk_42 (dk_at dksX1_tellsFree_0 0 rfl rfl)
theorem dX1_tellsFree_1 : decode cX1_tellsFree 1 = .ok (.iload_n 1, 1) := dk_27 (dk_at dksX1_tellsFree_0 1 rfl rfl)
theorem dX1_tellsFree_2 : decode cX1_tellsFree 2 = .ok (.aload_n 2, 1) := dk_44 (dk_at dksX1_tellsFree_0 2 rfl rfl)
theorem dX1_tellsFree_3 : decode cX1_tellsFree 3 = .ok (.invokevirtual 333, 3) := dk_182 1 77 (dk_at dksX1_tellsFree_0 3 rfl rfl)
theorem dX1_tellsFree_6 : decode cX1_tellsFree 6 = .ok (.lstore_n 3, 1) := dk_66 (dk_at dksX1_tellsFree_0 6 rfl rfl)
theorem dX1_tellsFree_7 : decode cX1_tellsFree 7 = .ok (.aload_n 0, 1) := dk_42 (dk_at dksX1_tellsFree_0 7 rfl rfl)
theorem dX1_tellsFree_8 : decode cX1_tellsFree 8 = .ok (.iconst 0, 1) := dk_3 (dk_at dksX1_tellsFree_0 8 rfl rfl)
theorem dX1_tellsFree_9 : decode cX1_tellsFree 9 = .ok (.putfield 103, 3) := dk_181 0 103 (dk_at dksX1_tellsFree_0 9 rfl rfl)
theorem dX1_tellsFree_12 : decode cX1_tellsFree 12 = .ok (.aload_n 0, 1) := dk_42 (dk_at dksX1_tellsFree_0 12 rfl rfl)
theorem dX1_tellsFree_13 : decode cX1_tellsFree 13 = .ok (.aload_n 0, 1) := dk_42 (dk_at dksX1_tellsFree_0 13 rfl rfl)
theorem dX1_tellsFree_14 : decode cX1_tellsFree 14 = .ok (.getfield 84, 3) := dk_180 0 84 (dk_at dksX1_tellsFree_0 14 rfl rfl)
theorem dX1_tellsFree_17 : decode cX1_tellsFree 17 = .ok (.aload_n 0, 1) := dk_42 (dk_at dksX1_tellsFree_0 17 rfl rfl)
theorem dX1_tellsFree_18 : decode cX1_tellsFree 18 = .ok (.getfield 45, 3) := dk_180 0 45 (dk_at dksX1_tellsFree_0 18 rfl rfl)
theorem dX1_tellsFree_21 : decode cX1_tellsFree 21 = .ok (.getfield 175, 3) := dk_180 0 175 (dk_at dksX1_tellsFree_0 21 rfl rfl)
theorem dX1_tellsFree_24 : decode cX1_tellsFree 24 = .ok (.iload_n 1, 1) := dk_27 (dk_at dksX1_tellsFree_1 0 rfl rfl)
theorem dX1_tellsFree_25 : decode cX1_tellsFree 25 = .ok (.aaload, 1) := dk_50 (dk_at dksX1_tellsFree_1 1 rfl rfl)
theorem dX1_tellsFree_26 : decode cX1_tellsFree 26 = .ok (.invokevirtual 336, 3) := dk_182 1 80 (dk_at dksX1_tellsFree_1 2 rfl rfl)
theorem dX1_tellsFree_29 : decode cX1_tellsFree 29 = .ok (.i2l, 1) := dk_133 (dk_at dksX1_tellsFree_1 5 rfl rfl)
theorem dX1_tellsFree_30 : decode cX1_tellsFree 30 = .ok (.invokevirtual 219, 3) := dk_182 0 219 (dk_at dksX1_tellsFree_1 6 rfl rfl)
theorem dX1_tellsFree_33 : decode cX1_tellsFree 33 = .ok (.aload_n 0, 1) := dk_42 (dk_at dksX1_tellsFree_1 9 rfl rfl)
theorem dX1_tellsFree_34 : decode cX1_tellsFree 34 = .ok (.aload_n 0, 1) := dk_42 (dk_at dksX1_tellsFree_1 10 rfl rfl)
theorem dX1_tellsFree_35 : decode cX1_tellsFree 35 = .ok (.iload_n 1, 1) := dk_27 (dk_at dksX1_tellsFree_1 11 rfl rfl)
theorem dX1_tellsFree_36 : decode cX1_tellsFree 36 = .ok (.aload_n 2, 1) := dk_44 (dk_at dksX1_tellsFree_1 12 rfl rfl)
theorem dX1_tellsFree_37 : decode cX1_tellsFree 37 = .ok (.invokevirtual 283, 3) := dk_182 1 27 (dk_at dksX1_tellsFree_1 13 rfl rfl)
theorem dX1_tellsFree_40 : decode cX1_tellsFree 40 = .ok (.invokevirtual 219, 3) := dk_182 0 219 (dk_at dksX1_tellsFree_1 16 rfl rfl)
theorem dX1_tellsFree_43 : decode cX1_tellsFree 43 = .ok (.lload_n 3, 1) := dk_33 (dk_at dksX1_tellsFree_1 19 rfl rfl)
theorem dX1_tellsFree_44 : decode cX1_tellsFree 44 = .ok (.l2i, 1) := dk_136 (dk_at dksX1_tellsFree_1 20 rfl rfl)
theorem dX1_tellsFree_45 : decode cX1_tellsFree 45 = .ok (.ireturn, 1) := dk_172 (dk_at dksX1_tellsFree_1 21 rfl rfl)
abbrev cX1_freely : ByteArray := prog_1_method_30_code
def yX1_freely : MethodName := ⟨RX1, "freely", "(ILNextLoad$Aim;)J"⟩
def dkwX1_freely_2 : List UInt8 := [182, 0, 196, 182, 1, 23, 173]
abbrev dktX1_freely_2 : List UInt8 := dkwX1_freely_2 ++ []
def dkwX1_freely_1 : List UInt8 := [180, 0, 45, 180, 0, 175, 27, 50, 42, 180, 0, 45, 180, 0, 175, 27, 50, 42, 180, 0, 45, 180, 0, 193]
abbrev dktX1_freely_1 : List UInt8 := dkwX1_freely_1 ++ dktX1_freely_2
def dkwX1_freely_0 : List UInt8 := [42, 180, 0, 84, 42, 180, 0, 36, 27, 182, 0, 162, 192, 0, 2, 44, 182, 1, 22, 42, 180, 0, 84, 42]
abbrev dktX1_freely_0 : List UInt8 := dkwX1_freely_0 ++ dktX1_freely_1
theorem dksX1_freely_0 : cX1_freely.data.toList.drop 0 = dktX1_freely_0 := by decide +kernel
theorem dksX1_freely_1 : cX1_freely.data.toList.drop 24 = dktX1_freely_1 := dk_seg dksX1_freely_0 24 rfl rfl
theorem dksX1_freely_2 : cX1_freely.data.toList.drop 48 = dktX1_freely_2 := dk_seg dksX1_freely_1 24 rfl rfl
theorem dX1_freely_0 : decode cX1_freely 0 = .ok (.aload_n 0, 1) := dk_42 (dk_at dksX1_freely_0 0 rfl rfl)
theorem dX1_freely_1 : decode cX1_freely 1 = .ok (.getfield 84, 3) := dk_180 0 84 (dk_at dksX1_freely_0 1 rfl rfl)
theorem dX1_freely_4 : decode cX1_freely 4 = .ok (.aload_n 0, 1) := dk_42 (dk_at dksX1_freely_0 4 rfl rfl)
theorem dX1_freely_5 : decode cX1_freely 5 = .ok (.getfield 36, 3) := dk_180 0 36 (dk_at dksX1_freely_0 5 rfl rfl)
theorem dX1_freely_8 : decode cX1_freely 8 = .ok (.iload_n 1, 1) := dk_27 (dk_at dksX1_freely_0 8 rfl rfl)
theorem dX1_freely_9 : decode cX1_freely 9 = .ok (.invokevirtual 162, 3) := dk_182 0 162 (dk_at dksX1_freely_0 9 rfl rfl)
theorem dX1_freely_12 : decode cX1_freely 12 = .ok (.checkcast 2, 3) := dk_192 0 2 (dk_at dksX1_freely_0 12 rfl rfl)
theorem dX1_freely_15 : decode cX1_freely 15 = .ok (.aload_n 2, 1) := dk_44 (dk_at dksX1_freely_0 15 rfl rfl)
theorem dX1_freely_16 : decode cX1_freely 16 = .ok (.invokevirtual 278, 3) := dk_182 1 22 (dk_at dksX1_freely_0 16 rfl rfl)
theorem dX1_freely_19 : decode cX1_freely 19 = .ok (.aload_n 0, 1) := dk_42 (dk_at dksX1_freely_0 19 rfl rfl)
theorem dX1_freely_20 : decode cX1_freely 20 = .ok (.getfield 84, 3) := dk_180 0 84 (dk_at dksX1_freely_0 20 rfl rfl)
theorem dX1_freely_23 : decode cX1_freely 23 = .ok (.aload_n 0, 1) := dk_42 (dk_at dksX1_freely_0 23 rfl rfl)
theorem dX1_freely_24 : decode cX1_freely 24 = .ok (.getfield 45, 3) := dk_180 0 45 (dk_at dksX1_freely_1 0 rfl rfl)
theorem dX1_freely_27 : decode cX1_freely 27 = .ok (.getfield 175, 3) := dk_180 0 175 (dk_at dksX1_freely_1 3 rfl rfl)
theorem dX1_freely_30 : decode cX1_freely 30 = .ok (.iload_n 1, 1) := dk_27 (dk_at dksX1_freely_1 6 rfl rfl)
theorem dX1_freely_31 : decode cX1_freely 31 = .ok (.aaload, 1) := dk_50 (dk_at dksX1_freely_1 7 rfl rfl)
theorem dX1_freely_32 : decode cX1_freely 32 = .ok (.aload_n 0, 1) := dk_42 (dk_at dksX1_freely_1 8 rfl rfl)
theorem dX1_freely_33 : decode cX1_freely 33 = .ok (.getfield 45, 3) := dk_180 0 45 (dk_at dksX1_freely_1 9 rfl rfl)
theorem dX1_freely_36 : decode cX1_freely 36 = .ok (.getfield 175, 3) := dk_180 0 175 (dk_at dksX1_freely_1 12 rfl rfl)
theorem dX1_freely_39 : decode cX1_freely 39 = .ok (.iload_n 1, 1) := dk_27 (dk_at dksX1_freely_1 15 rfl rfl)
theorem dX1_freely_40 : decode cX1_freely 40 = .ok (.aaload, 1) := dk_50 (dk_at dksX1_freely_1 16 rfl rfl)
theorem dX1_freely_41 : decode cX1_freely 41 = .ok (.aload_n 0, 1) := dk_42 (dk_at dksX1_freely_1 17 rfl rfl)
theorem dX1_freely_42 : decode cX1_freely 42 = .ok (.getfield 45, 3) := dk_180 0 45 (dk_at dksX1_freely_1 18 rfl rfl)
theorem dX1_freely_45 : decode cX1_freely 45 = .ok (.getfield 193, 3) := dk_180 0 193 (dk_at dksX1_freely_1 21 rfl rfl)
theorem dX1_freely_48 : decode cX1_freely 48 = .ok (.invokevirtual 196, 3) := dk_182 0 196 (dk_at dksX1_freely_2 0 rfl rfl)
theorem dX1_freely_51 : decode cX1_freely 51 = .ok (.invokevirtual 279, 3) := dk_182 1 23 (dk_at dksX1_freely_2 3 rfl rfl)
theorem dX1_freely_54 : decode cX1_freely 54 = .ok (.lreturn, 1) := dk_173 (dk_at dksX1_freely_2 6 rfl rfl)
abbrev cX1_reach : ByteArray := prog_1_method_46_code
def yX1_reach : MethodName := ⟨RX1, "reach", "(II)I"⟩
def dkwX1_reach_1 : List UInt8 := [183, 1, 26, 182, 1, 84, 167, 0, 4, 2, 172]
abbrev dktX1_reach_1 : List UInt8 := dkwX1_reach_1 ++ []
def dkwX1_reach_0 : List UInt8 := [42, 27, 182, 0, 151, 153, 0, 26, 28, 184, 1, 53, 153, 0, 19, 42, 27, 187, 1, 24, 89, 28]
abbrev dktX1_reach_0 : List UInt8 := dkwX1_reach_0 ++ dktX1_reach_1
theorem dksX1_reach_0 : cX1_reach.data.toList.drop 0 = dktX1_reach_0 := by decide +kernel
theorem dksX1_reach_1 : cX1_reach.data.toList.drop 22 = dktX1_reach_1 := dk_seg dksX1_reach_0 22 rfl rfl
theorem dX1_reach_0 : decode cX1_reach 0 = .ok (.aload_n 0, 1) := dk_42 (dk_at dksX1_reach_0 0 rfl rfl)
theorem dX1_reach_1 : decode cX1_reach 1 = .ok (.iload_n 1, 1) := dk_27 (dk_at dksX1_reach_0 1 rfl rfl)
theorem dX1_reach_2 : decode cX1_reach 2 = .ok (.invokevirtual 151, 3) := dk_182 0 151 (dk_at dksX1_reach_0 2 rfl rfl)
theorem dX1_reach_5 : decode cX1_reach 5 = .ok (.ifCond .eq 26, 3) := dk_153 0 26 (dk_at dksX1_reach_0 5 rfl rfl)
theorem dX1_reach_8 : decode cX1_reach 8 = .ok (.iload_n 2, 1) := dk_28 (dk_at dksX1_reach_0 8 rfl rfl)
theorem dX1_reach_9 : decode cX1_reach 9 = .ok (.invokestatic 309, 3) := dk_184 1 53 (dk_at dksX1_reach_0 9 rfl rfl)
theorem dX1_reach_12 : decode cX1_reach 12 = .ok (.ifCond .eq 19, 3) := dk_153 0 19 (dk_at dksX1_reach_0 12 rfl rfl)
theorem dX1_reach_15 : decode cX1_reach 15 = .ok (.aload_n 0, 1) := dk_42 (dk_at dksX1_reach_0 15 rfl rfl)
theorem dX1_reach_16 : decode cX1_reach 16 = .ok (.iload_n 1, 1) := dk_27 (dk_at dksX1_reach_0 16 rfl rfl)
theorem dX1_reach_17 : decode cX1_reach 17 = .ok (.new 280, 3) := dk_187 1 24 (dk_at dksX1_reach_0 17 rfl rfl)
theorem dX1_reach_20 : decode cX1_reach 20 = .ok (.dup, 1) := dk_89 (dk_at dksX1_reach_0 20 rfl rfl)
theorem dX1_reach_21 : decode cX1_reach 21 = .ok (.iload_n 2, 1) := dk_28 (dk_at dksX1_reach_0 21 rfl rfl)
theorem dX1_reach_22 : decode cX1_reach 22 = .ok (.invokespecial 282, 3) := dk_183 1 26 (dk_at dksX1_reach_1 0 rfl rfl)
theorem dX1_reach_25 : decode cX1_reach 25 = .ok (.invokevirtual 340, 3) := dk_182 1 84 (dk_at dksX1_reach_1 3 rfl rfl)
theorem dX1_reach_28 : decode cX1_reach 28 = .ok (.goto 4, 3) := dk_167 0 4 (dk_at dksX1_reach_1 6 rfl rfl)
theorem dX1_reach_31 : decode cX1_reach 31 = .ok (.iconst (-1), 1) := dk_2 (dk_at dksX1_reach_1 9 rfl rfl)
theorem dX1_reach_32 : decode cX1_reach 32 = .ok (.ireturn, 1) := dk_172 (dk_at dksX1_reach_1 10 rfl rfl)
abbrev cX1_aim : ByteArray := prog_1_method_47_code
def yX1_aim : MethodName := ⟨RX1, "aim", "(II)I"⟩
def dkwX1_aim_4 : List UInt8 := [183, 1, 26, 182, 1, 77, 182, 0, 219, 29, 172]
abbrev dktX1_aim_4 : List UInt8 := dkwX1_aim_4 ++ []
def dkwX1_aim_3 : List UInt8 := [21, 5, 4, 100, 54, 4, 167, 255, 208, 42, 3, 181, 0, 103, 42, 42, 27, 187, 1, 24, 89, 29]
abbrev dktX1_aim_3 : List UInt8 := dkwX1_aim_3 ++ dktX1_aim_4
def dkwX1_aim_2 : List UInt8 := [187, 1, 24, 89, 21, 5, 183, 1, 26, 182, 1, 77, 28, 133, 148, 155, 0, 9, 21, 5, 62, 167, 0, 9]
abbrev dktX1_aim_2 : List UInt8 := dkwX1_aim_2 ++ dktX1_aim_3
def dkwX1_aim_1 : List UInt8 := [16, 120, 54, 4, 29, 21, 4, 162, 0, 48, 29, 21, 4, 96, 4, 96, 5, 108, 54, 5, 42, 27]
abbrev dktX1_aim_1 : List UInt8 := dkwX1_aim_1 ++ dktX1_aim_2
def dkwX1_aim_0 : List UInt8 := [42, 27, 182, 0, 151, 153, 0, 15, 28, 133, 10, 20, 1, 65, 184, 0, 110, 154, 0, 5, 2, 172, 3, 62]
abbrev dktX1_aim_0 : List UInt8 := dkwX1_aim_0 ++ dktX1_aim_1
theorem dksX1_aim_0 : cX1_aim.data.toList.drop 0 = dktX1_aim_0 := by decide +kernel
theorem dksX1_aim_1 : cX1_aim.data.toList.drop 24 = dktX1_aim_1 := dk_seg dksX1_aim_0 24 rfl rfl
theorem dksX1_aim_2 : cX1_aim.data.toList.drop 46 = dktX1_aim_2 := dk_seg dksX1_aim_1 22 rfl rfl
theorem dksX1_aim_3 : cX1_aim.data.toList.drop 70 = dktX1_aim_3 := dk_seg dksX1_aim_2 24 rfl rfl
theorem dksX1_aim_4 : cX1_aim.data.toList.drop 92 = dktX1_aim_4 := dk_seg dksX1_aim_3 22 rfl rfl
theorem dX1_aim_0 : decode cX1_aim 0 = .ok (.aload_n 0, 1) := dk_42 (dk_at dksX1_aim_0 0 rfl rfl)
theorem dX1_aim_1 : decode cX1_aim 1 = .ok (.iload_n 1, 1) := dk_27 (dk_at dksX1_aim_0 1 rfl rfl)
theorem dX1_aim_2 : decode cX1_aim 2 = .ok (.invokevirtual 151, 3) := dk_182 0 151 (dk_at dksX1_aim_0 2 rfl rfl)
theorem dX1_aim_5 : decode cX1_aim 5 = .ok (.ifCond .eq 15, 3) := dk_153 0 15 (dk_at dksX1_aim_0 5 rfl rfl)
theorem dX1_aim_8 : decode cX1_aim 8 = .ok (.iload_n 2, 1) := dk_28 (dk_at dksX1_aim_0 8 rfl rfl)
theorem dX1_aim_9 : decode cX1_aim 9 = .ok (.i2l, 1) := dk_133 (dk_at dksX1_aim_0 9 rfl rfl)
theorem dX1_aim_10 : decode cX1_aim 10 = .ok (.lconst 1, 1) := dk_10 (dk_at dksX1_aim_0 10 rfl rfl)
theorem dX1_aim_11 : decode cX1_aim 11 = .ok (.ldc2_w 321, 3) := dk_20 1 65 (dk_at dksX1_aim_0 11 rfl rfl)
theorem dX1_aim_14 : decode cX1_aim 14 = .ok (.invokestatic 110, 3) := dk_184 0 110 (dk_at dksX1_aim_0 14 rfl rfl)
theorem dX1_aim_17 : decode cX1_aim 17 = .ok (.ifCond .ne 5, 3) := dk_154 0 5 (dk_at dksX1_aim_0 17 rfl rfl)
theorem dX1_aim_20 : decode cX1_aim 20 = .ok (.iconst (-1), 1) := dk_2 (dk_at dksX1_aim_0 20 rfl rfl)
theorem dX1_aim_21 : decode cX1_aim 21 = .ok (.ireturn, 1) := dk_172 (dk_at dksX1_aim_0 21 rfl rfl)
theorem dX1_aim_22 : decode cX1_aim 22 = .ok (.iconst 0, 1) := dk_3 (dk_at dksX1_aim_0 22 rfl rfl)
theorem dX1_aim_23 : decode cX1_aim 23 = .ok (.istore_n 3, 1) := dk_62 (dk_at dksX1_aim_0 23 rfl rfl)
theorem dX1_aim_24 : decode cX1_aim 24 = .ok (.bipush 120, 2) := dk_16 120 (dk_at dksX1_aim_1 0 rfl rfl)
theorem dX1_aim_26 : decode cX1_aim 26 = .ok (.istore 4, 2) := dk_54 4 (dk_at dksX1_aim_1 2 rfl rfl)
theorem dX1_aim_28 : decode cX1_aim 28 = .ok (.iload_n 3, 1) := dk_29 (dk_at dksX1_aim_1 4 rfl rfl)
theorem dX1_aim_29 : decode cX1_aim 29 = .ok (.iload 4, 2) := dk_21 4 (dk_at dksX1_aim_1 5 rfl rfl)
theorem dX1_aim_31 : decode cX1_aim 31 = .ok (.if_icmp .ge 48, 3) := dk_162 0 48 (dk_at dksX1_aim_1 7 rfl rfl)
theorem dX1_aim_34 : decode cX1_aim 34 = .ok (.iload_n 3, 1) := dk_29 (dk_at dksX1_aim_1 10 rfl rfl)
theorem dX1_aim_35 : decode cX1_aim 35 = .ok (.iload 4, 2) := dk_21 4 (dk_at dksX1_aim_1 11 rfl rfl)
theorem dX1_aim_37 : decode cX1_aim 37 = .ok (.iadd, 1) := dk_96 (dk_at dksX1_aim_1 13 rfl rfl)
theorem dX1_aim_38 : decode cX1_aim 38 = .ok (.iconst 1, 1) := dk_4 (dk_at dksX1_aim_1 14 rfl rfl)
theorem dX1_aim_39 : decode cX1_aim 39 = .ok (.iadd, 1) := dk_96 (dk_at dksX1_aim_1 15 rfl rfl)
theorem dX1_aim_40 : decode cX1_aim 40 = .ok (.iconst 2, 1) := dk_5 (dk_at dksX1_aim_1 16 rfl rfl)
theorem dX1_aim_41 : decode cX1_aim 41 = .ok (.idiv, 1) := dk_108 (dk_at dksX1_aim_1 17 rfl rfl)
theorem dX1_aim_42 : decode cX1_aim 42 = .ok (.istore 5, 2) := dk_54 5 (dk_at dksX1_aim_1 18 rfl rfl)
theorem dX1_aim_44 : decode cX1_aim 44 = .ok (.aload_n 0, 1) := dk_42 (dk_at dksX1_aim_1 20 rfl rfl)
theorem dX1_aim_45 : decode cX1_aim 45 = .ok (.iload_n 1, 1) := dk_27 (dk_at dksX1_aim_1 21 rfl rfl)
theorem dX1_aim_46 : decode cX1_aim 46 = .ok (.new 280, 3) := dk_187 1 24 (dk_at dksX1_aim_2 0 rfl rfl)
theorem dX1_aim_49 : decode cX1_aim 49 = .ok (.dup, 1) := dk_89 (dk_at dksX1_aim_2 3 rfl rfl)
theorem dX1_aim_50 : decode cX1_aim 50 = .ok (.iload 5, 2) := dk_21 5 (dk_at dksX1_aim_2 4 rfl rfl)
theorem dX1_aim_52 : decode cX1_aim 52 = .ok (.invokespecial 282, 3) := dk_183 1 26 (dk_at dksX1_aim_2 6 rfl rfl)
theorem dX1_aim_55 : decode cX1_aim 55 = .ok (.invokevirtual 333, 3) := dk_182 1 77 (dk_at dksX1_aim_2 9 rfl rfl)
theorem dX1_aim_58 : decode cX1_aim 58 = .ok (.iload_n 2, 1) := dk_28 (dk_at dksX1_aim_2 12 rfl rfl)
theorem dX1_aim_59 : decode cX1_aim 59 = .ok (.i2l, 1) := dk_133 (dk_at dksX1_aim_2 13 rfl rfl)
theorem dX1_aim_60 : decode cX1_aim 60 = .ok (.lcmp, 1) := dk_148 (dk_at dksX1_aim_2 14 rfl rfl)
theorem dX1_aim_61 : decode cX1_aim 61 = .ok (.ifCond .lt 9, 3) := dk_155 0 9 (dk_at dksX1_aim_2 15 rfl rfl)
theorem dX1_aim_64 : decode cX1_aim 64 = .ok (.iload 5, 2) := dk_21 5 (dk_at dksX1_aim_2 18 rfl rfl)
theorem dX1_aim_66 : decode cX1_aim 66 = .ok (.istore_n 3, 1) := dk_62 (dk_at dksX1_aim_2 20 rfl rfl)
theorem dX1_aim_67 : decode cX1_aim 67 = .ok (.goto 9, 3) := dk_167 0 9 (dk_at dksX1_aim_2 21 rfl rfl)
theorem dX1_aim_70 : decode cX1_aim 70 = .ok (.iload 5, 2) := dk_21 5 (dk_at dksX1_aim_3 0 rfl rfl)
theorem dX1_aim_72 : decode cX1_aim 72 = .ok (.iconst 1, 1) := dk_4 (dk_at dksX1_aim_3 2 rfl rfl)
theorem dX1_aim_73 : decode cX1_aim 73 = .ok (.isub, 1) := dk_100 (dk_at dksX1_aim_3 3 rfl rfl)
theorem dX1_aim_74 : decode cX1_aim 74 = .ok (.istore 4, 2) := dk_54 4 (dk_at dksX1_aim_3 4 rfl rfl)
theorem dX1_aim_76 : decode cX1_aim 76 = .ok (.goto (-48), 3) := dk_167 255 208 (dk_at dksX1_aim_3 6 rfl rfl)
theorem dX1_aim_79 : decode cX1_aim 79 = .ok (.aload_n 0, 1) := dk_42 (dk_at dksX1_aim_3 9 rfl rfl)
theorem dX1_aim_80 : decode cX1_aim 80 = .ok (.iconst 0, 1) := dk_3 (dk_at dksX1_aim_3 10 rfl rfl)
theorem dX1_aim_81 : decode cX1_aim 81 = .ok (.putfield 103, 3) := dk_181 0 103 (dk_at dksX1_aim_3 11 rfl rfl)
theorem dX1_aim_84 : decode cX1_aim 84 = .ok (.aload_n 0, 1) := dk_42 (dk_at dksX1_aim_3 14 rfl rfl)
theorem dX1_aim_85 : decode cX1_aim 85 = .ok (.aload_n 0, 1) := dk_42 (dk_at dksX1_aim_3 15 rfl rfl)
theorem dX1_aim_86 : decode cX1_aim 86 = .ok (.iload_n 1, 1) := dk_27 (dk_at dksX1_aim_3 16 rfl rfl)
theorem dX1_aim_87 : decode cX1_aim 87 = .ok (.new 280, 3) := dk_187 1 24 (dk_at dksX1_aim_3 17 rfl rfl)
theorem dX1_aim_90 : decode cX1_aim 90 = .ok (.dup, 1) := dk_89 (dk_at dksX1_aim_3 20 rfl rfl)
theorem dX1_aim_91 : decode cX1_aim 91 = .ok (.iload_n 3, 1) := dk_29 (dk_at dksX1_aim_3 21 rfl rfl)
theorem dX1_aim_92 : decode cX1_aim 92 = .ok (.invokespecial 282, 3) := dk_183 1 26 (dk_at dksX1_aim_4 0 rfl rfl)
theorem dX1_aim_95 : decode cX1_aim 95 = .ok (.invokevirtual 333, 3) := dk_182 1 77 (dk_at dksX1_aim_4 3 rfl rfl)
theorem dX1_aim_98 : decode cX1_aim 98 = .ok (.invokevirtual 219, 3) := dk_182 0 219 (dk_at dksX1_aim_4 6 rfl rfl)
theorem dX1_aim_101 : decode cX1_aim 101 = .ok (.iload_n 3, 1) := dk_29 (dk_at dksX1_aim_4 9 rfl rfl)
theorem dX1_aim_102 : decode cX1_aim 102 = .ok (.ireturn, 1) := dk_172 (dk_at dksX1_aim_4 10 rfl rfl)
abbrev cX1_against : ByteArray := prog_1_method_48_code
def yX1_against : MethodName := ⟨RX1, "against", "(II)I"⟩
def dkwX1_against_1 : List UInt8 := [172]
abbrev dktX1_against_1 : List UInt8 := dkwX1_against_1 ++ []
def dkwX1_against_0 : List UInt8 := [42, 27, 28, 182, 1, 58, 153, 0, 17, 42, 27, 42, 27, 28, 182, 1, 39, 182, 1, 84, 167, 0, 4, 2]
abbrev dktX1_against_0 : List UInt8 := dkwX1_against_0 ++ dktX1_against_1
theorem dksX1_against_0 : cX1_against.data.toList.drop 0 = dktX1_against_0 := by decide +kernel
theorem dksX1_against_1 : cX1_against.data.toList.drop 24 = dktX1_against_1 := dk_seg dksX1_against_0 24 rfl rfl
theorem dX1_against_0 : decode cX1_against 0 = .ok (.aload_n 0, 1) := dk_42 (dk_at dksX1_against_0 0 rfl rfl)
theorem dX1_against_1 : decode cX1_against 1 = .ok (.iload_n 1, 1) := dk_27 (dk_at dksX1_against_0 1 rfl rfl)
theorem dX1_against_2 : decode cX1_against 2 = .ok (.iload_n 2, 1) := dk_28 (dk_at dksX1_against_0 2 rfl rfl)
theorem dX1_against_3 : decode cX1_against 3 = .ok (.invokevirtual 314, 3) := dk_182 1 58 (dk_at dksX1_against_0 3 rfl rfl)
theorem dX1_against_6 : decode cX1_against 6 = .ok (.ifCond .eq 17, 3) := dk_153 0 17 (dk_at dksX1_against_0 6 rfl rfl)
theorem dX1_against_9 : decode cX1_against 9 = .ok (.aload_n 0, 1) := dk_42 (dk_at dksX1_against_0 9 rfl rfl)
theorem dX1_against_10 : decode cX1_against 10 = .ok (.iload_n 1, 1) := dk_27 (dk_at dksX1_against_0 10 rfl rfl)
theorem dX1_against_11 : decode cX1_against 11 = .ok (.aload_n 0, 1) := dk_42 (dk_at dksX1_against_0 11 rfl rfl)
theorem dX1_against_12 : decode cX1_against 12 = .ok (.iload_n 1, 1) := dk_27 (dk_at dksX1_against_0 12 rfl rfl)
theorem dX1_against_13 : decode cX1_against 13 = .ok (.iload_n 2, 1) := dk_28 (dk_at dksX1_against_0 13 rfl rfl)
theorem dX1_against_14 : decode cX1_against 14 = .ok (.invokevirtual 295, 3) := dk_182 1 39 (dk_at dksX1_against_0 14 rfl rfl)
theorem dX1_against_17 : decode cX1_against 17 = .ok (.invokevirtual 340, 3) := dk_182 1 84 (dk_at dksX1_against_0 17 rfl rfl)
theorem dX1_against_20 : decode cX1_against 20 = .ok (.goto 4, 3) := dk_167 0 4 (dk_at dksX1_against_0 20 rfl rfl)
theorem dX1_against_23 : decode cX1_against 23 = .ok (.iconst (-1), 1) := dk_2 (dk_at dksX1_against_0 23 rfl rfl)
theorem dX1_against_24 : decode cX1_against 24 = .ok (.ireturn, 1) := dk_172 (dk_at dksX1_against_1 0 rfl rfl)
abbrev cX1_gold : ByteArray := prog_1_method_49_code
def yX1_gold : MethodName := ⟨RX1, "gold", "(I)I"⟩
def dkwX1_gold_0 : List UInt8 := [42, 27, 182, 0, 151, 153, 0, 16, 42, 27, 42, 27, 182, 1, 61, 182, 1, 84, 167, 0, 4, 2, 172]
abbrev dktX1_gold_0 : List UInt8 := dkwX1_gold_0 ++ []
theorem dksX1_gold_0 : cX1_gold.data.toList.drop 0 = dktX1_gold_0 := by decide +kernel
theorem dX1_gold_0 : decode cX1_gold 0 = .ok (.aload_n 0, 1) := dk_42 (dk_at dksX1_gold_0 0 rfl rfl)
theorem dX1_gold_1 : decode cX1_gold 1 = .ok (.iload_n 1, 1) := dk_27 (dk_at dksX1_gold_0 1 rfl rfl)
theorem dX1_gold_2 : decode cX1_gold 2 = .ok (.invokevirtual 151, 3) := dk_182 0 151 (dk_at dksX1_gold_0 2 rfl rfl)
theorem dX1_gold_5 : decode cX1_gold 5 = .ok (.ifCond .eq 16, 3) := dk_153 0 16 (dk_at dksX1_gold_0 5 rfl rfl)
theorem dX1_gold_8 : decode cX1_gold 8 = .ok (.aload_n 0, 1) := dk_42 (dk_at dksX1_gold_0 8 rfl rfl)
theorem dX1_gold_9 : decode cX1_gold 9 = .ok (.iload_n 1, 1) := dk_27 (dk_at dksX1_gold_0 9 rfl rfl)
theorem dX1_gold_10 : decode cX1_gold 10 = .ok (.aload_n 0, 1) := dk_42 (dk_at dksX1_gold_0 10 rfl rfl)
theorem dX1_gold_11 : decode cX1_gold 11 = .ok (.iload_n 1, 1) := dk_27 (dk_at dksX1_gold_0 11 rfl rfl)
theorem dX1_gold_12 : decode cX1_gold 12 = .ok (.invokevirtual 317, 3) := dk_182 1 61 (dk_at dksX1_gold_0 12 rfl rfl)
theorem dX1_gold_15 : decode cX1_gold 15 = .ok (.invokevirtual 340, 3) := dk_182 1 84 (dk_at dksX1_gold_0 15 rfl rfl)
theorem dX1_gold_18 : decode cX1_gold 18 = .ok (.goto 4, 3) := dk_167 0 4 (dk_at dksX1_gold_0 18 rfl rfl)
theorem dX1_gold_21 : decode cX1_gold 21 = .ok (.iconst (-1), 1) := dk_2 (dk_at dksX1_gold_0 21 rfl rfl)
theorem dX1_gold_22 : decode cX1_gold 22 = .ok (.ireturn, 1) := dk_172 (dk_at dksX1_gold_0 22 rfl rfl)
abbrev cX1_line : ByteArray := prog_1_method_50_code
def yX1_line : MethodName := ⟨RX1, "line", "(IIZ)I"⟩
def dkwX1_line_13 : List UInt8 := [180, 0, 103, 172]
abbrev dktX1_line_13 : List UInt8 := dkwX1_line_13 ++ []
def dkwX1_line_12 : List UInt8 := [96, 54, 6, 3, 54, 7, 3, 54, 8, 3, 54, 9, 4, 54, 10, 132, 11, 1, 167, 255, 141, 42]
abbrev dktX1_line_12 : List UInt8 := dkwX1_line_12 ++ dktX1_line_13
def dkwX1_line_11 : List UInt8 := [21, 12, 182, 1, 104, 54, 10, 167, 255, 182, 21, 9, 154, 0, 8, 42, 180, 0, 103, 172, 21, 6, 21, 9]
abbrev dktX1_line_11 : List UInt8 := dkwX1_line_11 ++ dktX1_line_12
def dkwX1_line_10 : List UInt8 := [21, 8, 25, 5, 182, 1, 100, 96, 54, 8, 25, 5, 21, 9, 21, 12, 182, 1, 102, 54, 9, 25, 5]
abbrev dktX1_line_10 : List UInt8 := dkwX1_line_10 ++ dktX1_line_11
def dkwX1_line_9 : List UInt8 := [21, 7, 21, 8, 21, 9, 21, 10, 182, 1, 96, 54, 12, 42, 21, 12, 133, 182, 0, 219, 132, 7, 1]
abbrev dktX1_line_9 : List UInt8 := dkwX1_line_9 ++ dktX1_line_10
def dkwX1_line_8 : List UInt8 := [162, 0, 115, 21, 7, 6, 162, 0, 74, 21, 10, 16, 40, 163, 0, 67, 42, 180, 0, 84, 21, 11, 21, 6]
abbrev dktX1_line_8 : List UInt8 := dkwX1_line_8 ++ dktX1_line_9
def dkwX1_line_7 : List UInt8 := [180, 0, 45, 180, 0, 193, 182, 0, 196, 54, 10, 42, 180, 0, 45, 180, 0, 233, 54, 11, 21, 11, 6]
abbrev dktX1_line_7 : List UInt8 := dkwX1_line_7 ++ dktX1_line_8
def dkwX1_line_6 : List UInt8 := [180, 1, 93, 54, 8, 25, 4, 180, 0, 185, 42, 180, 0, 45, 180, 0, 233, 46, 54, 9, 25, 4, 42]
abbrev dktX1_line_6 : List UInt8 := dkwX1_line_6 ++ dktX1_line_7
def dkwX1_line_5 : List UInt8 := [54, 6, 25, 4, 180, 0, 190, 154, 0, 7, 6, 167, 0, 8, 25, 4, 180, 1, 91, 54, 7, 25, 4]
abbrev dktX1_line_5 : List UInt8 := dkwX1_line_5 ++ dktX1_line_6
def dkwX1_line_4 : List UInt8 := [184, 0, 236, 58, 5, 25, 4, 182, 0, 213, 25, 4, 180, 0, 185, 42, 180, 0, 45, 180, 0, 233, 46, 100]
abbrev dktX1_line_4 : List UInt8 := dkwX1_line_4 ++ dktX1_line_5
def dkwX1_line_3 : List UInt8 := [50, 58, 4, 25, 4, 180, 0, 209, 154, 0, 13, 42, 180, 0, 45, 182, 1, 88, 153, 0, 5, 3, 172, 29]
abbrev dktX1_line_3 : List UInt8 := dkwX1_line_3 ++ dktX1_line_4
def dkwX1_line_2 : List UInt8 := [167, 0, 8, 42, 27, 182, 1, 61, 182, 1, 22, 42, 3, 181, 0, 103, 42, 180, 0, 45, 180, 0, 175, 27]
abbrev dktX1_line_2 : List UInt8 := dkwX1_line_2 ++ dktX1_line_3
def dkwX1_line_1 : List UInt8 := [42, 180, 0, 36, 27, 182, 0, 162, 192, 0, 2, 28, 154, 0, 13, 187, 1, 48, 89, 183, 1, 50]
abbrev dktX1_line_1 : List UInt8 := dkwX1_line_1 ++ dktX1_line_2
def dkwX1_line_0 : List UInt8 := [42, 27, 182, 0, 151, 153, 0, 13, 28, 133, 9, 10, 184, 0, 110, 154, 0, 5, 2, 172, 42, 180, 0, 84]
abbrev dktX1_line_0 : List UInt8 := dkwX1_line_0 ++ dktX1_line_1
theorem dksX1_line_0 : cX1_line.data.toList.drop 0 = dktX1_line_0 := by decide +kernel
theorem dksX1_line_1 : cX1_line.data.toList.drop 24 = dktX1_line_1 := dk_seg dksX1_line_0 24 rfl rfl
theorem dksX1_line_2 : cX1_line.data.toList.drop 46 = dktX1_line_2 := dk_seg dksX1_line_1 22 rfl rfl
theorem dksX1_line_3 : cX1_line.data.toList.drop 70 = dktX1_line_3 := dk_seg dksX1_line_2 24 rfl rfl
theorem dksX1_line_4 : cX1_line.data.toList.drop 94 = dktX1_line_4 := dk_seg dksX1_line_3 24 rfl rfl
theorem dksX1_line_5 : cX1_line.data.toList.drop 118 = dktX1_line_5 := dk_seg dksX1_line_4 24 rfl rfl
theorem dksX1_line_6 : cX1_line.data.toList.drop 141 = dktX1_line_6 := dk_seg dksX1_line_5 23 rfl rfl
theorem dksX1_line_7 : cX1_line.data.toList.drop 164 = dktX1_line_7 := dk_seg dksX1_line_6 23 rfl rfl
theorem dksX1_line_8 : cX1_line.data.toList.drop 187 = dktX1_line_8 := dk_seg dksX1_line_7 23 rfl rfl
theorem dksX1_line_9 : cX1_line.data.toList.drop 211 = dktX1_line_9 := dk_seg dksX1_line_8 24 rfl rfl
theorem dksX1_line_10 : cX1_line.data.toList.drop 234 = dktX1_line_10 := dk_seg dksX1_line_9 23 rfl rfl
theorem dksX1_line_11 : cX1_line.data.toList.drop 257 = dktX1_line_11 := dk_seg dksX1_line_10 23 rfl rfl
theorem dksX1_line_12 : cX1_line.data.toList.drop 281 = dktX1_line_12 := dk_seg dksX1_line_11 24 rfl rfl
theorem dksX1_line_13 : cX1_line.data.toList.drop 303 = dktX1_line_13 := dk_seg dksX1_line_12 22 rfl rfl
theorem dX1_line_0 : decode cX1_line 0 = .ok (.aload_n 0, 1) := dk_42 (dk_at dksX1_line_0 0 rfl rfl)
theorem dX1_line_1 : decode cX1_line 1 = .ok (.iload_n 1, 1) := dk_27 (dk_at dksX1_line_0 1 rfl rfl)
theorem dX1_line_2 : decode cX1_line 2 = .ok (.invokevirtual 151, 3) := dk_182 0 151 (dk_at dksX1_line_0 2 rfl rfl)
theorem dX1_line_5 : decode cX1_line 5 = .ok (.ifCond .eq 13, 3) := dk_153 0 13 (dk_at dksX1_line_0 5 rfl rfl)
theorem dX1_line_8 : decode cX1_line 8 = .ok (.iload_n 2, 1) := dk_28 (dk_at dksX1_line_0 8 rfl rfl)
theorem dX1_line_9 : decode cX1_line 9 = .ok (.i2l, 1) := dk_133 (dk_at dksX1_line_0 9 rfl rfl)
theorem dX1_line_10 : decode cX1_line 10 = .ok (.lconst 0, 1) := dk_9 (dk_at dksX1_line_0 10 rfl rfl)
theorem dX1_line_11 : decode cX1_line 11 = .ok (.lconst 1, 1) := dk_10 (dk_at dksX1_line_0 11 rfl rfl)
theorem dX1_line_12 : decode cX1_line 12 = .ok (.invokestatic 110, 3) := dk_184 0 110 (dk_at dksX1_line_0 12 rfl rfl)
theorem dX1_line_15 : decode cX1_line 15 = .ok (.ifCond .ne 5, 3) := dk_154 0 5 (dk_at dksX1_line_0 15 rfl rfl)
theorem dX1_line_18 : decode cX1_line 18 = .ok (.iconst (-1), 1) := dk_2 (dk_at dksX1_line_0 18 rfl rfl)
theorem dX1_line_19 : decode cX1_line 19 = .ok (.ireturn, 1) := dk_172 (dk_at dksX1_line_0 19 rfl rfl)
theorem dX1_line_20 : decode cX1_line 20 = .ok (.aload_n 0, 1) := dk_42 (dk_at dksX1_line_0 20 rfl rfl)
theorem dX1_line_21 : decode cX1_line 21 = .ok (.getfield 84, 3) := dk_180 0 84 (dk_at dksX1_line_0 21 rfl rfl)
theorem dX1_line_24 : decode cX1_line 24 = .ok (.aload_n 0, 1) := dk_42 (dk_at dksX1_line_1 0 rfl rfl)
theorem dX1_line_25 : decode cX1_line 25 = .ok (.getfield 36, 3) := dk_180 0 36 (dk_at dksX1_line_1 1 rfl rfl)
theorem dX1_line_28 : decode cX1_line 28 = .ok (.iload_n 1, 1) := dk_27 (dk_at dksX1_line_1 4 rfl rfl)
theorem dX1_line_29 : decode cX1_line 29 = .ok (.invokevirtual 162, 3) := dk_182 0 162 (dk_at dksX1_line_1 5 rfl rfl)
theorem dX1_line_32 : decode cX1_line 32 = .ok (.checkcast 2, 3) := dk_192 0 2 (dk_at dksX1_line_1 8 rfl rfl)
theorem dX1_line_35 : decode cX1_line 35 = .ok (.iload_n 2, 1) := dk_28 (dk_at dksX1_line_1 11 rfl rfl)
theorem dX1_line_36 : decode cX1_line 36 = .ok (.ifCond .ne 13, 3) := dk_154 0 13 (dk_at dksX1_line_1 12 rfl rfl)
theorem dX1_line_39 : decode cX1_line 39 = .ok (.new 304, 3) := dk_187 1 48 (dk_at dksX1_line_1 15 rfl rfl)
theorem dX1_line_42 : decode cX1_line 42 = .ok (.dup, 1) := dk_89 (dk_at dksX1_line_1 18 rfl rfl)
theorem dX1_line_43 : decode cX1_line 43 = .ok (.invokespecial 306, 3) := dk_183 1 50 (dk_at dksX1_line_1 19 rfl rfl)
theorem dX1_line_46 : decode cX1_line 46 = .ok (.goto 8, 3) := dk_167 0 8 (dk_at dksX1_line_2 0 rfl rfl)
theorem dX1_line_49 : decode cX1_line 49 = .ok (.aload_n 0, 1) := dk_42 (dk_at dksX1_line_2 3 rfl rfl)
theorem dX1_line_50 : decode cX1_line 50 = .ok (.iload_n 1, 1) := dk_27 (dk_at dksX1_line_2 4 rfl rfl)
theorem dX1_line_51 : decode cX1_line 51 = .ok (.invokevirtual 317, 3) := dk_182 1 61 (dk_at dksX1_line_2 5 rfl rfl)
theorem dX1_line_54 : decode cX1_line 54 = .ok (.invokevirtual 278, 3) := dk_182 1 22 (dk_at dksX1_line_2 8 rfl rfl)
theorem dX1_line_57 : decode cX1_line 57 = .ok (.aload_n 0, 1) := dk_42 (dk_at dksX1_line_2 11 rfl rfl)
theorem dX1_line_58 : decode cX1_line 58 = .ok (.iconst 0, 1) := dk_3 (dk_at dksX1_line_2 12 rfl rfl)
theorem dX1_line_59 : decode cX1_line 59 = .ok (.putfield 103, 3) := dk_181 0 103 (dk_at dksX1_line_2 13 rfl rfl)
theorem dX1_line_62 : decode cX1_line 62 = .ok (.aload_n 0, 1) := dk_42 (dk_at dksX1_line_2 16 rfl rfl)
theorem dX1_line_63 : decode cX1_line 63 = .ok (.getfield 45, 3) := dk_180 0 45 (dk_at dksX1_line_2 17 rfl rfl)
theorem dX1_line_66 : decode cX1_line 66 = .ok (.getfield 175, 3) := dk_180 0 175 (dk_at dksX1_line_2 20 rfl rfl)
theorem dX1_line_69 : decode cX1_line 69 = .ok (.iload_n 1, 1) := dk_27 (dk_at dksX1_line_2 23 rfl rfl)
theorem dX1_line_70 : decode cX1_line 70 = .ok (.aaload, 1) := dk_50 (dk_at dksX1_line_3 0 rfl rfl)
theorem dX1_line_71 : decode cX1_line 71 = .ok (.astore 4, 2) := dk_58 4 (dk_at dksX1_line_3 1 rfl rfl)
theorem dX1_line_73 : decode cX1_line 73 = .ok (.aload 4, 2) := dk_25 4 (dk_at dksX1_line_3 3 rfl rfl)
theorem dX1_line_75 : decode cX1_line 75 = .ok (.getfield 209, 3) := dk_180 0 209 (dk_at dksX1_line_3 5 rfl rfl)
theorem dX1_line_78 : decode cX1_line 78 = .ok (.ifCond .ne 13, 3) := dk_154 0 13 (dk_at dksX1_line_3 8 rfl rfl)
theorem dX1_line_81 : decode cX1_line 81 = .ok (.aload_n 0, 1) := dk_42 (dk_at dksX1_line_3 11 rfl rfl)
theorem dX1_line_82 : decode cX1_line 82 = .ok (.getfield 45, 3) := dk_180 0 45 (dk_at dksX1_line_3 12 rfl rfl)
theorem dX1_line_85 : decode cX1_line 85 = .ok (.invokevirtual 344, 3) := dk_182 1 88 (dk_at dksX1_line_3 15 rfl rfl)
theorem dX1_line_88 : decode cX1_line 88 = .ok (.ifCond .eq 5, 3) := dk_153 0 5 (dk_at dksX1_line_3 18 rfl rfl)
theorem dX1_line_91 : decode cX1_line 91 = .ok (.iconst 0, 1) := dk_3 (dk_at dksX1_line_3 21 rfl rfl)
theorem dX1_line_92 : decode cX1_line 92 = .ok (.ireturn, 1) := dk_172 (dk_at dksX1_line_3 22 rfl rfl)
theorem dX1_line_93 : decode cX1_line 93 = .ok (.iload_n 3, 1) := dk_29 (dk_at dksX1_line_3 23 rfl rfl)
theorem dX1_line_94 : decode cX1_line 94 = .ok (.invokestatic 236, 3) := dk_184 0 236 (dk_at dksX1_line_4 0 rfl rfl)
theorem dX1_line_97 : decode cX1_line 97 = .ok (.astore 5, 2) := dk_58 5 (dk_at dksX1_line_4 3 rfl rfl)
theorem dX1_line_99 : decode cX1_line 99 = .ok (.aload 4, 2) := dk_25 4 (dk_at dksX1_line_4 5 rfl rfl)
theorem dX1_line_101 : decode cX1_line 101 = .ok (.invokevirtual 213, 3) := dk_182 0 213 (dk_at dksX1_line_4 7 rfl rfl)
theorem dX1_line_104 : decode cX1_line 104 = .ok (.aload 4, 2) := dk_25 4 (dk_at dksX1_line_4 10 rfl rfl)
theorem dX1_line_106 : decode cX1_line 106 = .ok (.getfield 185, 3) := dk_180 0 185 (dk_at dksX1_line_4 12 rfl rfl)
theorem dX1_line_109 : decode cX1_line 109 = .ok (.aload_n 0, 1) := dk_42 (dk_at dksX1_line_4 15 rfl rfl)
theorem dX1_line_110 : decode cX1_line 110 = .ok (.getfield 45, 3) := dk_180 0 45 (dk_at dksX1_line_4 16 rfl rfl)
theorem dX1_line_113 : decode cX1_line 113 = .ok (.getfield 233, 3) := dk_180 0 233 (dk_at dksX1_line_4 19 rfl rfl)
theorem dX1_line_116 : decode cX1_line 116 = .ok (.iaload, 1) := dk_46 (dk_at dksX1_line_4 22 rfl rfl)
theorem dX1_line_117 : decode cX1_line 117 = .ok (.isub, 1) := dk_100 (dk_at dksX1_line_4 23 rfl rfl)
theorem dX1_line_118 : decode cX1_line 118 = .ok (.istore 6, 2) := dk_54 6 (dk_at dksX1_line_5 0 rfl rfl)
theorem dX1_line_120 : decode cX1_line 120 = .ok (.aload 4, 2) := dk_25 4 (dk_at dksX1_line_5 2 rfl rfl)
theorem dX1_line_122 : decode cX1_line 122 = .ok (.getfield 190, 3) := dk_180 0 190 (dk_at dksX1_line_5 4 rfl rfl)
theorem dX1_line_125 : decode cX1_line 125 = .ok (.ifCond .ne 7, 3) := dk_154 0 7 (dk_at dksX1_line_5 7 rfl rfl)
theorem dX1_line_128 : decode cX1_line 128 = .ok (.iconst 3, 1) := dk_6 (dk_at dksX1_line_5 10 rfl rfl)
theorem dX1_line_129 : decode cX1_line 129 = .ok (.goto 8, 3) := dk_167 0 8 (dk_at dksX1_line_5 11 rfl rfl)
theorem dX1_line_132 : decode cX1_line 132 = .ok (.aload 4, 2) := dk_25 4 (dk_at dksX1_line_5 14 rfl rfl)
theorem dX1_line_134 : decode cX1_line 134 = .ok (.getfield 347, 3) := dk_180 1 91 (dk_at dksX1_line_5 16 rfl rfl)
theorem dX1_line_137 : decode cX1_line 137 = .ok (.istore 7, 2) := dk_54 7 (dk_at dksX1_line_5 19 rfl rfl)
theorem dX1_line_139 : decode cX1_line 139 = .ok (.aload 4, 2) := dk_25 4 (dk_at dksX1_line_5 21 rfl rfl)
theorem dX1_line_141 : decode cX1_line 141 = .ok (.getfield 349, 3) := dk_180 1 93 (dk_at dksX1_line_6 0 rfl rfl)
theorem dX1_line_144 : decode cX1_line 144 = .ok (.istore 8, 2) := dk_54 8 (dk_at dksX1_line_6 3 rfl rfl)
theorem dX1_line_146 : decode cX1_line 146 = .ok (.aload 4, 2) := dk_25 4 (dk_at dksX1_line_6 5 rfl rfl)
theorem dX1_line_148 : decode cX1_line 148 = .ok (.getfield 185, 3) := dk_180 0 185 (dk_at dksX1_line_6 7 rfl rfl)
theorem dX1_line_151 : decode cX1_line 151 = .ok (.aload_n 0, 1) := dk_42 (dk_at dksX1_line_6 10 rfl rfl)
theorem dX1_line_152 : decode cX1_line 152 = .ok (.getfield 45, 3) := dk_180 0 45 (dk_at dksX1_line_6 11 rfl rfl)
theorem dX1_line_155 : decode cX1_line 155 = .ok (.getfield 233, 3) := dk_180 0 233 (dk_at dksX1_line_6 14 rfl rfl)
theorem dX1_line_158 : decode cX1_line 158 = .ok (.iaload, 1) := dk_46 (dk_at dksX1_line_6 17 rfl rfl)
theorem dX1_line_159 : decode cX1_line 159 = .ok (.istore 9, 2) := dk_54 9 (dk_at dksX1_line_6 18 rfl rfl)
theorem dX1_line_161 : decode cX1_line 161 = .ok (.aload 4, 2) := dk_25 4 (dk_at dksX1_line_6 20 rfl rfl)
theorem dX1_line_163 : decode cX1_line 163 = .ok (.aload_n 0, 1) := dk_42 (dk_at dksX1_line_6 22 rfl rfl)
theorem dX1_line_164 : decode cX1_line 164 = .ok (.getfield 45, 3) := dk_180 0 45 (dk_at dksX1_line_7 0 rfl rfl)
theorem dX1_line_167 : decode cX1_line 167 = .ok (.getfield 193, 3) := dk_180 0 193 (dk_at dksX1_line_7 3 rfl rfl)
theorem dX1_line_170 : decode cX1_line 170 = .ok (.invokevirtual 196, 3) := dk_182 0 196 (dk_at dksX1_line_7 6 rfl rfl)
theorem dX1_line_173 : decode cX1_line 173 = .ok (.istore 10, 2) := dk_54 10 (dk_at dksX1_line_7 9 rfl rfl)
theorem dX1_line_175 : decode cX1_line 175 = .ok (.aload_n 0, 1) := dk_42 (dk_at dksX1_line_7 11 rfl rfl)
theorem dX1_line_176 : decode cX1_line 176 = .ok (.getfield 45, 3) := dk_180 0 45 (dk_at dksX1_line_7 12 rfl rfl)
theorem dX1_line_179 : decode cX1_line 179 = .ok (.getfield 233, 3) := dk_180 0 233 (dk_at dksX1_line_7 15 rfl rfl)
theorem dX1_line_182 : decode cX1_line 182 = .ok (.istore 11, 2) := dk_54 11 (dk_at dksX1_line_7 18 rfl rfl)
theorem dX1_line_184 : decode cX1_line 184 = .ok (.iload 11, 2) := dk_21 11 (dk_at dksX1_line_7 20 rfl rfl)
theorem dX1_line_186 : decode cX1_line 186 = .ok (.iconst 3, 1) := dk_6 (dk_at dksX1_line_7 22 rfl rfl)
theorem dX1_line_187 : decode cX1_line 187 = .ok (.if_icmp .ge 115, 3) := dk_162 0 115 (dk_at dksX1_line_8 0 rfl rfl)
theorem dX1_line_190 : decode cX1_line 190 = .ok (.iload 7, 2) := dk_21 7 (dk_at dksX1_line_8 3 rfl rfl)
theorem dX1_line_192 : decode cX1_line 192 = .ok (.iconst 3, 1) := dk_6 (dk_at dksX1_line_8 5 rfl rfl)
theorem dX1_line_193 : decode cX1_line 193 = .ok (.if_icmp .ge 74, 3) := dk_162 0 74 (dk_at dksX1_line_8 6 rfl rfl)
theorem dX1_line_196 : decode cX1_line 196 = .ok (.iload 10, 2) := dk_21 10 (dk_at dksX1_line_8 9 rfl rfl)
theorem dX1_line_198 : decode cX1_line 198 = .ok (.bipush 40, 2) := dk_16 40 (dk_at dksX1_line_8 11 rfl rfl)
theorem dX1_line_200 : decode cX1_line 200 = .ok (.if_icmp .gt 67, 3) := dk_163 0 67 (dk_at dksX1_line_8 13 rfl rfl)
theorem dX1_line_203 : decode cX1_line 203 = .ok (.aload_n 0, 1) := dk_42 (dk_at dksX1_line_8 16 rfl rfl)
theorem dX1_line_204 : decode cX1_line 204 = .ok (.getfield 84, 3) := dk_180 0 84 (dk_at dksX1_line_8 17 rfl rfl)
theorem dX1_line_207 : decode cX1_line 207 = .ok (.iload 11, 2) := dk_21 11 (dk_at dksX1_line_8 20 rfl rfl)
theorem dX1_line_209 : decode cX1_line 209 = .ok (.iload 6, 2) := dk_21 6 (dk_at dksX1_line_8 22 rfl rfl)
theorem dX1_line_211 : decode cX1_line 211 = .ok (.iload 7, 2) := dk_21 7 (dk_at dksX1_line_9 0 rfl rfl)
theorem dX1_line_213 : decode cX1_line 213 = .ok (.iload 8, 2) := dk_21 8 (dk_at dksX1_line_9 2 rfl rfl)
theorem dX1_line_215 : decode cX1_line 215 = .ok (.iload 9, 2) := dk_21 9 (dk_at dksX1_line_9 4 rfl rfl)
theorem dX1_line_217 : decode cX1_line 217 = .ok (.iload 10, 2) := dk_21 10 (dk_at dksX1_line_9 6 rfl rfl)
theorem dX1_line_219 : decode cX1_line 219 = .ok (.invokevirtual 352, 3) := dk_182 1 96 (dk_at dksX1_line_9 8 rfl rfl)
theorem dX1_line_222 : decode cX1_line 222 = .ok (.istore 12, 2) := dk_54 12 (dk_at dksX1_line_9 11 rfl rfl)
theorem dX1_line_224 : decode cX1_line 224 = .ok (.aload_n 0, 1) := dk_42 (dk_at dksX1_line_9 13 rfl rfl)
theorem dX1_line_225 : decode cX1_line 225 = .ok (.iload 12, 2) := dk_21 12 (dk_at dksX1_line_9 14 rfl rfl)
theorem dX1_line_227 : decode cX1_line 227 = .ok (.i2l, 1) := dk_133 (dk_at dksX1_line_9 16 rfl rfl)
theorem dX1_line_228 : decode cX1_line 228 = .ok (.invokevirtual 219, 3) := dk_182 0 219 (dk_at dksX1_line_9 17 rfl rfl)
theorem dX1_line_231 : decode cX1_line 231 = .ok (.iinc 7 1, 3) := dk_132 7 1 (dk_at dksX1_line_9 20 rfl rfl)
theorem dX1_line_234 : decode cX1_line 234 = .ok (.iload 8, 2) := dk_21 8 (dk_at dksX1_line_10 0 rfl rfl)
theorem dX1_line_236 : decode cX1_line 236 = .ok (.aload 5, 2) := dk_25 5 (dk_at dksX1_line_10 2 rfl rfl)
theorem dX1_line_238 : decode cX1_line 238 = .ok (.invokevirtual 356, 3) := dk_182 1 100 (dk_at dksX1_line_10 4 rfl rfl)
theorem dX1_line_241 : decode cX1_line 241 = .ok (.iadd, 1) := dk_96 (dk_at dksX1_line_10 7 rfl rfl)
theorem dX1_line_242 : decode cX1_line 242 = .ok (.istore 8, 2) := dk_54 8 (dk_at dksX1_line_10 8 rfl rfl)
theorem dX1_line_244 : decode cX1_line 244 = .ok (.aload 5, 2) := dk_25 5 (dk_at dksX1_line_10 10 rfl rfl)
theorem dX1_line_246 : decode cX1_line 246 = .ok (.iload 9, 2) := dk_21 9 (dk_at dksX1_line_10 12 rfl rfl)
theorem dX1_line_248 : decode cX1_line 248 = .ok (.iload 12, 2) := dk_21 12 (dk_at dksX1_line_10 14 rfl rfl)
theorem dX1_line_250 : decode cX1_line 250 = .ok (.invokevirtual 358, 3) := dk_182 1 102 (dk_at dksX1_line_10 16 rfl rfl)
theorem dX1_line_253 : decode cX1_line 253 = .ok (.istore 9, 2) := dk_54 9 (dk_at dksX1_line_10 19 rfl rfl)
theorem dX1_line_255 : decode cX1_line 255 = .ok (.aload 5, 2) := dk_25 5 (dk_at dksX1_line_10 21 rfl rfl)
theorem dX1_line_257 : decode cX1_line 257 = .ok (.iload 12, 2) := dk_21 12 (dk_at dksX1_line_11 0 rfl rfl)
theorem dX1_line_259 : decode cX1_line 259 = .ok (.invokevirtual 360, 3) := dk_182 1 104 (dk_at dksX1_line_11 2 rfl rfl)
theorem dX1_line_262 : decode cX1_line 262 = .ok (.istore 10, 2) := dk_54 10 (dk_at dksX1_line_11 5 rfl rfl)
theorem dX1_line_264 : decode cX1_line 264 = .ok (.goto (-74), 3) := dk_167 255 182 (dk_at dksX1_line_11 7 rfl rfl)
theorem dX1_line_267 : decode cX1_line 267 = .ok (.iload 9, 2) := dk_21 9 (dk_at dksX1_line_11 10 rfl rfl)
theorem dX1_line_269 : decode cX1_line 269 = .ok (.ifCond .ne 8, 3) := dk_154 0 8 (dk_at dksX1_line_11 12 rfl rfl)
theorem dX1_line_272 : decode cX1_line 272 = .ok (.aload_n 0, 1) := dk_42 (dk_at dksX1_line_11 15 rfl rfl)
theorem dX1_line_273 : decode cX1_line 273 = .ok (.getfield 103, 3) := dk_180 0 103 (dk_at dksX1_line_11 16 rfl rfl)
theorem dX1_line_276 : decode cX1_line 276 = .ok (.ireturn, 1) := dk_172 (dk_at dksX1_line_11 19 rfl rfl)
theorem dX1_line_277 : decode cX1_line 277 = .ok (.iload 6, 2) := dk_21 6 (dk_at dksX1_line_11 20 rfl rfl)
theorem dX1_line_279 : decode cX1_line 279 = .ok (.iload 9, 2) := dk_21 9 (dk_at dksX1_line_11 22 rfl rfl)
theorem dX1_line_281 : decode cX1_line 281 = .ok (.iadd, 1) := dk_96 (dk_at dksX1_line_12 0 rfl rfl)
theorem dX1_line_282 : decode cX1_line 282 = .ok (.istore 6, 2) := dk_54 6 (dk_at dksX1_line_12 1 rfl rfl)
theorem dX1_line_284 : decode cX1_line 284 = .ok (.iconst 0, 1) := dk_3 (dk_at dksX1_line_12 3 rfl rfl)
theorem dX1_line_285 : decode cX1_line 285 = .ok (.istore 7, 2) := dk_54 7 (dk_at dksX1_line_12 4 rfl rfl)
theorem dX1_line_287 : decode cX1_line 287 = .ok (.iconst 0, 1) := dk_3 (dk_at dksX1_line_12 6 rfl rfl)
theorem dX1_line_288 : decode cX1_line 288 = .ok (.istore 8, 2) := dk_54 8 (dk_at dksX1_line_12 7 rfl rfl)
theorem dX1_line_290 : decode cX1_line 290 = .ok (.iconst 0, 1) := dk_3 (dk_at dksX1_line_12 9 rfl rfl)
theorem dX1_line_291 : decode cX1_line 291 = .ok (.istore 9, 2) := dk_54 9 (dk_at dksX1_line_12 10 rfl rfl)
theorem dX1_line_293 : decode cX1_line 293 = .ok (.iconst 1, 1) := dk_4 (dk_at dksX1_line_12 12 rfl rfl)
theorem dX1_line_294 : decode cX1_line 294 = .ok (.istore 10, 2) := dk_54 10 (dk_at dksX1_line_12 13 rfl rfl)
theorem dX1_line_296 : decode cX1_line 296 = .ok (.iinc 11 1, 3) := dk_132 11 1 (dk_at dksX1_line_12 15 rfl rfl)
theorem dX1_line_299 : decode cX1_line 299 = .ok (.goto (-115), 3) := dk_167 255 141 (dk_at dksX1_line_12 18 rfl rfl)
theorem dX1_line_302 : decode cX1_line 302 = .ok (.aload_n 0, 1) := dk_42 (dk_at dksX1_line_12 21 rfl rfl)
theorem dX1_line_303 : decode cX1_line 303 = .ok (.getfield 103, 3) := dk_180 0 103 (dk_at dksX1_line_13 0 rfl rfl)
theorem dX1_line_306 : decode cX1_line 306 = .ok (.ireturn, 1) := dk_172 (dk_at dksX1_line_13 3 rfl rfl)
abbrev cX1_duel : ByteArray := prog_1_method_53_code
def yX1_duel : MethodName := ⟨RX1, "duel", "(II)I"⟩
def dkwX1_duel_4 : List UInt8 := [21, 4, 172]
abbrev dktX1_duel_4 : List UInt8 := dkwX1_duel_4 ++ []
def dkwX1_duel_3 : List UInt8 := [180, 0, 190, 42, 180, 0, 45, 180, 0, 175, 28, 50, 180, 0, 190, 3, 3, 182, 1, 111, 133, 182, 0, 219]
abbrev dktX1_duel_3 : List UInt8 := dkwX1_duel_3 ++ dktX1_duel_4
def dkwX1_duel_2 : List UInt8 := [180, 0, 199, 182, 1, 126, 54, 4, 42, 42, 180, 0, 96, 42, 180, 0, 45, 180, 0, 175, 27, 50]
abbrev dktX1_duel_2 : List UInt8 := dkwX1_duel_2 ++ dktX1_duel_3
def dkwX1_duel_1 : List UInt8 := [42, 27, 28, 42, 180, 0, 45, 180, 0, 175, 27, 50, 180, 0, 199, 42, 180, 0, 45, 180, 0, 175, 28, 50]
abbrev dktX1_duel_1 : List UInt8 := dkwX1_duel_1 ++ dktX1_duel_2
def dkwX1_duel_0 : List UInt8 := [42, 27, 28, 182, 1, 58, 154, 0, 5, 2, 172, 42, 27, 28, 182, 1, 123, 62, 29, 153, 0, 5, 29, 172]
abbrev dktX1_duel_0 : List UInt8 := dkwX1_duel_0 ++ dktX1_duel_1
theorem dksX1_duel_0 : cX1_duel.data.toList.drop 0 = dktX1_duel_0 := by decide +kernel
theorem dksX1_duel_1 : cX1_duel.data.toList.drop 24 = dktX1_duel_1 := dk_seg dksX1_duel_0 24 rfl rfl
theorem dksX1_duel_2 : cX1_duel.data.toList.drop 48 = dktX1_duel_2 := dk_seg dksX1_duel_1 24 rfl rfl
theorem dksX1_duel_3 : cX1_duel.data.toList.drop 70 = dktX1_duel_3 := dk_seg dksX1_duel_2 22 rfl rfl
theorem dksX1_duel_4 : cX1_duel.data.toList.drop 94 = dktX1_duel_4 := dk_seg dksX1_duel_3 24 rfl rfl
theorem dX1_duel_0 : decode cX1_duel 0 = .ok (.aload_n 0, 1) := dk_42 (dk_at dksX1_duel_0 0 rfl rfl)
theorem dX1_duel_1 : decode cX1_duel 1 = .ok (.iload_n 1, 1) := dk_27 (dk_at dksX1_duel_0 1 rfl rfl)
theorem dX1_duel_2 : decode cX1_duel 2 = .ok (.iload_n 2, 1) := dk_28 (dk_at dksX1_duel_0 2 rfl rfl)
theorem dX1_duel_3 : decode cX1_duel 3 = .ok (.invokevirtual 314, 3) := dk_182 1 58 (dk_at dksX1_duel_0 3 rfl rfl)
theorem dX1_duel_6 : decode cX1_duel 6 = .ok (.ifCond .ne 5, 3) := dk_154 0 5 (dk_at dksX1_duel_0 6 rfl rfl)
theorem dX1_duel_9 : decode cX1_duel 9 = .ok (.iconst (-1), 1) := dk_2 (dk_at dksX1_duel_0 9 rfl rfl)
theorem dX1_duel_10 : decode cX1_duel 10 = .ok (.ireturn, 1) := dk_172 (dk_at dksX1_duel_0 10 rfl rfl)
theorem dX1_duel_11 : decode cX1_duel 11 = .ok (.aload_n 0, 1) := dk_42 (dk_at dksX1_duel_0 11 rfl rfl)
theorem dX1_duel_12 : decode cX1_duel 12 = .ok (.iload_n 1, 1) := dk_27 (dk_at dksX1_duel_0 12 rfl rfl)
theorem dX1_duel_13 : decode cX1_duel 13 = .ok (.iload_n 2, 1) := dk_28 (dk_at dksX1_duel_0 13 rfl rfl)
theorem dX1_duel_14 : decode cX1_duel 14 = .ok (.invokevirtual 379, 3) := dk_182 1 123 (dk_at dksX1_duel_0 14 rfl rfl)
theorem dX1_duel_17 : decode cX1_duel 17 = .ok (.istore_n 3, 1) := dk_62 (dk_at dksX1_duel_0 17 rfl rfl)
theorem dX1_duel_18 : decode cX1_duel 18 = .ok (.iload_n 3, 1) := dk_29 (dk_at dksX1_duel_0 18 rfl rfl)
theorem dX1_duel_19 : decode cX1_duel 19 = .ok (.ifCond .eq 5, 3) := dk_153 0 5 (dk_at dksX1_duel_0 19 rfl rfl)
theorem dX1_duel_22 : decode cX1_duel 22 = .ok (.iload_n 3, 1) := dk_29 (dk_at dksX1_duel_0 22 rfl rfl)
theorem dX1_duel_23 : decode cX1_duel 23 = .ok (.ireturn, 1) := dk_172 (dk_at dksX1_duel_0 23 rfl rfl)
theorem dX1_duel_24 : decode cX1_duel 24 = .ok (.aload_n 0, 1) := dk_42 (dk_at dksX1_duel_1 0 rfl rfl)
theorem dX1_duel_25 : decode cX1_duel 25 = .ok (.iload_n 1, 1) := dk_27 (dk_at dksX1_duel_1 1 rfl rfl)
theorem dX1_duel_26 : decode cX1_duel 26 = .ok (.iload_n 2, 1) := dk_28 (dk_at dksX1_duel_1 2 rfl rfl)
theorem dX1_duel_27 : decode cX1_duel 27 = .ok (.aload_n 0, 1) := dk_42 (dk_at dksX1_duel_1 3 rfl rfl)
theorem dX1_duel_28 : decode cX1_duel 28 = .ok (.getfield 45, 3) := dk_180 0 45 (dk_at dksX1_duel_1 4 rfl rfl)
theorem dX1_duel_31 : decode cX1_duel 31 = .ok (.getfield 175, 3) := dk_180 0 175 (dk_at dksX1_duel_1 7 rfl rfl)
theorem dX1_duel_34 : decode cX1_duel 34 = .ok (.iload_n 1, 1) := dk_27 (dk_at dksX1_duel_1 10 rfl rfl)
theorem dX1_duel_35 : decode cX1_duel 35 = .ok (.aaload, 1) := dk_50 (dk_at dksX1_duel_1 11 rfl rfl)
theorem dX1_duel_36 : decode cX1_duel 36 = .ok (.getfield 199, 3) := dk_180 0 199 (dk_at dksX1_duel_1 12 rfl rfl)
theorem dX1_duel_39 : decode cX1_duel 39 = .ok (.aload_n 0, 1) := dk_42 (dk_at dksX1_duel_1 15 rfl rfl)
theorem dX1_duel_40 : decode cX1_duel 40 = .ok (.getfield 45, 3) := dk_180 0 45 (dk_at dksX1_duel_1 16 rfl rfl)
theorem dX1_duel_43 : decode cX1_duel 43 = .ok (.getfield 175, 3) := dk_180 0 175 (dk_at dksX1_duel_1 19 rfl rfl)
theorem dX1_duel_46 : decode cX1_duel 46 = .ok (.iload_n 2, 1) := dk_28 (dk_at dksX1_duel_1 22 rfl rfl)
theorem dX1_duel_47 : decode cX1_duel 47 = .ok (.aaload, 1) := dk_50 (dk_at dksX1_duel_1 23 rfl rfl)
theorem dX1_duel_48 : decode cX1_duel 48 = .ok (.getfield 199, 3) := dk_180 0 199 (dk_at dksX1_duel_2 0 rfl rfl)
theorem dX1_duel_51 : decode cX1_duel 51 = .ok (.invokevirtual 382, 3) := dk_182 1 126 (dk_at dksX1_duel_2 3 rfl rfl)
theorem dX1_duel_54 : decode cX1_duel 54 = .ok (.istore 4, 2) := dk_54 4 (dk_at dksX1_duel_2 6 rfl rfl)
theorem dX1_duel_56 : decode cX1_duel 56 = .ok (.aload_n 0, 1) := dk_42 (dk_at dksX1_duel_2 8 rfl rfl)
theorem dX1_duel_57 : decode cX1_duel 57 = .ok (.aload_n 0, 1) := dk_42 (dk_at dksX1_duel_2 9 rfl rfl)
theorem dX1_duel_58 : decode cX1_duel 58 = .ok (.getfield 96, 3) := dk_180 0 96 (dk_at dksX1_duel_2 10 rfl rfl)
theorem dX1_duel_61 : decode cX1_duel 61 = .ok (.aload_n 0, 1) := dk_42 (dk_at dksX1_duel_2 13 rfl rfl)
theorem dX1_duel_62 : decode cX1_duel 62 = .ok (.getfield 45, 3) := dk_180 0 45 (dk_at dksX1_duel_2 14 rfl rfl)
theorem dX1_duel_65 : decode cX1_duel 65 = .ok (.getfield 175, 3) := dk_180 0 175 (dk_at dksX1_duel_2 17 rfl rfl)
theorem dX1_duel_68 : decode cX1_duel 68 = .ok (.iload_n 1, 1) := dk_27 (dk_at dksX1_duel_2 20 rfl rfl)
theorem dX1_duel_69 : decode cX1_duel 69 = .ok (.aaload, 1) := dk_50 (dk_at dksX1_duel_2 21 rfl rfl)
theorem dX1_duel_70 : decode cX1_duel 70 = .ok (.getfield 190, 3) := dk_180 0 190 (dk_at dksX1_duel_3 0 rfl rfl)
theorem dX1_duel_73 : decode cX1_duel 73 = .ok (.aload_n 0, 1) := dk_42 (dk_at dksX1_duel_3 3 rfl rfl)
theorem dX1_duel_74 : decode cX1_duel 74 = .ok (.getfield 45, 3) := dk_180 0 45 (dk_at dksX1_duel_3 4 rfl rfl)
theorem dX1_duel_77 : decode cX1_duel 77 = .ok (.getfield 175, 3) := dk_180 0 175 (dk_at dksX1_duel_3 7 rfl rfl)
theorem dX1_duel_80 : decode cX1_duel 80 = .ok (.iload_n 2, 1) := dk_28 (dk_at dksX1_duel_3 10 rfl rfl)
theorem dX1_duel_81 : decode cX1_duel 81 = .ok (.aaload, 1) := dk_50 (dk_at dksX1_duel_3 11 rfl rfl)
theorem dX1_duel_82 : decode cX1_duel 82 = .ok (.getfield 190, 3) := dk_180 0 190 (dk_at dksX1_duel_3 12 rfl rfl)
theorem dX1_duel_85 : decode cX1_duel 85 = .ok (.iconst 0, 1) := dk_3 (dk_at dksX1_duel_3 15 rfl rfl)
theorem dX1_duel_86 : decode cX1_duel 86 = .ok (.iconst 0, 1) := dk_3 (dk_at dksX1_duel_3 16 rfl rfl)
theorem dX1_duel_87 : decode cX1_duel 87 = .ok (.invokevirtual 367, 3) := dk_182 1 111 (dk_at dksX1_duel_3 17 rfl rfl)
theorem dX1_duel_90 : decode cX1_duel 90 = .ok (.i2l, 1) := dk_133 (dk_at dksX1_duel_3 20 rfl rfl)
theorem dX1_duel_91 : decode cX1_duel 91 = .ok (.invokevirtual 219, 3) := dk_182 0 219 (dk_at dksX1_duel_3 21 rfl rfl)
theorem dX1_duel_94 : decode cX1_duel 94 = .ok (.iload 4, 2) := dk_21 4 (dk_at dksX1_duel_4 0 rfl rfl)
theorem dX1_duel_96 : decode cX1_duel 96 = .ok (.ireturn, 1) := dk_172 (dk_at dksX1_duel_4 2 rfl rfl)
abbrev cX1_noDuel : ByteArray := prog_1_method_51_code
def yX1_noDuel : MethodName := ⟨RX1, "noDuel", "(II)I"⟩
def dkwX1_noDuel_2 : List UInt8 := [50, 182, 0, 202, 153, 0, 7, 3, 167, 0, 5, 16, 253, 172]
abbrev dktX1_noDuel_2 : List UInt8 := dkwX1_noDuel_2 ++ []
def dkwX1_noDuel_1 : List UInt8 := [172, 42, 180, 0, 45, 180, 0, 175, 27, 50, 182, 0, 202, 153, 0, 22, 42, 180, 0, 45, 180, 0, 175, 28]
abbrev dktX1_noDuel_1 : List UInt8 := dkwX1_noDuel_1 ++ dktX1_noDuel_2
def dkwX1_noDuel_0 : List UInt8 := [42, 180, 0, 45, 180, 0, 233, 5, 160, 0, 14, 42, 180, 0, 45, 180, 1, 105, 5, 159, 0, 6, 16, 254]
abbrev dktX1_noDuel_0 : List UInt8 := dkwX1_noDuel_0 ++ dktX1_noDuel_1
theorem dksX1_noDuel_0 : cX1_noDuel.data.toList.drop 0 = dktX1_noDuel_0 := by decide +kernel
theorem dksX1_noDuel_1 : cX1_noDuel.data.toList.drop 24 = dktX1_noDuel_1 := dk_seg dksX1_noDuel_0 24 rfl rfl
theorem dksX1_noDuel_2 : cX1_noDuel.data.toList.drop 48 = dktX1_noDuel_2 := dk_seg dksX1_noDuel_1 24 rfl rfl
theorem dX1_noDuel_0 : decode cX1_noDuel 0 = .ok (.aload_n 0, 1) := dk_42 (dk_at dksX1_noDuel_0 0 rfl rfl)
theorem dX1_noDuel_1 : decode cX1_noDuel 1 = .ok (.getfield 45, 3) := dk_180 0 45 (dk_at dksX1_noDuel_0 1 rfl rfl)
theorem dX1_noDuel_4 : decode cX1_noDuel 4 = .ok (.getfield 233, 3) := dk_180 0 233 (dk_at dksX1_noDuel_0 4 rfl rfl)
theorem dX1_noDuel_7 : decode cX1_noDuel 7 = .ok (.iconst 2, 1) := dk_5 (dk_at dksX1_noDuel_0 7 rfl rfl)
theorem dX1_noDuel_8 : decode cX1_noDuel 8 = .ok (.if_icmp .ne 14, 3) := dk_160 0 14 (dk_at dksX1_noDuel_0 8 rfl rfl)
theorem dX1_noDuel_11 : decode cX1_noDuel 11 = .ok (.aload_n 0, 1) := dk_42 (dk_at dksX1_noDuel_0 11 rfl rfl)
theorem dX1_noDuel_12 : decode cX1_noDuel 12 = .ok (.getfield 45, 3) := dk_180 0 45 (dk_at dksX1_noDuel_0 12 rfl rfl)
theorem dX1_noDuel_15 : decode cX1_noDuel 15 = .ok (.getfield 361, 3) := dk_180 1 105 (dk_at dksX1_noDuel_0 15 rfl rfl)
theorem dX1_noDuel_18 : decode cX1_noDuel 18 = .ok (.iconst 2, 1) := dk_5 (dk_at dksX1_noDuel_0 18 rfl rfl)
theorem dX1_noDuel_19 : decode cX1_noDuel 19 = .ok (.if_icmp .eq 6, 3) := dk_159 0 6 (dk_at dksX1_noDuel_0 19 rfl rfl)
theorem dX1_noDuel_22 : decode cX1_noDuel 22 = .ok (.bipush (-2), 2) := dk_16 254 (dk_at dksX1_noDuel_0 22 rfl rfl)
theorem dX1_noDuel_24 : decode cX1_noDuel 24 = .ok (.ireturn, 1) := dk_172 (dk_at dksX1_noDuel_1 0 rfl rfl)
theorem dX1_noDuel_25 : decode cX1_noDuel 25 = .ok (.aload_n 0, 1) := dk_42 (dk_at dksX1_noDuel_1 1 rfl rfl)
theorem dX1_noDuel_26 : decode cX1_noDuel 26 = .ok (.getfield 45, 3) := dk_180 0 45 (dk_at dksX1_noDuel_1 2 rfl rfl)
theorem dX1_noDuel_29 : decode cX1_noDuel 29 = .ok (.getfield 175, 3) := dk_180 0 175 (dk_at dksX1_noDuel_1 5 rfl rfl)
theorem dX1_noDuel_32 : decode cX1_noDuel 32 = .ok (.iload_n 1, 1) := dk_27 (dk_at dksX1_noDuel_1 8 rfl rfl)
theorem dX1_noDuel_33 : decode cX1_noDuel 33 = .ok (.aaload, 1) := dk_50 (dk_at dksX1_noDuel_1 9 rfl rfl)
theorem dX1_noDuel_34 : decode cX1_noDuel 34 = .ok (.invokevirtual 202, 3) := dk_182 0 202 (dk_at dksX1_noDuel_1 10 rfl rfl)
theorem dX1_noDuel_37 : decode cX1_noDuel 37 = .ok (.ifCond .eq 22, 3) := dk_153 0 22 (dk_at dksX1_noDuel_1 13 rfl rfl)
theorem dX1_noDuel_40 : decode cX1_noDuel 40 = .ok (.aload_n 0, 1) := dk_42 (dk_at dksX1_noDuel_1 16 rfl rfl)
theorem dX1_noDuel_41 : decode cX1_noDuel 41 = .ok (.getfield 45, 3) := dk_180 0 45 (dk_at dksX1_noDuel_1 17 rfl rfl)
theorem dX1_noDuel_44 : decode cX1_noDuel 44 = .ok (.getfield 175, 3) := dk_180 0 175 (dk_at dksX1_noDuel_1 20 rfl rfl)
theorem dX1_noDuel_47 : decode cX1_noDuel 47 = .ok (.iload_n 2, 1) := dk_28 (dk_at dksX1_noDuel_1 23 rfl rfl)
theorem dX1_noDuel_48 : decode cX1_noDuel 48 = .ok (.aaload, 1) := dk_50 (dk_at dksX1_noDuel_2 0 rfl rfl)
theorem dX1_noDuel_49 : decode cX1_noDuel 49 = .ok (.invokevirtual 202, 3) := dk_182 0 202 (dk_at dksX1_noDuel_2 1 rfl rfl)
theorem dX1_noDuel_52 : decode cX1_noDuel 52 = .ok (.ifCond .eq 7, 3) := dk_153 0 7 (dk_at dksX1_noDuel_2 4 rfl rfl)
theorem dX1_noDuel_55 : decode cX1_noDuel 55 = .ok (.iconst 0, 1) := dk_3 (dk_at dksX1_noDuel_2 7 rfl rfl)
theorem dX1_noDuel_56 : decode cX1_noDuel 56 = .ok (.goto 5, 3) := dk_167 0 5 (dk_at dksX1_noDuel_2 8 rfl rfl)
theorem dX1_noDuel_59 : decode cX1_noDuel 59 = .ok (.bipush (-3), 2) := dk_16 253 (dk_at dksX1_noDuel_2 11 rfl rfl)
theorem dX1_noDuel_61 : decode cX1_noDuel 61 = .ok (.ireturn, 1) := dk_172 (dk_at dksX1_noDuel_2 13 rfl rfl)
abbrev cX1_tellsDuel : ByteArray := prog_1_method_52_code
def yX1_tellsDuel : MethodName := ⟨RX1, "tellsDuel", "(IIII)I"⟩
def dkwX1_tellsDuel_4 : List UInt8 := [180, 0, 96, 21, 5, 21, 6, 29, 21, 4, 182, 1, 120, 46, 133, 182, 0, 219, 21, 7, 172]
abbrev dktX1_tellsDuel_4 : List UInt8 := dkwX1_tellsDuel_4 ++ []
def dkwX1_tellsDuel_3 : List UInt8 := [153, 0, 8, 27, 133, 167, 0, 5, 28, 133, 182, 0, 219, 42, 42, 180, 0, 96, 180, 1, 117, 42]
abbrev dktX1_tellsDuel_3 : List UInt8 := dkwX1_tellsDuel_3 ++ dktX1_tellsDuel_4
def dkwX1_tellsDuel_2 : List UInt8 := [182, 1, 111, 54, 7, 42, 3, 181, 0, 103, 42, 42, 180, 0, 96, 21, 5, 21, 6, 182, 1, 114]
abbrev dktX1_tellsDuel_2 : List UInt8 := dkwX1_tellsDuel_2 ++ dktX1_tellsDuel_3
def dkwX1_tellsDuel_1 : List UInt8 := [180, 0, 45, 180, 0, 175, 28, 50, 180, 0, 190, 54, 6, 42, 180, 0, 96, 21, 5, 21, 6, 29, 21, 4]
abbrev dktX1_tellsDuel_1 : List UInt8 := dkwX1_tellsDuel_1 ++ dktX1_tellsDuel_2
def dkwX1_tellsDuel_0 : List UInt8 := [42, 180, 0, 96, 27, 28, 182, 1, 108, 42, 180, 0, 45, 180, 0, 175, 27, 50, 180, 0, 190, 54, 5, 42]
abbrev dktX1_tellsDuel_0 : List UInt8 := dkwX1_tellsDuel_0 ++ dktX1_tellsDuel_1
theorem dksX1_tellsDuel_0 : cX1_tellsDuel.data.toList.drop 0 = dktX1_tellsDuel_0 := by decide +kernel
theorem dksX1_tellsDuel_1 : cX1_tellsDuel.data.toList.drop 24 = dktX1_tellsDuel_1 := dk_seg dksX1_tellsDuel_0 24 rfl rfl
theorem dksX1_tellsDuel_2 : cX1_tellsDuel.data.toList.drop 48 = dktX1_tellsDuel_2 := dk_seg dksX1_tellsDuel_1 24 rfl rfl
theorem dksX1_tellsDuel_3 : cX1_tellsDuel.data.toList.drop 70 = dktX1_tellsDuel_3 := dk_seg dksX1_tellsDuel_2 22 rfl rfl
theorem dksX1_tellsDuel_4 : cX1_tellsDuel.data.toList.drop 92 = dktX1_tellsDuel_4 := dk_seg dksX1_tellsDuel_3 22 rfl rfl
theorem dX1_tellsDuel_0 : decode cX1_tellsDuel 0 = .ok (.aload_n 0, 1) := dk_42 (dk_at dksX1_tellsDuel_0 0 rfl rfl)
theorem dX1_tellsDuel_1 : decode cX1_tellsDuel 1 = .ok (.getfield 96, 3) := dk_180 0 96 (dk_at dksX1_tellsDuel_0 1 rfl rfl)
theorem dX1_tellsDuel_4 : decode cX1_tellsDuel 4 = .ok (.iload_n 1, 1) := dk_27 (dk_at dksX1_tellsDuel_0 4 rfl rfl)
theorem dX1_tellsDuel_5 : decode cX1_tellsDuel 5 = .ok (.iload_n 2, 1) := dk_28 (dk_at dksX1_tellsDuel_0 5 rfl rfl)
theorem dX1_tellsDuel_6 : decode cX1_tellsDuel 6 = .ok (.invokevirtual 364, 3) := dk_182 1 108 (dk_at dksX1_tellsDuel_0 6 rfl rfl)
theorem dX1_tellsDuel_9 : decode cX1_tellsDuel 9 = .ok (.aload_n 0, 1) := dk_42 (dk_at dksX1_tellsDuel_0 9 rfl rfl)
theorem dX1_tellsDuel_10 : decode cX1_tellsDuel 10 = .ok (.getfield 45, 3) := dk_180 0 45 (dk_at dksX1_tellsDuel_0 10 rfl rfl)
theorem dX1_tellsDuel_13 : decode cX1_tellsDuel 13 = .ok (.getfield 175, 3) := dk_180 0 175 (dk_at dksX1_tellsDuel_0 13 rfl rfl)
theorem dX1_tellsDuel_16 : decode cX1_tellsDuel 16 = .ok (.iload_n 1, 1) := dk_27 (dk_at dksX1_tellsDuel_0 16 rfl rfl)
theorem dX1_tellsDuel_17 : decode cX1_tellsDuel 17 = .ok (.aaload, 1) := dk_50 (dk_at dksX1_tellsDuel_0 17 rfl rfl)
theorem dX1_tellsDuel_18 : decode cX1_tellsDuel 18 = .ok (.getfield 190, 3) := dk_180 0 190 (dk_at dksX1_tellsDuel_0 18 rfl rfl)
theorem dX1_tellsDuel_21 : decode cX1_tellsDuel 21 = .ok (.istore 5, 2) := dk_54 5 (dk_at dksX1_tellsDuel_0 21 rfl rfl)
theorem dX1_tellsDuel_23 : decode cX1_tellsDuel 23 = .ok (.aload_n 0, 1) := dk_42 (dk_at dksX1_tellsDuel_0 23 rfl rfl)
theorem dX1_tellsDuel_24 : decode cX1_tellsDuel 24 = .ok (.getfield 45, 3) := dk_180 0 45 (dk_at dksX1_tellsDuel_1 0 rfl rfl)
theorem dX1_tellsDuel_27 : decode cX1_tellsDuel 27 = .ok (.getfield 175, 3) := dk_180 0 175 (dk_at dksX1_tellsDuel_1 3 rfl rfl)
theorem dX1_tellsDuel_30 : decode cX1_tellsDuel 30 = .ok (.iload_n 2, 1) := dk_28 (dk_at dksX1_tellsDuel_1 6 rfl rfl)
theorem dX1_tellsDuel_31 : decode cX1_tellsDuel 31 = .ok (.aaload, 1) := dk_50 (dk_at dksX1_tellsDuel_1 7 rfl rfl)
theorem dX1_tellsDuel_32 : decode cX1_tellsDuel 32 = .ok (.getfield 190, 3) := dk_180 0 190 (dk_at dksX1_tellsDuel_1 8 rfl rfl)
theorem dX1_tellsDuel_35 : decode cX1_tellsDuel 35 = .ok (.istore 6, 2) := dk_54 6 (dk_at dksX1_tellsDuel_1 11 rfl rfl)
theorem dX1_tellsDuel_37 : decode cX1_tellsDuel 37 = .ok (.aload_n 0, 1) := dk_42 (dk_at dksX1_tellsDuel_1 13 rfl rfl)
theorem dX1_tellsDuel_38 : decode cX1_tellsDuel 38 = .ok (.getfield 96, 3) := dk_180 0 96 (dk_at dksX1_tellsDuel_1 14 rfl rfl)
theorem dX1_tellsDuel_41 : decode cX1_tellsDuel 41 = .ok (.iload 5, 2) := dk_21 5 (dk_at dksX1_tellsDuel_1 17 rfl rfl)
theorem dX1_tellsDuel_43 : decode cX1_tellsDuel 43 = .ok (.iload 6, 2) := dk_21 6 (dk_at dksX1_tellsDuel_1 19 rfl rfl)
theorem dX1_tellsDuel_45 : decode cX1_tellsDuel 45 = .ok (.iload_n 3, 1) := dk_29 (dk_at dksX1_tellsDuel_1 21 rfl rfl)
theorem dX1_tellsDuel_46 : decode cX1_tellsDuel 46 = .ok (.iload 4, 2) := dk_21 4 (dk_at dksX1_tellsDuel_1 22 rfl rfl)
theorem dX1_tellsDuel_48 : decode cX1_tellsDuel 48 = .ok (.invokevirtual 367, 3) := dk_182 1 111 (dk_at dksX1_tellsDuel_2 0 rfl rfl)
theorem dX1_tellsDuel_51 : decode cX1_tellsDuel 51 = .ok (.istore 7, 2) := dk_54 7 (dk_at dksX1_tellsDuel_2 3 rfl rfl)
theorem dX1_tellsDuel_53 : decode cX1_tellsDuel 53 = .ok (.aload_n 0, 1) := dk_42 (dk_at dksX1_tellsDuel_2 5 rfl rfl)
theorem dX1_tellsDuel_54 : decode cX1_tellsDuel 54 = .ok (.iconst 0, 1) := dk_3 (dk_at dksX1_tellsDuel_2 6 rfl rfl)
theorem dX1_tellsDuel_55 : decode cX1_tellsDuel 55 = .ok (.putfield 103, 3) := dk_181 0 103 (dk_at dksX1_tellsDuel_2 7 rfl rfl)
theorem dX1_tellsDuel_58 : decode cX1_tellsDuel 58 = .ok (.aload_n 0, 1) := dk_42 (dk_at dksX1_tellsDuel_2 10 rfl rfl)
theorem dX1_tellsDuel_59 : decode cX1_tellsDuel 59 = .ok (.aload_n 0, 1) := dk_42 (dk_at dksX1_tellsDuel_2 11 rfl rfl)
theorem dX1_tellsDuel_60 : decode cX1_tellsDuel 60 = .ok (.getfield 96, 3) := dk_180 0 96 (dk_at dksX1_tellsDuel_2 12 rfl rfl)
theorem dX1_tellsDuel_63 : decode cX1_tellsDuel 63 = .ok (.iload 5, 2) := dk_21 5 (dk_at dksX1_tellsDuel_2 15 rfl rfl)
theorem dX1_tellsDuel_65 : decode cX1_tellsDuel 65 = .ok (.iload 6, 2) := dk_21 6 (dk_at dksX1_tellsDuel_2 17 rfl rfl)
theorem dX1_tellsDuel_67 : decode cX1_tellsDuel 67 = .ok (.invokevirtual 370, 3) := dk_182 1 114 (dk_at dksX1_tellsDuel_2 19 rfl rfl)
theorem dX1_tellsDuel_70 : decode cX1_tellsDuel 70 = .ok (.ifCond .eq 8, 3) := dk_153 0 8 (dk_at dksX1_tellsDuel_3 0 rfl rfl)
theorem dX1_tellsDuel_73 : decode cX1_tellsDuel 73 = .ok (.iload_n 1, 1) := dk_27 (dk_at dksX1_tellsDuel_3 3 rfl rfl)
theorem dX1_tellsDuel_74 : decode cX1_tellsDuel 74 = .ok (.i2l, 1) := dk_133 (dk_at dksX1_tellsDuel_3 4 rfl rfl)
theorem dX1_tellsDuel_75 : decode cX1_tellsDuel 75 = .ok (.goto 5, 3) := dk_167 0 5 (dk_at dksX1_tellsDuel_3 5 rfl rfl)
theorem dX1_tellsDuel_78 : decode cX1_tellsDuel 78 = .ok (.iload_n 2, 1) := dk_28 (dk_at dksX1_tellsDuel_3 8 rfl rfl)
theorem dX1_tellsDuel_79 : decode cX1_tellsDuel 79 = .ok (.i2l, 1) := dk_133 (dk_at dksX1_tellsDuel_3 9 rfl rfl)
theorem dX1_tellsDuel_80 : decode cX1_tellsDuel 80 = .ok (.invokevirtual 219, 3) := dk_182 0 219 (dk_at dksX1_tellsDuel_3 10 rfl rfl)
theorem dX1_tellsDuel_83 : decode cX1_tellsDuel 83 = .ok (.aload_n 0, 1) := dk_42 (dk_at dksX1_tellsDuel_3 13 rfl rfl)
theorem dX1_tellsDuel_84 : decode cX1_tellsDuel 84 = .ok (.aload_n 0, 1) := dk_42 (dk_at dksX1_tellsDuel_3 14 rfl rfl)
theorem dX1_tellsDuel_85 : decode cX1_tellsDuel 85 = .ok (.getfield 96, 3) := dk_180 0 96 (dk_at dksX1_tellsDuel_3 15 rfl rfl)
theorem dX1_tellsDuel_88 : decode cX1_tellsDuel 88 = .ok (.getfield 373, 3) := dk_180 1 117 (dk_at dksX1_tellsDuel_3 18 rfl rfl)
theorem dX1_tellsDuel_91 : decode cX1_tellsDuel 91 = .ok (.aload_n 0, 1) := dk_42 (dk_at dksX1_tellsDuel_3 21 rfl rfl)
theorem dX1_tellsDuel_92 : decode cX1_tellsDuel 92 = .ok (.getfield 96, 3) := dk_180 0 96 (dk_at dksX1_tellsDuel_4 0 rfl rfl)
theorem dX1_tellsDuel_95 : decode cX1_tellsDuel 95 = .ok (.iload 5, 2) := dk_21 5 (dk_at dksX1_tellsDuel_4 3 rfl rfl)
theorem dX1_tellsDuel_97 : decode cX1_tellsDuel 97 = .ok (.iload 6, 2) := dk_21 6 (dk_at dksX1_tellsDuel_4 5 rfl rfl)
theorem dX1_tellsDuel_99 : decode cX1_tellsDuel 99 = .ok (.iload_n 3, 1) := dk_29 (dk_at dksX1_tellsDuel_4 7 rfl rfl)
theorem dX1_tellsDuel_100 : decode cX1_tellsDuel 100 = .ok (.iload 4, 2) := dk_21 4 (dk_at dksX1_tellsDuel_4 8 rfl rfl)
theorem dX1_tellsDuel_102 : decode cX1_tellsDuel 102 = .ok (.invokevirtual 376, 3) := dk_182 1 120 (dk_at dksX1_tellsDuel_4 10 rfl rfl)
theorem dX1_tellsDuel_105 : decode cX1_tellsDuel 105 = .ok (.iaload, 1) := dk_46 (dk_at dksX1_tellsDuel_4 13 rfl rfl)
theorem dX1_tellsDuel_106 : decode cX1_tellsDuel 106 = .ok (.i2l, 1) := dk_133 (dk_at dksX1_tellsDuel_4 14 rfl rfl)
theorem dX1_tellsDuel_107 : decode cX1_tellsDuel 107 = .ok (.invokevirtual 219, 3) := dk_182 0 219 (dk_at dksX1_tellsDuel_4 15 rfl rfl)
theorem dX1_tellsDuel_110 : decode cX1_tellsDuel 110 = .ok (.iload 7, 2) := dk_21 7 (dk_at dksX1_tellsDuel_4 18 rfl rfl)
theorem dX1_tellsDuel_112 : decode cX1_tellsDuel 112 = .ok (.ireturn, 1) := dk_172 (dk_at dksX1_tellsDuel_4 20 rfl rfl)
abbrev cX1_bluff : ByteArray := prog_1_method_54_code
def yX1_bluff : MethodName := ⟨RX1, "bluff", "(IIII)I"⟩
def dkwX1_bluff_2 : List UInt8 := [153, 0, 8, 21, 5, 167, 0, 12, 42, 27, 28, 29, 21, 4, 182, 1, 126, 172]
abbrev dktX1_bluff_2 : List UInt8 := dkwX1_bluff_2 ++ []
def dkwX1_bluff_1 : List UInt8 := [9, 20, 0, 114, 184, 0, 110, 154, 0, 5, 2, 172, 42, 27, 28, 182, 1, 123, 54, 5, 21, 5]
abbrev dktX1_bluff_1 : List UInt8 := dkwX1_bluff_1 ++ dktX1_bluff_2
def dkwX1_bluff_0 : List UInt8 := [42, 27, 28, 182, 1, 58, 153, 0, 28, 29, 133, 9, 20, 0, 114, 184, 0, 110, 153, 0, 16, 21, 4, 133]
abbrev dktX1_bluff_0 : List UInt8 := dkwX1_bluff_0 ++ dktX1_bluff_1
theorem dksX1_bluff_0 : cX1_bluff.data.toList.drop 0 = dktX1_bluff_0 := by decide +kernel
theorem dksX1_bluff_1 : cX1_bluff.data.toList.drop 24 = dktX1_bluff_1 := dk_seg dksX1_bluff_0 24 rfl rfl
theorem dksX1_bluff_2 : cX1_bluff.data.toList.drop 46 = dktX1_bluff_2 := dk_seg dksX1_bluff_1 22 rfl rfl
theorem dX1_bluff_0 : decode cX1_bluff 0 = .ok (.aload_n 0, 1) := dk_42 (dk_at dksX1_bluff_0 0 rfl rfl)
theorem dX1_bluff_1 : decode cX1_bluff 1 = .ok (.iload_n 1, 1) := dk_27 (dk_at dksX1_bluff_0 1 rfl rfl)
theorem dX1_bluff_2 : decode cX1_bluff 2 = .ok (.iload_n 2, 1) := dk_28 (dk_at dksX1_bluff_0 2 rfl rfl)
theorem dX1_bluff_3 : decode cX1_bluff 3 = .ok (.invokevirtual 314, 3) := dk_182 1 58 (dk_at dksX1_bluff_0 3 rfl rfl)
theorem dX1_bluff_6 : decode cX1_bluff 6 = .ok (.ifCond .eq 28, 3) := dk_153 0 28 (dk_at dksX1_bluff_0 6 rfl rfl)
theorem dX1_bluff_9 : decode cX1_bluff 9 = .ok (.iload_n 3, 1) := dk_29 (dk_at dksX1_bluff_0 9 rfl rfl)
theorem dX1_bluff_10 : decode cX1_bluff 10 = .ok (.i2l, 1) := dk_133 (dk_at dksX1_bluff_0 10 rfl rfl)
theorem dX1_bluff_11 : decode cX1_bluff 11 = .ok (.lconst 0, 1) := dk_9 (dk_at dksX1_bluff_0 11 rfl rfl)
theorem dX1_bluff_12 : decode cX1_bluff 12 = .ok (.ldc2_w 114, 3) := dk_20 0 114 (dk_at dksX1_bluff_0 12 rfl rfl)
theorem dX1_bluff_15 : decode cX1_bluff 15 = .ok (.invokestatic 110, 3) := dk_184 0 110 (dk_at dksX1_bluff_0 15 rfl rfl)
theorem dX1_bluff_18 : decode cX1_bluff 18 = .ok (.ifCond .eq 16, 3) := dk_153 0 16 (dk_at dksX1_bluff_0 18 rfl rfl)
theorem dX1_bluff_21 : decode cX1_bluff 21 = .ok (.iload 4, 2) := dk_21 4 (dk_at dksX1_bluff_0 21 rfl rfl)
theorem dX1_bluff_23 : decode cX1_bluff 23 = .ok (.i2l, 1) := dk_133 (dk_at dksX1_bluff_0 23 rfl rfl)
theorem dX1_bluff_24 : decode cX1_bluff 24 = .ok (.lconst 0, 1) := dk_9 (dk_at dksX1_bluff_1 0 rfl rfl)
theorem dX1_bluff_25 : decode cX1_bluff 25 = .ok (.ldc2_w 114, 3) := dk_20 0 114 (dk_at dksX1_bluff_1 1 rfl rfl)
theorem dX1_bluff_28 : decode cX1_bluff 28 = .ok (.invokestatic 110, 3) := dk_184 0 110 (dk_at dksX1_bluff_1 4 rfl rfl)
theorem dX1_bluff_31 : decode cX1_bluff 31 = .ok (.ifCond .ne 5, 3) := dk_154 0 5 (dk_at dksX1_bluff_1 7 rfl rfl)
theorem dX1_bluff_34 : decode cX1_bluff 34 = .ok (.iconst (-1), 1) := dk_2 (dk_at dksX1_bluff_1 10 rfl rfl)
theorem dX1_bluff_35 : decode cX1_bluff 35 = .ok (.ireturn, 1) := dk_172 (dk_at dksX1_bluff_1 11 rfl rfl)
theorem dX1_bluff_36 : decode cX1_bluff 36 = .ok (.aload_n 0, 1) := dk_42 (dk_at dksX1_bluff_1 12 rfl rfl)
theorem dX1_bluff_37 : decode cX1_bluff 37 = .ok (.iload_n 1, 1) := dk_27 (dk_at dksX1_bluff_1 13 rfl rfl)
theorem dX1_bluff_38 : decode cX1_bluff 38 = .ok (.iload_n 2, 1) := dk_28 (dk_at dksX1_bluff_1 14 rfl rfl)
theorem dX1_bluff_39 : decode cX1_bluff 39 = .ok (.invokevirtual 379, 3) := dk_182 1 123 (dk_at dksX1_bluff_1 15 rfl rfl)
theorem dX1_bluff_42 : decode cX1_bluff 42 = .ok (.istore 5, 2) := dk_54 5 (dk_at dksX1_bluff_1 18 rfl rfl)
theorem dX1_bluff_44 : decode cX1_bluff 44 = .ok (.iload 5, 2) := dk_21 5 (dk_at dksX1_bluff_1 20 rfl rfl)
theorem dX1_bluff_46 : decode cX1_bluff 46 = .ok (.ifCond .eq 8, 3) := dk_153 0 8 (dk_at dksX1_bluff_2 0 rfl rfl)
theorem dX1_bluff_49 : decode cX1_bluff 49 = .ok (.iload 5, 2) := dk_21 5 (dk_at dksX1_bluff_2 3 rfl rfl)
theorem dX1_bluff_51 : decode cX1_bluff 51 = .ok (.goto 12, 3) := dk_167 0 12 (dk_at dksX1_bluff_2 5 rfl rfl)
theorem dX1_bluff_54 : decode cX1_bluff 54 = .ok (.aload_n 0, 1) := dk_42 (dk_at dksX1_bluff_2 8 rfl rfl)
theorem dX1_bluff_55 : decode cX1_bluff 55 = .ok (.iload_n 1, 1) := dk_27 (dk_at dksX1_bluff_2 9 rfl rfl)
theorem dX1_bluff_56 : decode cX1_bluff 56 = .ok (.iload_n 2, 1) := dk_28 (dk_at dksX1_bluff_2 10 rfl rfl)
theorem dX1_bluff_57 : decode cX1_bluff 57 = .ok (.iload_n 3, 1) := dk_29 (dk_at dksX1_bluff_2 11 rfl rfl)
theorem dX1_bluff_58 : decode cX1_bluff 58 = .ok (.iload 4, 2) := dk_21 4 (dk_at dksX1_bluff_2 12 rfl rfl)
theorem dX1_bluff_60 : decode cX1_bluff 60 = .ok (.invokevirtual 382, 3) := dk_182 1 126 (dk_at dksX1_bluff_2 14 rfl rfl)
theorem dX1_bluff_63 : decode cX1_bluff 63 = .ok (.ireturn, 1) := dk_172 (dk_at dksX1_bluff_2 17 rfl rfl)
abbrev cX1_plays : ByteArray := prog_1_method_56_code
def yX1_plays : MethodName := ⟨RX1, "plays", "(I)I"⟩
def dkwX1_plays_3 : List UInt8 := [182, 0, 251, 42, 180, 0, 119, 28, 100, 172]
abbrev dktX1_plays_3 : List UInt8 := dkwX1_plays_3 ++ []
def dkwX1_plays_2 : List UInt8 := [182, 1, 133, 182, 0, 245, 87, 42, 180, 0, 45, 182, 0, 216, 62, 167, 255, 226, 42, 42, 180, 0, 45]
abbrev dktX1_plays_2 : List UInt8 := dkwX1_plays_2 ++ dktX1_plays_3
def dkwX1_plays_1 : List UInt8 := [42, 180, 0, 45, 182, 0, 216, 62, 29, 2, 159, 0, 31, 42, 42, 42, 180, 0, 45, 29, 182, 0, 223]
abbrev dktX1_plays_1 : List UInt8 := dkwX1_plays_1 ++ dktX1_plays_2
def dkwX1_plays_0 : List UInt8 := [42, 180, 0, 45, 182, 0, 216, 2, 160, 0, 6, 16, 254, 172, 42, 27, 181, 1, 129, 42, 180, 0, 119, 61]
abbrev dktX1_plays_0 : List UInt8 := dkwX1_plays_0 ++ dktX1_plays_1
theorem dksX1_plays_0 : cX1_plays.data.toList.drop 0 = dktX1_plays_0 := by decide +kernel
theorem dksX1_plays_1 : cX1_plays.data.toList.drop 24 = dktX1_plays_1 := dk_seg dksX1_plays_0 24 rfl rfl
theorem dksX1_plays_2 : cX1_plays.data.toList.drop 47 = dktX1_plays_2 := dk_seg dksX1_plays_1 23 rfl rfl
theorem dksX1_plays_3 : cX1_plays.data.toList.drop 70 = dktX1_plays_3 := dk_seg dksX1_plays_2 23 rfl rfl
theorem dX1_plays_0 : decode cX1_plays 0 = .ok (.aload_n 0, 1) := dk_42 (dk_at dksX1_plays_0 0 rfl rfl)
theorem dX1_plays_1 : decode cX1_plays 1 = .ok (.getfield 45, 3) := dk_180 0 45 (dk_at dksX1_plays_0 1 rfl rfl)
theorem dX1_plays_4 : decode cX1_plays 4 = .ok (.invokevirtual 216, 3) := dk_182 0 216 (dk_at dksX1_plays_0 4 rfl rfl)
theorem dX1_plays_7 : decode cX1_plays 7 = .ok (.iconst (-1), 1) := dk_2 (dk_at dksX1_plays_0 7 rfl rfl)
theorem dX1_plays_8 : decode cX1_plays 8 = .ok (.if_icmp .ne 6, 3) := dk_160 0 6 (dk_at dksX1_plays_0 8 rfl rfl)
theorem dX1_plays_11 : decode cX1_plays 11 = .ok (.bipush (-2), 2) := dk_16 254 (dk_at dksX1_plays_0 11 rfl rfl)
theorem dX1_plays_13 : decode cX1_plays 13 = .ok (.ireturn, 1) := dk_172 (dk_at dksX1_plays_0 13 rfl rfl)
theorem dX1_plays_14 : decode cX1_plays 14 = .ok (.aload_n 0, 1) := dk_42 (dk_at dksX1_plays_0 14 rfl rfl)
theorem dX1_plays_15 : decode cX1_plays 15 = .ok (.iload_n 1, 1) := dk_27 (dk_at dksX1_plays_0 15 rfl rfl)
theorem dX1_plays_16 : decode cX1_plays 16 = .ok (.putfield 385, 3) := dk_181 1 129 (dk_at dksX1_plays_0 16 rfl rfl)
theorem dX1_plays_19 : decode cX1_plays 19 = .ok (.aload_n 0, 1) := dk_42 (dk_at dksX1_plays_0 19 rfl rfl)
theorem dX1_plays_20 : decode cX1_plays 20 = .ok (.getfield 119, 3) := dk_180 0 119 (dk_at dksX1_plays_0 20 rfl rfl)
theorem dX1_plays_23 : decode cX1_plays 23 = .ok (.istore_n 2, 1) := dk_61 (dk_at dksX1_plays_0 23 rfl rfl)
theorem dX1_plays_24 : decode cX1_plays 24 = .ok (.aload_n 0, 1) := dk_42 (dk_at dksX1_plays_1 0 rfl rfl)
theorem dX1_plays_25 : decode cX1_plays 25 = .ok (.getfield 45, 3) := dk_180 0 45 (dk_at dksX1_plays_1 1 rfl rfl)
theorem dX1_plays_28 : decode cX1_plays 28 = .ok (.invokevirtual 216, 3) := dk_182 0 216 (dk_at dksX1_plays_1 4 rfl rfl)
theorem dX1_plays_31 : decode cX1_plays 31 = .ok (.istore_n 3, 1) := dk_62 (dk_at dksX1_plays_1 7 rfl rfl)
theorem dX1_plays_32 : decode cX1_plays 32 = .ok (.iload_n 3, 1) := dk_29 (dk_at dksX1_plays_1 8 rfl rfl)
theorem dX1_plays_33 : decode cX1_plays 33 = .ok (.iconst (-1), 1) := dk_2 (dk_at dksX1_plays_1 9 rfl rfl)
theorem dX1_plays_34 : decode cX1_plays 34 = .ok (.if_icmp .eq 31, 3) := dk_159 0 31 (dk_at dksX1_plays_1 10 rfl rfl)
theorem dX1_plays_37 : decode cX1_plays 37 = .ok (.aload_n 0, 1) := dk_42 (dk_at dksX1_plays_1 13 rfl rfl)
theorem dX1_plays_38 : decode cX1_plays 38 = .ok (.aload_n 0, 1) := dk_42 (dk_at dksX1_plays_1 14 rfl rfl)
theorem dX1_plays_39 : decode cX1_plays 39 = .ok (.aload_n 0, 1) := dk_42 (dk_at dksX1_plays_1 15 rfl rfl)
theorem dX1_plays_40 : decode cX1_plays 40 = .ok (.getfield 45, 3) := dk_180 0 45 (dk_at dksX1_plays_1 16 rfl rfl)
theorem dX1_plays_43 : decode cX1_plays 43 = .ok (.iload_n 3, 1) := dk_29 (dk_at dksX1_plays_1 19 rfl rfl)
theorem dX1_plays_44 : decode cX1_plays 44 = .ok (.invokevirtual 223, 3) := dk_182 0 223 (dk_at dksX1_plays_1 20 rfl rfl)
theorem dX1_plays_47 : decode cX1_plays 47 = .ok (.invokevirtual 389, 3) := dk_182 1 133 (dk_at dksX1_plays_2 0 rfl rfl)
theorem dX1_plays_50 : decode cX1_plays 50 = .ok (.invokevirtual 245, 3) := dk_182 0 245 (dk_at dksX1_plays_2 3 rfl rfl)
theorem dX1_plays_53 : decode cX1_plays 53 = .ok (.pop, 1) := dk_87 (dk_at dksX1_plays_2 6 rfl rfl)
theorem dX1_plays_54 : decode cX1_plays 54 = .ok (.aload_n 0, 1) := dk_42 (dk_at dksX1_plays_2 7 rfl rfl)
theorem dX1_plays_55 : decode cX1_plays 55 = .ok (.getfield 45, 3) := dk_180 0 45 (dk_at dksX1_plays_2 8 rfl rfl)
theorem dX1_plays_58 : decode cX1_plays 58 = .ok (.invokevirtual 216, 3) := dk_182 0 216 (dk_at dksX1_plays_2 11 rfl rfl)
theorem dX1_plays_61 : decode cX1_plays 61 = .ok (.istore_n 3, 1) := dk_62 (dk_at dksX1_plays_2 14 rfl rfl)
theorem dX1_plays_62 : decode cX1_plays 62 = .ok (.goto (-30), 3) := dk_167 255 226 (dk_at dksX1_plays_2 15 rfl rfl)
theorem dX1_plays_65 : decode cX1_plays 65 = .ok (.aload_n 0, 1) := dk_42 (dk_at dksX1_plays_2 18 rfl rfl)
theorem dX1_plays_66 : decode cX1_plays 66 = .ok (.aload_n 0, 1) := dk_42 (dk_at dksX1_plays_2 19 rfl rfl)
theorem dX1_plays_67 : decode cX1_plays 67 = .ok (.getfield 45, 3) := dk_180 0 45 (dk_at dksX1_plays_2 20 rfl rfl)
theorem dX1_plays_70 : decode cX1_plays 70 = .ok (.invokevirtual 251, 3) := dk_182 0 251 (dk_at dksX1_plays_3 0 rfl rfl)
theorem dX1_plays_73 : decode cX1_plays 73 = .ok (.aload_n 0, 1) := dk_42 (dk_at dksX1_plays_3 3 rfl rfl)
theorem dX1_plays_74 : decode cX1_plays 74 = .ok (.getfield 119, 3) := dk_180 0 119 (dk_at dksX1_plays_3 4 rfl rfl)
theorem dX1_plays_77 : decode cX1_plays 77 = .ok (.iload_n 2, 1) := dk_28 (dk_at dksX1_plays_3 7 rfl rfl)
theorem dX1_plays_78 : decode cX1_plays 78 = .ok (.isub, 1) := dk_100 (dk_at dksX1_plays_3 8 rfl rfl)
theorem dX1_plays_79 : decode cX1_plays 79 = .ok (.ireturn, 1) := dk_172 (dk_at dksX1_plays_3 9 rfl rfl)
abbrev cX1_isDrawnGood : ByteArray := prog_1_method_55_code
def yX1_isDrawnGood : MethodName := ⟨RX1, "isDrawnGood", "(I)Z"⟩
def dkwX1_isDrawnGood_1 : List UInt8 := [17, 3, 232, 112, 27, 162, 0, 7, 4, 167, 0, 4, 3, 172]
abbrev dktX1_isDrawnGood_1 : List UInt8 := dkwX1_isDrawnGood_1 ++ []
def dkwX1_isDrawnGood_0 : List UInt8 := [42, 42, 180, 1, 129, 19, 1, 132, 104, 17, 48, 57, 96, 181, 1, 129, 42, 180, 1, 129, 16, 16, 124]
abbrev dktX1_isDrawnGood_0 : List UInt8 := dkwX1_isDrawnGood_0 ++ dktX1_isDrawnGood_1
theorem dksX1_isDrawnGood_0 : cX1_isDrawnGood.data.toList.drop 0 = dktX1_isDrawnGood_0 := by decide +kernel
theorem dksX1_isDrawnGood_1 : cX1_isDrawnGood.data.toList.drop 23 = dktX1_isDrawnGood_1 := dk_seg dksX1_isDrawnGood_0 23 rfl rfl
theorem dX1_isDrawnGood_0 : decode cX1_isDrawnGood 0 = .ok (.aload_n 0, 1) := dk_42 (dk_at dksX1_isDrawnGood_0 0 rfl rfl)
theorem dX1_isDrawnGood_1 : decode cX1_isDrawnGood 1 = .ok (.aload_n 0, 1) := dk_42 (dk_at dksX1_isDrawnGood_0 1 rfl rfl)
theorem dX1_isDrawnGood_2 : decode cX1_isDrawnGood 2 = .ok (.getfield 385, 3) := dk_180 1 129 (dk_at dksX1_isDrawnGood_0 2 rfl rfl)
theorem dX1_isDrawnGood_5 : decode cX1_isDrawnGood 5 = .ok (.ldc_w 388, 3) := dk_19 1 132 (dk_at dksX1_isDrawnGood_0 5 rfl rfl)
theorem dX1_isDrawnGood_8 : decode cX1_isDrawnGood 8 = .ok (.imul, 1) := dk_104 (dk_at dksX1_isDrawnGood_0 8 rfl rfl)
theorem dX1_isDrawnGood_9 : decode cX1_isDrawnGood 9 = .ok (.sipush 12345, 3) := dk_17 48 57 (dk_at dksX1_isDrawnGood_0 9 rfl rfl)
theorem dX1_isDrawnGood_12 : decode cX1_isDrawnGood 12 = .ok (.iadd, 1) := dk_96 (dk_at dksX1_isDrawnGood_0 12 rfl rfl)
theorem dX1_isDrawnGood_13 : decode cX1_isDrawnGood 13 = .ok (.putfield 385, 3) := dk_181 1 129 (dk_at dksX1_isDrawnGood_0 13 rfl rfl)
theorem dX1_isDrawnGood_16 : decode cX1_isDrawnGood 16 = .ok (.aload_n 0, 1) := dk_42 (dk_at dksX1_isDrawnGood_0 16 rfl rfl)
theorem dX1_isDrawnGood_17 : decode cX1_isDrawnGood 17 = .ok (.getfield 385, 3) := dk_180 1 129 (dk_at dksX1_isDrawnGood_0 17 rfl rfl)
theorem dX1_isDrawnGood_20 : decode cX1_isDrawnGood 20 = .ok (.bipush 16, 2) := dk_16 16 (dk_at dksX1_isDrawnGood_0 20 rfl rfl)
theorem dX1_isDrawnGood_22 : decode cX1_isDrawnGood 22 = .ok (.iushr, 1) := dk_124 (dk_at dksX1_isDrawnGood_0 22 rfl rfl)
theorem dX1_isDrawnGood_23 : decode cX1_isDrawnGood 23 = .ok (.sipush 1000, 3) := dk_17 3 232 (dk_at dksX1_isDrawnGood_1 0 rfl rfl)
theorem dX1_isDrawnGood_26 : decode cX1_isDrawnGood 26 = .ok (.irem, 1) := dk_112 (dk_at dksX1_isDrawnGood_1 3 rfl rfl)
theorem dX1_isDrawnGood_27 : decode cX1_isDrawnGood 27 = .ok (.iload_n 1, 1) := dk_27 (dk_at dksX1_isDrawnGood_1 4 rfl rfl)
theorem dX1_isDrawnGood_28 : decode cX1_isDrawnGood 28 = .ok (.if_icmp .ge 7, 3) := dk_162 0 7 (dk_at dksX1_isDrawnGood_1 5 rfl rfl)
theorem dX1_isDrawnGood_31 : decode cX1_isDrawnGood 31 = .ok (.iconst 1, 1) := dk_4 (dk_at dksX1_isDrawnGood_1 8 rfl rfl)
theorem dX1_isDrawnGood_32 : decode cX1_isDrawnGood 32 = .ok (.goto 4, 3) := dk_167 0 4 (dk_at dksX1_isDrawnGood_1 9 rfl rfl)
theorem dX1_isDrawnGood_35 : decode cX1_isDrawnGood 35 = .ok (.iconst 0, 1) := dk_3 (dk_at dksX1_isDrawnGood_1 12 rfl rfl)
theorem dX1_isDrawnGood_36 : decode cX1_isDrawnGood 36 = .ok (.ireturn, 1) := dk_172 (dk_at dksX1_isDrawnGood_1 13 rfl rfl)
abbrev cX1_often : ByteArray := prog_1_method_57_code
def yX1_often : MethodName := ⟨RX1, "often", "(III)I"⟩
def dkwX1_often_9 : List UInt8 := [182, 0, 219, 21, 4, 172]
abbrev dktX1_often_9 : List UInt8 := dkwX1_often_9 ++ []
def dkwX1_often_8 : List UInt8 := [132, 7, 1, 167, 255, 109, 42, 3, 181, 0, 103, 42, 21, 5, 133, 182, 0, 219, 42, 21, 6, 133]
abbrev dktX1_often_8 : List UInt8 := dkwX1_often_8 ++ dktX1_often_9
def dkwX1_often_7 : List UInt8 := [42, 180, 0, 49, 27, 182, 0, 254, 154, 0, 7, 4, 167, 0, 4, 3, 184, 0, 205, 96, 54, 4]
abbrev dktX1_often_7 : List UInt8 := dkwX1_often_7 ++ dktX1_often_8
def dkwX1_often_6 : List UInt8 := [50, 182, 0, 213, 96, 54, 6, 21, 4, 42, 180, 0, 49, 180, 0, 175, 27, 50, 180, 0, 209, 154, 0, 18]
abbrev dktX1_often_6 : List UInt8 := dkwX1_often_6 ++ dktX1_often_7
def dkwX1_often_5 : List UInt8 := [180, 0, 175, 27, 50, 180, 0, 209, 184, 0, 205, 96, 54, 5, 21, 6, 42, 180, 0, 49, 180, 0, 175, 27]
abbrev dktX1_often_5 : List UInt8 := dkwX1_often_5 ++ dktX1_often_6
def dkwX1_often_4 : List UInt8 := [182, 0, 241, 87, 42, 180, 0, 49, 182, 0, 216, 54, 8, 167, 255, 217, 21, 5, 42, 180, 0, 49]
abbrev dktX1_often_4 : List UInt8 := dkwX1_often_4 ++ dktX1_often_5
def dkwX1_often_3 : List UInt8 := [159, 0, 39, 42, 180, 0, 49, 42, 42, 180, 0, 49, 21, 8, 182, 0, 223, 182, 1, 133, 184, 0, 236]
abbrev dktX1_often_3 : List UInt8 := dkwX1_often_3 ++ dktX1_often_4
def dkwX1_often_2 : List UInt8 := [180, 0, 49, 42, 180, 0, 45, 182, 0, 226, 42, 180, 0, 49, 182, 0, 216, 54, 8, 21, 8, 2]
abbrev dktX1_often_2 : List UInt8 := dkwX1_often_2 ++ dktX1_often_3
def dkwX1_often_1 : List UInt8 := [181, 1, 129, 3, 54, 4, 3, 54, 5, 3, 54, 6, 3, 54, 7, 21, 7, 28, 162, 0, 147, 42]
abbrev dktX1_often_1 : List UInt8 := dkwX1_often_1 ++ dktX1_often_2
def dkwX1_often_0 : List UInt8 := [42, 27, 182, 0, 151, 153, 0, 15, 28, 133, 10, 20, 1, 136, 184, 0, 110, 154, 0, 5, 2, 172, 42, 29]
abbrev dktX1_often_0 : List UInt8 := dkwX1_often_0 ++ dktX1_often_1
theorem dksX1_often_0 : cX1_often.data.toList.drop 0 = dktX1_often_0 := by decide +kernel
theorem dksX1_often_1 : cX1_often.data.toList.drop 24 = dktX1_often_1 := dk_seg dksX1_often_0 24 rfl rfl
theorem dksX1_often_2 : cX1_often.data.toList.drop 46 = dktX1_often_2 := dk_seg dksX1_often_1 22 rfl rfl
theorem dksX1_often_3 : cX1_often.data.toList.drop 68 = dktX1_often_3 := dk_seg dksX1_often_2 22 rfl rfl
theorem dksX1_often_4 : cX1_often.data.toList.drop 91 = dktX1_often_4 := dk_seg dksX1_often_3 23 rfl rfl
theorem dksX1_often_5 : cX1_often.data.toList.drop 113 = dktX1_often_5 := dk_seg dksX1_often_4 22 rfl rfl
theorem dksX1_often_6 : cX1_often.data.toList.drop 137 = dktX1_often_6 := dk_seg dksX1_often_5 24 rfl rfl
theorem dksX1_often_7 : cX1_often.data.toList.drop 161 = dktX1_often_7 := dk_seg dksX1_often_6 24 rfl rfl
theorem dksX1_often_8 : cX1_often.data.toList.drop 183 = dktX1_often_8 := dk_seg dksX1_often_7 22 rfl rfl
theorem dksX1_often_9 : cX1_often.data.toList.drop 205 = dktX1_often_9 := dk_seg dksX1_often_8 22 rfl rfl
theorem dX1_often_0 : decode cX1_often 0 = .ok (.aload_n 0, 1) := dk_42 (dk_at dksX1_often_0 0 rfl rfl)
theorem dX1_often_1 : decode cX1_often 1 = .ok (.iload_n 1, 1) := dk_27 (dk_at dksX1_often_0 1 rfl rfl)
theorem dX1_often_2 : decode cX1_often 2 = .ok (.invokevirtual 151, 3) := dk_182 0 151 (dk_at dksX1_often_0 2 rfl rfl)
theorem dX1_often_5 : decode cX1_often 5 = .ok (.ifCond .eq 15, 3) := dk_153 0 15 (dk_at dksX1_often_0 5 rfl rfl)
theorem dX1_often_8 : decode cX1_often 8 = .ok (.iload_n 2, 1) := dk_28 (dk_at dksX1_often_0 8 rfl rfl)
theorem dX1_often_9 : decode cX1_often 9 = .ok (.i2l, 1) := dk_133 (dk_at dksX1_often_0 9 rfl rfl)
theorem dX1_often_10 : decode cX1_often 10 = .ok (.lconst 1, 1) := dk_10 (dk_at dksX1_often_0 10 rfl rfl)
theorem dX1_often_11 : decode cX1_often 11 = .ok (.ldc2_w 392, 3) := dk_20 1 136 (dk_at dksX1_often_0 11 rfl rfl)
theorem dX1_often_14 : decode cX1_often 14 = .ok (.invokestatic 110, 3) := dk_184 0 110 (dk_at dksX1_often_0 14 rfl rfl)
theorem dX1_often_17 : decode cX1_often 17 = .ok (.ifCond .ne 5, 3) := dk_154 0 5 (dk_at dksX1_often_0 17 rfl rfl)
theorem dX1_often_20 : decode cX1_often 20 = .ok (.iconst (-1), 1) := dk_2 (dk_at dksX1_often_0 20 rfl rfl)
theorem dX1_often_21 : decode cX1_often 21 = .ok (.ireturn, 1) := dk_172 (dk_at dksX1_often_0 21 rfl rfl)
theorem dX1_often_22 : decode cX1_often 22 = .ok (.aload_n 0, 1) := dk_42 (dk_at dksX1_often_0 22 rfl rfl)
theorem dX1_often_23 : decode cX1_often 23 = .ok (.iload_n 3, 1) := dk_29 (dk_at dksX1_often_0 23 rfl rfl)
theorem dX1_often_24 : decode cX1_often 24 = .ok (.putfield 385, 3) := dk_181 1 129 (dk_at dksX1_often_1 0 rfl rfl)
theorem dX1_often_27 : decode cX1_often 27 = .ok (.iconst 0, 1) := dk_3 (dk_at dksX1_often_1 3 rfl rfl)
theorem dX1_often_28 : decode cX1_often 28 = .ok (.istore 4, 2) := dk_54 4 (dk_at dksX1_often_1 4 rfl rfl)
theorem dX1_often_30 : decode cX1_often 30 = .ok (.iconst 0, 1) := dk_3 (dk_at dksX1_often_1 6 rfl rfl)
theorem dX1_often_31 : decode cX1_often 31 = .ok (.istore 5, 2) := dk_54 5 (dk_at dksX1_often_1 7 rfl rfl)
theorem dX1_often_33 : decode cX1_often 33 = .ok (.iconst 0, 1) := dk_3 (dk_at dksX1_often_1 9 rfl rfl)
theorem dX1_often_34 : decode cX1_often 34 = .ok (.istore 6, 2) := dk_54 6 (dk_at dksX1_often_1 10 rfl rfl)
theorem dX1_often_36 : decode cX1_often 36 = .ok (.iconst 0, 1) := dk_3 (dk_at dksX1_often_1 12 rfl rfl)
theorem dX1_often_37 : decode cX1_often 37 = .ok (.istore 7, 2) := dk_54 7 (dk_at dksX1_often_1 13 rfl rfl)
theorem dX1_often_39 : decode cX1_often 39 = .ok (.iload 7, 2) := dk_21 7 (dk_at dksX1_often_1 15 rfl rfl)
theorem dX1_often_41 : decode cX1_often 41 = .ok (.iload_n 2, 1) := dk_28 (dk_at dksX1_often_1 17 rfl rfl)
theorem dX1_often_42 : decode cX1_often 42 = .ok (.if_icmp .ge 147, 3) := dk_162 0 147 (dk_at dksX1_often_1 18 rfl rfl)
theorem dX1_often_45 : decode cX1_often 45 = .ok (.aload_n 0, 1) := dk_42 (dk_at dksX1_often_1 21 rfl rfl)
theorem dX1_often_46 : decode cX1_often 46 = .ok (.getfield 49, 3) := dk_180 0 49 (dk_at dksX1_often_2 0 rfl rfl)
theorem dX1_often_49 : decode cX1_often 49 = .ok (.aload_n 0, 1) := dk_42 (dk_at dksX1_often_2 3 rfl rfl)
theorem dX1_often_50 : decode cX1_often 50 = .ok (.getfield 45, 3) := dk_180 0 45 (dk_at dksX1_often_2 4 rfl rfl)
theorem dX1_often_53 : decode cX1_often 53 = .ok (.invokevirtual 226, 3) := dk_182 0 226 (dk_at dksX1_often_2 7 rfl rfl)
theorem dX1_often_56 : decode cX1_often 56 = .ok (.aload_n 0, 1) := dk_42 (dk_at dksX1_often_2 10 rfl rfl)
theorem dX1_often_57 : decode cX1_often 57 = .ok (.getfield 49, 3) := dk_180 0 49 (dk_at dksX1_often_2 11 rfl rfl)
theorem dX1_often_60 : decode cX1_often 60 = .ok (.invokevirtual 216, 3) := dk_182 0 216 (dk_at dksX1_often_2 14 rfl rfl)
theorem dX1_often_63 : decode cX1_often 63 = .ok (.istore 8, 2) := dk_54 8 (dk_at dksX1_often_2 17 rfl rfl)
theorem dX1_often_65 : decode cX1_often 65 = .ok (.iload 8, 2) := dk_21 8 (dk_at dksX1_often_2 19 rfl rfl)
theorem dX1_often_67 : decode cX1_often 67 = .ok (.iconst (-1), 1) := dk_2 (dk_at dksX1_often_2 21 rfl rfl)
theorem dX1_often_68 : decode cX1_often 68 = .ok (.if_icmp .eq 39, 3) := dk_159 0 39 (dk_at dksX1_often_3 0 rfl rfl)
theorem dX1_often_71 : decode cX1_often 71 = .ok (.aload_n 0, 1) := dk_42 (dk_at dksX1_often_3 3 rfl rfl)
theorem dX1_often_72 : decode cX1_often 72 = .ok (.getfield 49, 3) := dk_180 0 49 (dk_at dksX1_often_3 4 rfl rfl)
theorem dX1_often_75 : decode cX1_often 75 = .ok (.aload_n 0, 1) := dk_42 (dk_at dksX1_often_3 7 rfl rfl)
theorem dX1_often_76 : decode cX1_often 76 = .ok (.aload_n 0, 1) := dk_42 (dk_at dksX1_often_3 8 rfl rfl)
theorem dX1_often_77 : decode cX1_often 77 = .ok (.getfield 49, 3) := dk_180 0 49 (dk_at dksX1_often_3 9 rfl rfl)
theorem dX1_often_80 : decode cX1_often 80 = .ok (.iload 8, 2) := dk_21 8 (dk_at dksX1_often_3 12 rfl rfl)
theorem dX1_often_82 : decode cX1_often 82 = .ok (.invokevirtual 223, 3) := dk_182 0 223 (dk_at dksX1_often_3 14 rfl rfl)
theorem dX1_often_85 : decode cX1_often 85 = .ok (.invokevirtual 389, 3) := dk_182 1 133 (dk_at dksX1_often_3 17 rfl rfl)
theorem dX1_often_88 : decode cX1_often 88 = .ok (.invokestatic 236, 3) := dk_184 0 236 (dk_at dksX1_often_3 20 rfl rfl)
theorem dX1_often_91 : decode cX1_often 91 = .ok (.invokevirtual 241, 3) := dk_182 0 241 (dk_at dksX1_often_4 0 rfl rfl)
theorem dX1_often_94 : decode cX1_often 94 = .ok (.pop, 1) := dk_87 (dk_at dksX1_often_4 3 rfl rfl)
theorem dX1_often_95 : decode cX1_often 95 = .ok (.aload_n 0, 1) := dk_42 (dk_at dksX1_often_4 4 rfl rfl)
theorem dX1_often_96 : decode cX1_often 96 = .ok (.getfield 49, 3) := dk_180 0 49 (dk_at dksX1_often_4 5 rfl rfl)
theorem dX1_often_99 : decode cX1_often 99 = .ok (.invokevirtual 216, 3) := dk_182 0 216 (dk_at dksX1_often_4 8 rfl rfl)
theorem dX1_often_102 : decode cX1_often 102 = .ok (.istore 8, 2) := dk_54 8 (dk_at dksX1_often_4 11 rfl rfl)
theorem dX1_often_104 : decode cX1_often 104 = .ok (.goto (-39), 3) := dk_167 255 217 (dk_at dksX1_often_4 13 rfl rfl)
theorem dX1_often_107 : decode cX1_often 107 = .ok (.iload 5, 2) := dk_21 5 (dk_at dksX1_often_4 16 rfl rfl)
theorem dX1_often_109 : decode cX1_often 109 = .ok (.aload_n 0, 1) := dk_42 (dk_at dksX1_often_4 18 rfl rfl)
theorem dX1_often_110 : decode cX1_often 110 = .ok (.getfield 49, 3) := dk_180 0 49 (dk_at dksX1_often_4 19 rfl rfl)
theorem dX1_often_113 : decode cX1_often 113 = .ok (.getfield 175, 3) := dk_180 0 175 (dk_at dksX1_often_5 0 rfl rfl)
theorem dX1_often_116 : decode cX1_often 116 = .ok (.iload_n 1, 1) := dk_27 (dk_at dksX1_often_5 3 rfl rfl)
theorem dX1_often_117 : decode cX1_often 117 = .ok (.aaload, 1) := dk_50 (dk_at dksX1_often_5 4 rfl rfl)
theorem dX1_often_118 : decode cX1_often 118 = .ok (.getfield 209, 3) := dk_180 0 209 (dk_at dksX1_often_5 5 rfl rfl)
theorem dX1_often_121 : decode cX1_often 121 = .ok (.invokestatic 205, 3) := dk_184 0 205 (dk_at dksX1_often_5 8 rfl rfl)
theorem dX1_often_124 : decode cX1_often 124 = .ok (.iadd, 1) := dk_96 (dk_at dksX1_often_5 11 rfl rfl)
theorem dX1_often_125 : decode cX1_often 125 = .ok (.istore 5, 2) := dk_54 5 (dk_at dksX1_often_5 12 rfl rfl)
theorem dX1_often_127 : decode cX1_often 127 = .ok (.iload 6, 2) := dk_21 6 (dk_at dksX1_often_5 14 rfl rfl)
theorem dX1_often_129 : decode cX1_often 129 = .ok (.aload_n 0, 1) := dk_42 (dk_at dksX1_often_5 16 rfl rfl)
theorem dX1_often_130 : decode cX1_often 130 = .ok (.getfield 49, 3) := dk_180 0 49 (dk_at dksX1_often_5 17 rfl rfl)
theorem dX1_often_133 : decode cX1_often 133 = .ok (.getfield 175, 3) := dk_180 0 175 (dk_at dksX1_often_5 20 rfl rfl)
theorem dX1_often_136 : decode cX1_often 136 = .ok (.iload_n 1, 1) := dk_27 (dk_at dksX1_often_5 23 rfl rfl)
theorem dX1_often_137 : decode cX1_often 137 = .ok (.aaload, 1) := dk_50 (dk_at dksX1_often_6 0 rfl rfl)
theorem dX1_often_138 : decode cX1_often 138 = .ok (.invokevirtual 213, 3) := dk_182 0 213 (dk_at dksX1_often_6 1 rfl rfl)
theorem dX1_often_141 : decode cX1_often 141 = .ok (.iadd, 1) := dk_96 (dk_at dksX1_often_6 4 rfl rfl)
theorem dX1_often_142 : decode cX1_often 142 = .ok (.istore 6, 2) := dk_54 6 (dk_at dksX1_often_6 5 rfl rfl)
theorem dX1_often_144 : decode cX1_often 144 = .ok (.iload 4, 2) := dk_21 4 (dk_at dksX1_often_6 7 rfl rfl)
theorem dX1_often_146 : decode cX1_often 146 = .ok (.aload_n 0, 1) := dk_42 (dk_at dksX1_often_6 9 rfl rfl)
theorem dX1_often_147 : decode cX1_often 147 = .ok (.getfield 49, 3) := dk_180 0 49 (dk_at dksX1_often_6 10 rfl rfl)
theorem dX1_often_150 : decode cX1_often 150 = .ok (.getfield 175, 3) := dk_180 0 175 (dk_at dksX1_often_6 13 rfl rfl)
theorem dX1_often_153 : decode cX1_often 153 = .ok (.iload_n 1, 1) := dk_27 (dk_at dksX1_often_6 16 rfl rfl)
theorem dX1_often_154 : decode cX1_often 154 = .ok (.aaload, 1) := dk_50 (dk_at dksX1_often_6 17 rfl rfl)
theorem dX1_often_155 : decode cX1_often 155 = .ok (.getfield 209, 3) := dk_180 0 209 (dk_at dksX1_often_6 18 rfl rfl)
theorem dX1_often_158 : decode cX1_often 158 = .ok (.ifCond .ne 18, 3) := dk_154 0 18 (dk_at dksX1_often_6 21 rfl rfl)
theorem dX1_often_161 : decode cX1_often 161 = .ok (.aload_n 0, 1) := dk_42 (dk_at dksX1_often_7 0 rfl rfl)
theorem dX1_often_162 : decode cX1_often 162 = .ok (.getfield 49, 3) := dk_180 0 49 (dk_at dksX1_often_7 1 rfl rfl)
theorem dX1_often_165 : decode cX1_often 165 = .ok (.iload_n 1, 1) := dk_27 (dk_at dksX1_often_7 4 rfl rfl)
theorem dX1_often_166 : decode cX1_often 166 = .ok (.invokevirtual 254, 3) := dk_182 0 254 (dk_at dksX1_often_7 5 rfl rfl)
theorem dX1_often_169 : decode cX1_often 169 = .ok (.ifCond .ne 7, 3) := dk_154 0 7 (dk_at dksX1_often_7 8 rfl rfl)
theorem dX1_often_172 : decode cX1_often 172 = .ok (.iconst 1, 1) := dk_4 (dk_at dksX1_often_7 11 rfl rfl)
theorem dX1_often_173 : decode cX1_often 173 = .ok (.goto 4, 3) := dk_167 0 4 (dk_at dksX1_often_7 12 rfl rfl)
theorem dX1_often_176 : decode cX1_often 176 = .ok (.iconst 0, 1) := dk_3 (dk_at dksX1_often_7 15 rfl rfl)
theorem dX1_often_177 : decode cX1_often 177 = .ok (.invokestatic 205, 3) := dk_184 0 205 (dk_at dksX1_often_7 16 rfl rfl)
theorem dX1_often_180 : decode cX1_often 180 = .ok (.iadd, 1) := dk_96 (dk_at dksX1_often_7 19 rfl rfl)
theorem dX1_often_181 : decode cX1_often 181 = .ok (.istore 4, 2) := dk_54 4 (dk_at dksX1_often_7 20 rfl rfl)
theorem dX1_often_183 : decode cX1_often 183 = .ok (.iinc 7 1, 3) := dk_132 7 1 (dk_at dksX1_often_8 0 rfl rfl)
theorem dX1_often_186 : decode cX1_often 186 = .ok (.goto (-147), 3) := dk_167 255 109 (dk_at dksX1_often_8 3 rfl rfl)
theorem dX1_often_189 : decode cX1_often 189 = .ok (.aload_n 0, 1) := dk_42 (dk_at dksX1_often_8 6 rfl rfl)
theorem dX1_often_190 : decode cX1_often 190 = .ok (.iconst 0, 1) := dk_3 (dk_at dksX1_often_8 7 rfl rfl)
theorem dX1_often_191 : decode cX1_often 191 = .ok (.putfield 103, 3) := dk_181 0 103 (dk_at dksX1_often_8 8 rfl rfl)
theorem dX1_often_194 : decode cX1_often 194 = .ok (.aload_n 0, 1) := dk_42 (dk_at dksX1_often_8 11 rfl rfl)
theorem dX1_often_195 : decode cX1_often 195 = .ok (.iload 5, 2) := dk_21 5 (dk_at dksX1_often_8 12 rfl rfl)
theorem dX1_often_197 : decode cX1_often 197 = .ok (.i2l, 1) := dk_133 (dk_at dksX1_often_8 14 rfl rfl)
theorem dX1_often_198 : decode cX1_often 198 = .ok (.invokevirtual 219, 3) := dk_182 0 219 (dk_at dksX1_often_8 15 rfl rfl)
theorem dX1_often_201 : decode cX1_often 201 = .ok (.aload_n 0, 1) := dk_42 (dk_at dksX1_often_8 18 rfl rfl)
theorem dX1_often_202 : decode cX1_often 202 = .ok (.iload 6, 2) := dk_21 6 (dk_at dksX1_often_8 19 rfl rfl)
theorem dX1_often_204 : decode cX1_often 204 = .ok (.i2l, 1) := dk_133 (dk_at dksX1_often_8 21 rfl rfl)
theorem dX1_often_205 : decode cX1_often 205 = .ok (.invokevirtual 219, 3) := dk_182 0 219 (dk_at dksX1_often_9 0 rfl rfl)
theorem dX1_often_208 : decode cX1_often 208 = .ok (.iload 4, 2) := dk_21 4 (dk_at dksX1_often_9 3 rfl rfl)
theorem dX1_often_210 : decode cX1_often 210 = .ok (.ireturn, 1) := dk_172 (dk_at dksX1_often_9 5 rfl rfl)
abbrev cX1_count : ByteArray := prog_1_method_60_code
def yX1_count : MethodName := ⟨RX1, "count", "(I)I"⟩
def dkwX1_count_4 : List UInt8 := [180, 0, 103, 172, 42, 180, 0, 116, 172, 42, 182, 1, 141, 172, 2, 172]
abbrev dktX1_count_4 : List UInt8 := dkwX1_count_4 ++ []
def dkwX1_count_3 : List UInt8 := [42, 180, 0, 45, 180, 0, 193, 172, 42, 180, 0, 119, 172, 42, 182, 1, 138, 172, 42, 180, 0, 13, 172, 42]
abbrev dktX1_count_3 : List UInt8 := dkwX1_count_3 ++ dktX1_count_4
def dkwX1_count_2 : List UInt8 := [42, 180, 0, 36, 182, 0, 106, 172, 42, 180, 0, 45, 180, 0, 233, 172, 42, 180, 0, 45, 180, 1, 105, 172]
abbrev dktX1_count_2 : List UInt8 := dkwX1_count_2 ++ dktX1_count_3
def dkwX1_count_1 : List UInt8 := [170, 0, 0, 0, 0, 0, 117, 0, 0, 0, 0, 0, 0, 0, 9, 0, 0, 0, 55, 0, 0, 0, 63, 0, 0, 0, 71, 0, 0, 0, 79, 0, 0, 0, 87, 0, 0, 0, 92, 0, 0, 0, 97, 0, 0, 0, 102, 0, 0, 0, 107, 0, 0, 0, 112]
abbrev dktX1_count_1 : List UInt8 := dkwX1_count_1 ++ dktX1_count_2
def dkwX1_count_0 : List UInt8 := [27]
abbrev dktX1_count_0 : List UInt8 := dkwX1_count_0 ++ dktX1_count_1
theorem dksX1_count_0 : cX1_count.data.toList.drop 0 = dktX1_count_0 := by decide +kernel
theorem dksX1_count_1 : cX1_count.data.toList.drop 1 = dktX1_count_1 := dk_seg dksX1_count_0 1 rfl rfl
theorem dksX1_count_2 : cX1_count.data.toList.drop 56 = dktX1_count_2 := dk_seg dksX1_count_1 55 rfl rfl
theorem dksX1_count_3 : cX1_count.data.toList.drop 80 = dktX1_count_3 := dk_seg dksX1_count_2 24 rfl rfl
theorem dksX1_count_4 : cX1_count.data.toList.drop 104 = dktX1_count_4 := dk_seg dksX1_count_3 24 rfl rfl
theorem dX1_count_0 : decode cX1_count 0 = .ok (.iload_n 1, 1) := dk_27 (dk_at dksX1_count_0 0 rfl rfl)
theorem dX1_count_1 : decode cX1_count 1 = .ok (.tableswitch 117 0 9 #[55, 63, 71, 79, 87, 92, 97, 102, 107, 112], 55) := by decide +kernel
theorem dX1_count_56 : decode cX1_count 56 = .ok (.aload_n 0, 1) := dk_42 (dk_at dksX1_count_2 0 rfl rfl)
theorem dX1_count_57 : decode cX1_count 57 = .ok (.getfield 36, 3) := dk_180 0 36 (dk_at dksX1_count_2 1 rfl rfl)
theorem dX1_count_60 : decode cX1_count 60 = .ok (.invokevirtual 106, 3) := dk_182 0 106 (dk_at dksX1_count_2 4 rfl rfl)
theorem dX1_count_63 : decode cX1_count 63 = .ok (.ireturn, 1) := dk_172 (dk_at dksX1_count_2 7 rfl rfl)
theorem dX1_count_64 : decode cX1_count 64 = .ok (.aload_n 0, 1) := dk_42 (dk_at dksX1_count_2 8 rfl rfl)
theorem dX1_count_65 : decode cX1_count 65 = .ok (.getfield 45, 3) := dk_180 0 45 (dk_at dksX1_count_2 9 rfl rfl)
theorem dX1_count_68 : decode cX1_count 68 = .ok (.getfield 233, 3) := dk_180 0 233 (dk_at dksX1_count_2 12 rfl rfl)
theorem dX1_count_71 : decode cX1_count 71 = .ok (.ireturn, 1) := dk_172 (dk_at dksX1_count_2 15 rfl rfl)
theorem dX1_count_72 : decode cX1_count 72 = .ok (.aload_n 0, 1) := dk_42 (dk_at dksX1_count_2 16 rfl rfl)
theorem dX1_count_73 : decode cX1_count 73 = .ok (.getfield 45, 3) := dk_180 0 45 (dk_at dksX1_count_2 17 rfl rfl)
theorem dX1_count_76 : decode cX1_count 76 = .ok (.getfield 361, 3) := dk_180 1 105 (dk_at dksX1_count_2 20 rfl rfl)
theorem dX1_count_79 : decode cX1_count 79 = .ok (.ireturn, 1) := dk_172 (dk_at dksX1_count_2 23 rfl rfl)
theorem dX1_count_80 : decode cX1_count 80 = .ok (.aload_n 0, 1) := dk_42 (dk_at dksX1_count_3 0 rfl rfl)
theorem dX1_count_81 : decode cX1_count 81 = .ok (.getfield 45, 3) := dk_180 0 45 (dk_at dksX1_count_3 1 rfl rfl)
theorem dX1_count_84 : decode cX1_count 84 = .ok (.getfield 193, 3) := dk_180 0 193 (dk_at dksX1_count_3 4 rfl rfl)
theorem dX1_count_87 : decode cX1_count 87 = .ok (.ireturn, 1) := dk_172 (dk_at dksX1_count_3 7 rfl rfl)
theorem dX1_count_88 : decode cX1_count 88 = .ok (.aload_n 0, 1) := dk_42 (dk_at dksX1_count_3 8 rfl rfl)
theorem dX1_count_89 : decode cX1_count 89 = .ok (.getfield 119, 3) := dk_180 0 119 (dk_at dksX1_count_3 9 rfl rfl)
theorem dX1_count_92 : decode cX1_count 92 = .ok (.ireturn, 1) := dk_172 (dk_at dksX1_count_3 12 rfl rfl)
theorem dX1_count_93 : decode cX1_count 93 = .ok (.aload_n 0, 1) := dk_42 (dk_at dksX1_count_3 13 rfl rfl)
theorem dX1_count_94 : decode cX1_count 94 = .ok (.invokevirtual 394, 3) := dk_182 1 138 (dk_at dksX1_count_3 14 rfl rfl)
theorem dX1_count_97 : decode cX1_count 97 = .ok (.ireturn, 1) := dk_172 (dk_at dksX1_count_3 17 rfl rfl)
theorem dX1_count_98 : decode cX1_count 98 = .ok (.aload_n 0, 1) := dk_42 (dk_at dksX1_count_3 18 rfl rfl)
theorem dX1_count_99 : decode cX1_count 99 = .ok (.getfield 13, 3) := dk_180 0 13 (dk_at dksX1_count_3 19 rfl rfl)
theorem dX1_count_102 : decode cX1_count 102 = .ok (.ireturn, 1) := dk_172 (dk_at dksX1_count_3 22 rfl rfl)
theorem dX1_count_103 : decode cX1_count 103 = .ok (.aload_n 0, 1) := dk_42 (dk_at dksX1_count_3 23 rfl rfl)
theorem dX1_count_104 : decode cX1_count 104 = .ok (.getfield 103, 3) := dk_180 0 103 (dk_at dksX1_count_4 0 rfl rfl)
theorem dX1_count_107 : decode cX1_count 107 = .ok (.ireturn, 1) := dk_172 (dk_at dksX1_count_4 3 rfl rfl)
theorem dX1_count_108 : decode cX1_count 108 = .ok (.aload_n 0, 1) := dk_42 (dk_at dksX1_count_4 4 rfl rfl)
theorem dX1_count_109 : decode cX1_count 109 = .ok (.getfield 116, 3) := dk_180 0 116 (dk_at dksX1_count_4 5 rfl rfl)
theorem dX1_count_112 : decode cX1_count 112 = .ok (.ireturn, 1) := dk_172 (dk_at dksX1_count_4 8 rfl rfl)
theorem dX1_count_113 : decode cX1_count 113 = .ok (.aload_n 0, 1) := dk_42 (dk_at dksX1_count_4 9 rfl rfl)
theorem dX1_count_114 : decode cX1_count 114 = .ok (.invokevirtual 397, 3) := dk_182 1 141 (dk_at dksX1_count_4 10 rfl rfl)
theorem dX1_count_117 : decode cX1_count 117 = .ok (.ireturn, 1) := dk_172 (dk_at dksX1_count_4 13 rfl rfl)
theorem dX1_count_118 : decode cX1_count 118 = .ok (.iconst (-1), 1) := dk_2 (dk_at dksX1_count_4 14 rfl rfl)
theorem dX1_count_119 : decode cX1_count 119 = .ok (.ireturn, 1) := dk_172 (dk_at dksX1_count_4 15 rfl rfl)
abbrev cX1_goodMany : ByteArray := prog_1_method_58_code
def yX1_goodMany : MethodName := ⟨RX1, "goodMany", "()I"⟩
def dkwX1_goodMany_1 : List UInt8 := [132, 2, 1, 167, 255, 233, 27, 172]
abbrev dktX1_goodMany_1 : List UInt8 := dkwX1_goodMany_1 ++ []
def dkwX1_goodMany_0 : List UInt8 := [3, 60, 3, 61, 28, 42, 180, 0, 119, 162, 0, 21, 27, 42, 180, 0, 70, 28, 51, 184, 0, 205, 96, 60]
abbrev dktX1_goodMany_0 : List UInt8 := dkwX1_goodMany_0 ++ dktX1_goodMany_1
theorem dksX1_goodMany_0 : cX1_goodMany.data.toList.drop 0 = dktX1_goodMany_0 := by decide +kernel
theorem dksX1_goodMany_1 : cX1_goodMany.data.toList.drop 24 = dktX1_goodMany_1 := dk_seg dksX1_goodMany_0 24 rfl rfl
theorem dX1_goodMany_0 : decode cX1_goodMany 0 = .ok (.iconst 0, 1) := dk_3 (dk_at dksX1_goodMany_0 0 rfl rfl)
theorem dX1_goodMany_1 : decode cX1_goodMany 1 = .ok (.istore_n 1, 1) := dk_60 (dk_at dksX1_goodMany_0 1 rfl rfl)
theorem dX1_goodMany_2 : decode cX1_goodMany 2 = .ok (.iconst 0, 1) := dk_3 (dk_at dksX1_goodMany_0 2 rfl rfl)
theorem dX1_goodMany_3 : decode cX1_goodMany 3 = .ok (.istore_n 2, 1) := dk_61 (dk_at dksX1_goodMany_0 3 rfl rfl)
theorem dX1_goodMany_4 : decode cX1_goodMany 4 = .ok (.iload_n 2, 1) := dk_28 (dk_at dksX1_goodMany_0 4 rfl rfl)
theorem dX1_goodMany_5 : decode cX1_goodMany 5 = .ok (.aload_n 0, 1) := dk_42 (dk_at dksX1_goodMany_0 5 rfl rfl)
theorem dX1_goodMany_6 : decode cX1_goodMany 6 = .ok (.getfield 119, 3) := dk_180 0 119 (dk_at dksX1_goodMany_0 6 rfl rfl)
theorem dX1_goodMany_9 : decode cX1_goodMany 9 = .ok (.if_icmp .ge 21, 3) := dk_162 0 21 (dk_at dksX1_goodMany_0 9 rfl rfl)
theorem dX1_goodMany_12 : decode cX1_goodMany 12 = .ok (.iload_n 1, 1) := dk_27 (dk_at dksX1_goodMany_0 12 rfl rfl)
theorem dX1_goodMany_13 : decode cX1_goodMany 13 = .ok (.aload_n 0, 1) := dk_42 (dk_at dksX1_goodMany_0 13 rfl rfl)
theorem dX1_goodMany_14 : decode cX1_goodMany 14 = .ok (.getfield 70, 3) := dk_180 0 70 (dk_at dksX1_goodMany_0 14 rfl rfl)
theorem dX1_goodMany_17 : decode cX1_goodMany 17 = .ok (.iload_n 2, 1) := dk_28 (dk_at dksX1_goodMany_0 17 rfl rfl)
theorem dX1_goodMany_18 : decode cX1_goodMany 18 = .ok (.baload, 1) := dk_51 (dk_at dksX1_goodMany_0 18 rfl rfl)
theorem dX1_goodMany_19 : decode cX1_goodMany 19 = .ok (.invokestatic 205, 3) := dk_184 0 205 (dk_at dksX1_goodMany_0 19 rfl rfl)
theorem dX1_goodMany_22 : decode cX1_goodMany 22 = .ok (.iadd, 1) := dk_96 (dk_at dksX1_goodMany_0 22 rfl rfl)
theorem dX1_goodMany_23 : decode cX1_goodMany 23 = .ok (.istore_n 1, 1) := dk_60 (dk_at dksX1_goodMany_0 23 rfl rfl)
theorem dX1_goodMany_24 : decode cX1_goodMany 24 = .ok (.iinc 2 1, 3) := dk_132 2 1 (dk_at dksX1_goodMany_1 0 rfl rfl)
theorem dX1_goodMany_27 : decode cX1_goodMany 27 = .ok (.goto (-23), 3) := dk_167 255 233 (dk_at dksX1_goodMany_1 3 rfl rfl)
theorem dX1_goodMany_30 : decode cX1_goodMany 30 = .ok (.iload_n 1, 1) := dk_27 (dk_at dksX1_goodMany_1 6 rfl rfl)
theorem dX1_goodMany_31 : decode cX1_goodMany 31 = .ok (.ireturn, 1) := dk_172 (dk_at dksX1_goodMany_1 7 rfl rfl)
abbrev cX1_outs : ByteArray := prog_1_method_59_code
def yX1_outs : MethodName := ⟨RX1, "outs", "()I"⟩
def dkwX1_outs_1 : List UInt8 := [50, 180, 0, 209, 153, 0, 9, 4, 28, 120, 167, 0, 4, 3, 128, 60, 132, 2, 1, 167, 255, 217, 27, 172]
abbrev dktX1_outs_1 : List UInt8 := dkwX1_outs_1 ++ []
def dkwX1_outs_0 : List UInt8 := [3, 60, 3, 61, 28, 42, 180, 0, 36, 182, 0, 106, 162, 0, 34, 27, 42, 180, 0, 45, 180, 0, 175, 28]
abbrev dktX1_outs_0 : List UInt8 := dkwX1_outs_0 ++ dktX1_outs_1
theorem dksX1_outs_0 : cX1_outs.data.toList.drop 0 = dktX1_outs_0 := by decide +kernel
theorem dksX1_outs_1 : cX1_outs.data.toList.drop 24 = dktX1_outs_1 := dk_seg dksX1_outs_0 24 rfl rfl
theorem dX1_outs_0 : decode cX1_outs 0 = .ok (.iconst 0, 1) := dk_3 (dk_at dksX1_outs_0 0 rfl rfl)
theorem dX1_outs_1 : decode cX1_outs 1 = .ok (.istore_n 1, 1) := dk_60 (dk_at dksX1_outs_0 1 rfl rfl)
theorem dX1_outs_2 : decode cX1_outs 2 = .ok (.iconst 0, 1) := dk_3 (dk_at dksX1_outs_0 2 rfl rfl)
theorem dX1_outs_3 : decode cX1_outs 3 = .ok (.istore_n 2, 1) := dk_61 (dk_at dksX1_outs_0 3 rfl rfl)
theorem dX1_outs_4 : decode cX1_outs 4 = .ok (.iload_n 2, 1) := dk_28 (dk_at dksX1_outs_0 4 rfl rfl)
theorem dX1_outs_5 : decode cX1_outs 5 = .ok (.aload_n 0, 1) := dk_42 (dk_at dksX1_outs_0 5 rfl rfl)
theorem dX1_outs_6 : decode cX1_outs 6 = .ok (.getfield 36, 3) := dk_180 0 36 (dk_at dksX1_outs_0 6 rfl rfl)
theorem dX1_outs_9 : decode cX1_outs 9 = .ok (.invokevirtual 106, 3) := dk_182 0 106 (dk_at dksX1_outs_0 9 rfl rfl)
theorem dX1_outs_12 : decode cX1_outs 12 = .ok (.if_icmp .ge 34, 3) := dk_162 0 34 (dk_at dksX1_outs_0 12 rfl rfl)
theorem dX1_outs_15 : decode cX1_outs 15 = .ok (.iload_n 1, 1) := dk_27 (dk_at dksX1_outs_0 15 rfl rfl)
theorem dX1_outs_16 : decode cX1_outs 16 = .ok (.aload_n 0, 1) := dk_42 (dk_at dksX1_outs_0 16 rfl rfl)
theorem dX1_outs_17 : decode cX1_outs 17 = .ok (.getfield 45, 3) := dk_180 0 45 (dk_at dksX1_outs_0 17 rfl rfl)
theorem dX1_outs_20 : decode cX1_outs 20 = .ok (.getfield 175, 3) := dk_180 0 175 (dk_at dksX1_outs_0 20 rfl rfl)
theorem dX1_outs_23 : decode cX1_outs 23 = .ok (.iload_n 2, 1) := dk_28 (dk_at dksX1_outs_0 23 rfl rfl)
theorem dX1_outs_24 : decode cX1_outs 24 = .ok (.aaload, 1) := dk_50 (dk_at dksX1_outs_1 0 rfl rfl)
theorem dX1_outs_25 : decode cX1_outs 25 = .ok (.getfield 209, 3) := dk_180 0 209 (dk_at dksX1_outs_1 1 rfl rfl)
theorem dX1_outs_28 : decode cX1_outs 28 = .ok (.ifCond .eq 9, 3) := dk_153 0 9 (dk_at dksX1_outs_1 4 rfl rfl)
theorem dX1_outs_31 : decode cX1_outs 31 = .ok (.iconst 1, 1) := dk_4 (dk_at dksX1_outs_1 7 rfl rfl)
theorem dX1_outs_32 : decode cX1_outs 32 = .ok (.iload_n 2, 1) := dk_28 (dk_at dksX1_outs_1 8 rfl rfl)
theorem dX1_outs_33 : decode cX1_outs 33 = .ok (.ishl, 1) := dk_120 (dk_at dksX1_outs_1 9 rfl rfl)
theorem dX1_outs_34 : decode cX1_outs 34 = .ok (.goto 4, 3) := dk_167 0 4 (dk_at dksX1_outs_1 10 rfl rfl)
theorem dX1_outs_37 : decode cX1_outs 37 = .ok (.iconst 0, 1) := dk_3 (dk_at dksX1_outs_1 13 rfl rfl)
theorem dX1_outs_38 : decode cX1_outs 38 = .ok (.ior, 1) := dk_128 (dk_at dksX1_outs_1 14 rfl rfl)
theorem dX1_outs_39 : decode cX1_outs 39 = .ok (.istore_n 1, 1) := dk_60 (dk_at dksX1_outs_1 15 rfl rfl)
theorem dX1_outs_40 : decode cX1_outs 40 = .ok (.iinc 2 1, 3) := dk_132 2 1 (dk_at dksX1_outs_1 16 rfl rfl)
theorem dX1_outs_43 : decode cX1_outs 43 = .ok (.goto (-39), 3) := dk_167 255 217 (dk_at dksX1_outs_1 19 rfl rfl)
theorem dX1_outs_46 : decode cX1_outs 46 = .ok (.iload_n 1, 1) := dk_27 (dk_at dksX1_outs_1 22 rfl rfl)
theorem dX1_outs_47 : decode cX1_outs 47 = .ok (.ireturn, 1) := dk_172 (dk_at dksX1_outs_1 23 rfl rfl)
abbrev cX1_row : ByteArray := prog_1_method_61_code
def yX1_row : MethodName := ⟨RX1, "row", "(I)J"⟩
def dkwX1_row_1 : List UInt8 := [42, 180, 0, 56, 27, 47, 173]
abbrev dktX1_row_1 : List UInt8 := dkwX1_row_1 ++ []
def dkwX1_row_0 : List UInt8 := [27, 133, 9, 42, 180, 0, 103, 4, 100, 133, 184, 0, 110, 154, 0, 11, 187, 1, 144, 89, 183, 1, 146, 191]
abbrev dktX1_row_0 : List UInt8 := dkwX1_row_0 ++ dktX1_row_1
theorem dksX1_row_0 : cX1_row.data.toList.drop 0 = dktX1_row_0 := by decide +kernel
theorem dksX1_row_1 : cX1_row.data.toList.drop 24 = dktX1_row_1 := dk_seg dksX1_row_0 24 rfl rfl
theorem dX1_row_0 : decode cX1_row 0 = .ok (.iload_n 1, 1) := dk_27 (dk_at dksX1_row_0 0 rfl rfl)
theorem dX1_row_1 : decode cX1_row 1 = .ok (.i2l, 1) := dk_133 (dk_at dksX1_row_0 1 rfl rfl)
theorem dX1_row_2 : decode cX1_row 2 = .ok (.lconst 0, 1) := dk_9 (dk_at dksX1_row_0 2 rfl rfl)
theorem dX1_row_3 : decode cX1_row 3 = .ok (.aload_n 0, 1) := dk_42 (dk_at dksX1_row_0 3 rfl rfl)
theorem dX1_row_4 : decode cX1_row 4 = .ok (.getfield 103, 3) := dk_180 0 103 (dk_at dksX1_row_0 4 rfl rfl)
theorem dX1_row_7 : decode cX1_row 7 = .ok (.iconst 1, 1) := dk_4 (dk_at dksX1_row_0 7 rfl rfl)
theorem dX1_row_8 : decode cX1_row 8 = .ok (.isub, 1) := dk_100 (dk_at dksX1_row_0 8 rfl rfl)
theorem dX1_row_9 : decode cX1_row 9 = .ok (.i2l, 1) := dk_133 (dk_at dksX1_row_0 9 rfl rfl)
theorem dX1_row_10 : decode cX1_row 10 = .ok (.invokestatic 110, 3) := dk_184 0 110 (dk_at dksX1_row_0 10 rfl rfl)
theorem dX1_row_13 : decode cX1_row 13 = .ok (.ifCond .ne 11, 3) := dk_154 0 11 (dk_at dksX1_row_0 13 rfl rfl)
theorem dX1_row_16 : decode cX1_row 16 = .ok (.new 400, 3) := dk_187 1 144 (dk_at dksX1_row_0 16 rfl rfl)
theorem dX1_row_19 : decode cX1_row 19 = .ok (.dup, 1) := dk_89 (dk_at dksX1_row_0 19 rfl rfl)
theorem dX1_row_20 : decode cX1_row 20 = .ok (.invokespecial 402, 3) := dk_183 1 146 (dk_at dksX1_row_0 20 rfl rfl)
theorem dX1_row_23 : decode cX1_row 23 = .ok (.athrow, 1) := dk_191 (dk_at dksX1_row_0 23 rfl rfl)
theorem dX1_row_24 : decode cX1_row 24 = .ok (.aload_n 0, 1) := dk_42 (dk_at dksX1_row_1 0 rfl rfl)
theorem dX1_row_25 : decode cX1_row 25 = .ok (.getfield 56, 3) := dk_180 0 56 (dk_at dksX1_row_1 1 rfl rfl)
theorem dX1_row_28 : decode cX1_row 28 = .ok (.iload_n 1, 1) := dk_27 (dk_at dksX1_row_1 4 rfl rfl)
theorem dX1_row_29 : decode cX1_row 29 = .ok (.laload, 1) := dk_47 (dk_at dksX1_row_1 5 rfl rfl)
theorem dX1_row_30 : decode cX1_row 30 = .ok (.lreturn, 1) := dk_173 (dk_at dksX1_row_1 6 rfl rfl)
theorem q110 : (Jvm.Cond.initialized "NextLoad") ∈ lw_all := lw_g (lw_at lw_m1 1 rfl) rfl
theorem q143 : (Jvm.Cond.instantiable "NextLoad" (18 : Nat)) ∈ lw_all := lw_g (lw_at lw_m1 34 rfl) rfl
theorem q145 : (Jvm.Cond.instanceMethod ({ cls := "NextLoad", name := "<init>", desc := "()V" } : Jvm.MethodName)) ∈ lw_all := lw_g (lw_at lw_m1 36 rfl) rfl
theorem q146 : (Jvm.Cond.code ({ cls := "NextLoad", name := "<init>", desc := "()V" } : Jvm.MethodName) prog_1_method_4_code (1 : Nat) (Option.none : Option Jvm.ClassFile.FieldType)) ∈ lw_all := lw_g (lw_at lw_m1 37 rfl) rfl
theorem q147 : (Jvm.Cond.methodLink "NextLoad" (25 : Nat) ({ cls := "java/lang/Object", name := "<init>", desc := "()V" } : Jvm.MethodName)) ∈ lw_all := lw_g (lw_at lw_m1 38 rfl) rfl
theorem q150 : (Jvm.Cond.classLink "NextLoad" (31 : Nat) "java/util/ArrayList") ∈ lw_all := lw_g (lw_at lw_m1 41 rfl) rfl
theorem q152 : (Jvm.Cond.methodLink "NextLoad" (33 : Nat) ({ cls := "java/util/ArrayList", name := "<init>", desc := "(I)V" } : Jvm.MethodName)) ∈ lw_all := lw_g (lw_at lw_m1 43 rfl) rfl
theorem q178 : (Jvm.Cond.classLink "NextLoad" (40 : Nat) "NextLoad$Meet") ∈ lw_all := lw_g (lw_at lw_m1 69 rfl) rfl
theorem q180 : (Jvm.Cond.methodLinkNest "NextLoad" (42 : Nat) ({ cls := "NextLoad$Meet", name := "<init>", desc := "(LNextLoad;)V" } : Jvm.MethodName) "NextLoad") ∈ lw_tbl := lw_at lw_m1 71 rfl
theorem q196 : (Jvm.Cond.fieldLinkNest "NextLoad" (185 : Nat) "NextLoad$Standing" "best" "[I" "NextLoad") ∈ lw_tbl := lw_at lw_m1 87 rfl
theorem q200 : (Jvm.Cond.fieldLinkNest "NextLoad" (347 : Nat) "NextLoad$Standing" "tries" "I" "NextLoad") ∈ lw_tbl := lw_at lw_m1 91 rfl
theorem q206 : (Jvm.Cond.fieldLinkNest "NextLoad" (349 : Nat) "NextLoad$Standing" "failed" "I" "NextLoad") ∈ lw_tbl := lw_at lw_m1 97 rfl
theorem q211 : (Jvm.Cond.fieldLinkNest "NextLoad" (190 : Nat) "NextLoad$Standing" "asked" "I" "NextLoad") ∈ lw_tbl := lw_at lw_m1 102 rfl
theorem q215 : (Jvm.Cond.fieldLinkNest "NextLoad" (199 : Nat) "NextLoad$Standing" "changes" "I" "NextLoad") ∈ lw_tbl := lw_at lw_m1 106 rfl
theorem q218 : (Jvm.Cond.fieldLinkNest "NextLoad" (230 : Nat) "NextLoad$Standing" "hasTried" "Z" "NextLoad") ∈ lw_tbl := lw_at lw_m1 109 rfl
theorem q223 : (Jvm.Cond.fieldLinkNest "NextLoad" (209 : Nat) "NextLoad$Standing" "isOut" "Z" "NextLoad") ∈ lw_tbl := lw_at lw_m1 114 rfl
theorem q244 : (Jvm.Cond.fieldLinkNest "NextLoad" (175 : Nat) "NextLoad$Meet" "at" "[LNextLoad$Standing;" "NextLoad") ∈ lw_tbl := lw_at lw_m1 135 rfl
theorem q248 : (Jvm.Cond.fieldLinkNest "NextLoad" (233 : Nat) "NextLoad$Meet" "lift" "I" "NextLoad") ∈ lw_tbl := lw_at lw_m1 139 rfl
theorem q250 : (Jvm.Cond.fieldLinkNest "NextLoad" (361 : Nat) "NextLoad$Meet" "round" "I" "NextLoad") ∈ lw_tbl := lw_at lw_m1 141 rfl
theorem q253 : (Jvm.Cond.fieldLinkNest "NextLoad" (193 : Nat) "NextLoad$Meet" "bar" "I" "NextLoad") ∈ lw_tbl := lw_at lw_m1 144 rfl
theorem q266 : (Jvm.Cond.classLink "NextLoad" (74 : Nat) "NextLoad$Planned") ∈ lw_all := lw_g (lw_at lw_m1 157 rfl) rfl
theorem q268 : (Jvm.Cond.methodLinkNest "NextLoad" (76 : Nat) ({ cls := "NextLoad$Planned", name := "<init>", desc := "(LNextLoad;)V" } : Jvm.MethodName) "NextLoad") ∈ lw_tbl := lw_at lw_m1 159 rfl
theorem q293 : (Jvm.Cond.classLink "NextLoad" (81 : Nat) "NextLoad$Free") ∈ lw_all := lw_g (lw_at lw_m1 184 rfl) rfl
theorem q295 : (Jvm.Cond.methodLinkNest "NextLoad" (83 : Nat) ({ cls := "NextLoad$Free", name := "<init>", desc := "(LNextLoad;)V" } : Jvm.MethodName) "NextLoad") ∈ lw_tbl := lw_at lw_m1 186 rfl
theorem q328 : (Jvm.Cond.classLink "NextLoad" (88 : Nat) "[[J") ∈ lw_all := lw_g (lw_at lw_m1 219 rfl) rfl
theorem q329 : (Jvm.Cond.classLink "NextLoad" (93 : Nat) "NextLoad$Duel") ∈ lw_all := lw_g (lw_at lw_m1 220 rfl) rfl
theorem q331 : (Jvm.Cond.methodLinkNest "NextLoad" (95 : Nat) ({ cls := "NextLoad$Duel", name := "<init>", desc := "(LNextLoad;)V" } : Jvm.MethodName) "NextLoad") ∈ lw_tbl := lw_at lw_m1 222 rfl
theorem q337 : (Jvm.Cond.fieldLinkNest "NextLoad" (373 : Nat) "NextLoad$Duel" "choice" "[I" "NextLoad") ∈ lw_tbl := lw_at lw_m1 228 rfl
theorem q355 : (Jvm.Cond.methodLink "NextLoad" (100 : Nat) ({ cls := "NextLoad$Meet", name := "begins", desc := "()V" } : Jvm.MethodName)) ∈ lw_all := lw_g (lw_at lw_m2 6 rfl) rfl
theorem q394 : (Jvm.Cond.fieldLink "NextLoad" (36 : Nat) "NextLoad" "lifters" "Ljava/util/ArrayList;") ∈ lw_all := lw_g (lw_at lw_m2 45 rfl) rfl
theorem q398 : (Jvm.Cond.fieldLink "NextLoad" (13 : Nat) "NextLoad" "tire" "I") ∈ lw_all := lw_g (lw_at lw_m2 49 rfl) rfl
theorem q400 : (Jvm.Cond.fieldLink "NextLoad" (45 : Nat) "NextLoad" "meet" "LNextLoad$Meet;") ∈ lw_all := lw_g (lw_at lw_m2 51 rfl) rfl
theorem q403 : (Jvm.Cond.fieldLink "NextLoad" (49 : Nat) "NextLoad" "trial" "LNextLoad$Meet;") ∈ lw_all := lw_g (lw_at lw_m2 54 rfl) rfl
theorem q405 : (Jvm.Cond.fieldLink "NextLoad" (52 : Nat) "NextLoad" "text" "[B") ∈ lw_all := lw_g (lw_at lw_m2 56 rfl) rfl
theorem q406 : (Jvm.Cond.fieldLink "NextLoad" (116 : Nat) "NextLoad" "typed" "I") ∈ lw_all := lw_g (lw_at lw_m2 57 rfl) rfl
theorem q407 : (Jvm.Cond.fieldLink "NextLoad" (56 : Nat) "NextLoad" "row" "[J") ∈ lw_all := lw_g (lw_at lw_m2 58 rfl) rfl
theorem q408 : (Jvm.Cond.fieldLink "NextLoad" (103 : Nat) "NextLoad" "rowMany" "I") ∈ lw_all := lw_g (lw_at lw_m2 59 rfl) rfl
theorem q409 : (Jvm.Cond.fieldLink "NextLoad" (60 : Nat) "NextLoad" "triedBy" "[I") ∈ lw_all := lw_g (lw_at lw_m2 60 rfl) rfl
theorem q410 : (Jvm.Cond.fieldLink "NextLoad" (64 : Nat) "NextLoad" "triedIn" "[I") ∈ lw_all := lw_g (lw_at lw_m2 61 rfl) rfl
theorem q411 : (Jvm.Cond.fieldLink "NextLoad" (67 : Nat) "NextLoad" "triedAt" "[I") ∈ lw_all := lw_g (lw_at lw_m2 62 rfl) rfl
theorem q412 : (Jvm.Cond.fieldLink "NextLoad" (70 : Nat) "NextLoad" "wasGood" "[Z") ∈ lw_all := lw_g (lw_at lw_m2 63 rfl) rfl
theorem q413 : (Jvm.Cond.fieldLink "NextLoad" (119 : Nat) "NextLoad" "triedMany" "I") ∈ lw_all := lw_g (lw_at lw_m2 64 rfl) rfl
theorem q414 : (Jvm.Cond.fieldLink "NextLoad" (77 : Nat) "NextLoad" "planned" "LNextLoad$Planned;") ∈ lw_all := lw_g (lw_at lw_m2 65 rfl) rfl
theorem q415 : (Jvm.Cond.fieldLink "NextLoad" (84 : Nat) "NextLoad" "free" "LNextLoad$Free;") ∈ lw_all := lw_g (lw_at lw_m2 66 rfl) rfl
theorem q416 : (Jvm.Cond.fieldLink "NextLoad" (90 : Nat) "NextLoad" "chance" "[[J") ∈ lw_all := lw_g (lw_at lw_m2 67 rfl) rfl
theorem q417 : (Jvm.Cond.fieldLink "NextLoad" (96 : Nat) "NextLoad" "duel" "LNextLoad$Duel;") ∈ lw_all := lw_g (lw_at lw_m2 68 rfl) rfl
theorem q418 : (Jvm.Cond.fieldLink "NextLoad" (385 : Nat) "NextLoad" "drawn" "I") ∈ lw_all := lw_g (lw_at lw_m2 69 rfl) rfl
theorem q419 : (Jvm.Cond.laysFinal "NextLoad" "NextLoad" "lifters" "Ljava/util/ArrayList;") ∈ lw_all := lw_g (lw_at lw_m2 70 rfl) rfl
theorem q420 : (Jvm.Cond.soleField "NextLoad" "lifters") ∈ lw_all := lw_g (lw_at lw_m2 71 rfl) rfl
theorem q421 : (Jvm.Cond.lays "NextLoad" "NextLoad" "tire" "I") ∈ lw_all := lw_g (lw_at lw_m2 72 rfl) rfl
theorem q422 : (Jvm.Cond.soleField "NextLoad" "tire") ∈ lw_all := lw_g (lw_at lw_m2 73 rfl) rfl
theorem q423 : (Jvm.Cond.laysFinal "NextLoad" "NextLoad" "meet" "LNextLoad$Meet;") ∈ lw_all := lw_g (lw_at lw_m2 74 rfl) rfl
theorem q424 : (Jvm.Cond.soleField "NextLoad" "meet") ∈ lw_all := lw_g (lw_at lw_m2 75 rfl) rfl
theorem q425 : (Jvm.Cond.laysFinal "NextLoad" "NextLoad" "trial" "LNextLoad$Meet;") ∈ lw_all := lw_g (lw_at lw_m2 76 rfl) rfl
theorem q426 : (Jvm.Cond.soleField "NextLoad" "trial") ∈ lw_all := lw_g (lw_at lw_m2 77 rfl) rfl
theorem q427 : (Jvm.Cond.laysFinal "NextLoad" "NextLoad" "text" "[B") ∈ lw_all := lw_g (lw_at lw_m2 78 rfl) rfl
theorem q428 : (Jvm.Cond.soleField "NextLoad" "text") ∈ lw_all := lw_g (lw_at lw_m2 79 rfl) rfl
theorem q429 : (Jvm.Cond.lays "NextLoad" "NextLoad" "typed" "I") ∈ lw_all := lw_g (lw_at lw_m2 80 rfl) rfl
theorem q430 : (Jvm.Cond.soleField "NextLoad" "typed") ∈ lw_all := lw_g (lw_at lw_m2 81 rfl) rfl
theorem q431 : (Jvm.Cond.laysFinal "NextLoad" "NextLoad" "row" "[J") ∈ lw_all := lw_g (lw_at lw_m2 82 rfl) rfl
theorem q432 : (Jvm.Cond.soleField "NextLoad" "row") ∈ lw_all := lw_g (lw_at lw_m2 83 rfl) rfl
theorem q433 : (Jvm.Cond.lays "NextLoad" "NextLoad" "rowMany" "I") ∈ lw_all := lw_g (lw_at lw_m2 84 rfl) rfl
theorem q434 : (Jvm.Cond.soleField "NextLoad" "rowMany") ∈ lw_all := lw_g (lw_at lw_m2 85 rfl) rfl
theorem q435 : (Jvm.Cond.laysFinal "NextLoad" "NextLoad" "triedBy" "[I") ∈ lw_all := lw_g (lw_at lw_m2 86 rfl) rfl
theorem q436 : (Jvm.Cond.soleField "NextLoad" "triedBy") ∈ lw_all := lw_g (lw_at lw_m2 87 rfl) rfl
theorem q437 : (Jvm.Cond.laysFinal "NextLoad" "NextLoad" "triedIn" "[I") ∈ lw_all := lw_g (lw_at lw_m2 88 rfl) rfl
theorem q438 : (Jvm.Cond.soleField "NextLoad" "triedIn") ∈ lw_all := lw_g (lw_at lw_m2 89 rfl) rfl
theorem q439 : (Jvm.Cond.laysFinal "NextLoad" "NextLoad" "triedAt" "[I") ∈ lw_all := lw_g (lw_at lw_m2 90 rfl) rfl
theorem q440 : (Jvm.Cond.soleField "NextLoad" "triedAt") ∈ lw_all := lw_g (lw_at lw_m2 91 rfl) rfl
theorem q441 : (Jvm.Cond.laysFinal "NextLoad" "NextLoad" "wasGood" "[Z") ∈ lw_all := lw_g (lw_at lw_m2 92 rfl) rfl
theorem q442 : (Jvm.Cond.soleField "NextLoad" "wasGood") ∈ lw_all := lw_g (lw_at lw_m2 93 rfl) rfl
theorem q443 : (Jvm.Cond.lays "NextLoad" "NextLoad" "triedMany" "I") ∈ lw_all := lw_g (lw_at lw_m2 94 rfl) rfl
theorem q444 : (Jvm.Cond.soleField "NextLoad" "triedMany") ∈ lw_all := lw_g (lw_at lw_m2 95 rfl) rfl
theorem q445 : (Jvm.Cond.laysFinal "NextLoad" "NextLoad" "planned" "LNextLoad$Planned;") ∈ lw_all := lw_g (lw_at lw_m2 96 rfl) rfl
theorem q446 : (Jvm.Cond.soleField "NextLoad" "planned") ∈ lw_all := lw_g (lw_at lw_m2 97 rfl) rfl
theorem q447 : (Jvm.Cond.laysFinal "NextLoad" "NextLoad" "free" "LNextLoad$Free;") ∈ lw_all := lw_g (lw_at lw_m2 98 rfl) rfl
theorem q448 : (Jvm.Cond.soleField "NextLoad" "free") ∈ lw_all := lw_g (lw_at lw_m2 99 rfl) rfl
theorem q449 : (Jvm.Cond.laysFinal "NextLoad" "NextLoad" "chance" "[[J") ∈ lw_all := lw_g (lw_at lw_m2 100 rfl) rfl
theorem q450 : (Jvm.Cond.soleField "NextLoad" "chance") ∈ lw_all := lw_g (lw_at lw_m2 101 rfl) rfl
theorem q451 : (Jvm.Cond.laysFinal "NextLoad" "NextLoad" "duel" "LNextLoad$Duel;") ∈ lw_all := lw_g (lw_at lw_m2 102 rfl) rfl
theorem q452 : (Jvm.Cond.soleField "NextLoad" "duel") ∈ lw_all := lw_g (lw_at lw_m2 103 rfl) rfl
theorem q453 : (Jvm.Cond.lays "NextLoad" "NextLoad" "drawn" "I") ∈ lw_all := lw_g (lw_at lw_m2 104 rfl) rfl
theorem q454 : (Jvm.Cond.soleField "NextLoad" "drawn") ∈ lw_all := lw_g (lw_at lw_m2 105 rfl) rfl
theorem q455 : (Jvm.Cond.superclass "NextLoad" "java/lang/Object") ∈ lw_all := lw_g (lw_at lw_m2 106 rfl) rfl
theorem q457 : (Jvm.Cond.instanceMethod ({ cls := "NextLoad", name := "sign", desc := "(I)I" } : Jvm.MethodName)) ∈ lw_all := lw_g (lw_at lw_m2 108 rfl) rfl
theorem q458 : (Jvm.Cond.selects "NextLoad" ({ cls := "NextLoad", name := "sign", desc := "(I)I" } : Jvm.MethodName) ({ cls := "NextLoad", name := "sign", desc := "(I)I" } : Jvm.MethodName)) ∈ lw_all := lw_g (lw_at lw_m2 109 rfl) rfl
theorem q459 : (Jvm.Cond.code ({ cls := "NextLoad", name := "sign", desc := "(I)I" } : Jvm.MethodName) prog_1_method_8_code (3 : Nat) (Option.some Jvm.ClassFile.FieldType.int)) ∈ lw_all := lw_g (lw_at lw_m2 110 rfl) rfl
theorem q461 : (Jvm.Cond.instanceMethod ({ cls := "NextLoad", name := "end", desc := "(I)Z" } : Jvm.MethodName)) ∈ lw_all := lw_g (lw_at lw_m2 112 rfl) rfl
theorem q462 : (Jvm.Cond.selects "NextLoad" ({ cls := "NextLoad", name := "end", desc := "(I)Z" } : Jvm.MethodName) ({ cls := "NextLoad", name := "end", desc := "(I)Z" } : Jvm.MethodName)) ∈ lw_all := lw_g (lw_at lw_m2 113 rfl) rfl
theorem q463 : (Jvm.Cond.code ({ cls := "NextLoad", name := "end", desc := "(I)Z" } : Jvm.MethodName) prog_1_method_9_code (2 : Nat) (Option.some Jvm.ClassFile.FieldType.boolean)) ∈ lw_all := lw_g (lw_at lw_m2 114 rfl) rfl
theorem q464 : (Jvm.Cond.methodLink "NextLoad" (110 : Nat) ({ cls := "NextLoad", name := "in", desc := "(JJJ)Z" } : Jvm.MethodName)) ∈ lw_all := lw_g (lw_at lw_m2 115 rfl) rfl
theorem q465 : (Jvm.Cond.static ({ cls := "NextLoad", name := "in", desc := "(JJJ)Z" } : Jvm.MethodName)) ∈ lw_all := lw_g (lw_at lw_m2 116 rfl) rfl
theorem q466 : (Jvm.Cond.code ({ cls := "NextLoad", name := "in", desc := "(JJJ)Z" } : Jvm.MethodName) prog_1_method_1_code (6 : Nat) (Option.some Jvm.ClassFile.FieldType.boolean)) ∈ lw_all := lw_g (lw_at lw_m2 117 rfl) rfl
theorem q468 : (Jvm.Cond.instanceMethod ({ cls := "NextLoad", name := "enters", desc := "()I" } : Jvm.MethodName)) ∈ lw_all := lw_g (lw_at lw_m2 119 rfl) rfl
theorem q469 : (Jvm.Cond.selects "NextLoad" ({ cls := "NextLoad", name := "enters", desc := "()I" } : Jvm.MethodName) ({ cls := "NextLoad", name := "enters", desc := "()I" } : Jvm.MethodName)) ∈ lw_all := lw_g (lw_at lw_m2 120 rfl) rfl
theorem q470 : (Jvm.Cond.codeWith ({ cls := "NextLoad", name := "enters", desc := "()I" } : Jvm.MethodName) prog_1_method_11_code (4 : Nat) (Option.some Jvm.ClassFile.FieldType.int) [((10 : Nat), (23 : Nat), (26 : Nat), (131 : Nat))]) ∈ lw_all := lw_g (lw_at lw_m2 121 rfl) rfl
theorem q471 : (Jvm.Cond.classLink "NextLoad" (131 : Nat) "NextLoad$Fault") ∈ lw_all := lw_g (lw_at lw_m2 122 rfl) rfl
theorem q472 : (Jvm.Cond.classLink "NextLoad" (122 : Nat) "NextLoad$Reader") ∈ lw_all := lw_g (lw_at lw_m2 123 rfl) rfl
theorem q474 : (Jvm.Cond.methodLink "NextLoad" (124 : Nat) ({ cls := "NextLoad$Reader", name := "<init>", desc := "(LNextLoad;I)V" } : Jvm.MethodName)) ∈ lw_all := lw_g (lw_at lw_m2 125 rfl) rfl
theorem q488 : (Jvm.Cond.methodLink "NextLoad" (127 : Nat) ({ cls := "NextLoad$Reader", name := "lifter", desc := "()LNextLoad$Lifter;" } : Jvm.MethodName)) ∈ lw_all := lw_g (lw_at lw_m2 139 rfl) rfl
theorem q518 : (Jvm.Cond.fieldLinkNest "NextLoad" (179 : Nat) "NextLoad$Lifter" "body" "I" "NextLoad") ∈ lw_tbl := lw_at lw_m2 169 rfl
theorem q521 : (Jvm.Cond.fieldLinkNest "NextLoad" (182 : Nat) "NextLoad$Lifter" "lot" "I" "NextLoad") ∈ lw_tbl := lw_at lw_m2 172 rfl
theorem q523 : (Jvm.Cond.fieldLinkNest "NextLoad" (1 : Nat) "NextLoad$Lifter" "table" "[LNextLoad$Table;" "NextLoad") ∈ lw_tbl := lw_at lw_m2 174 rfl
theorem q529 : (Jvm.Cond.fieldLinkNest "NextLoad" (323 : Nat) "NextLoad$Lifter" "open" "[I" "NextLoad") ∈ lw_tbl := lw_at lw_m2 180 rfl
theorem q536 : (Jvm.Cond.fieldLinkNest "NextLoad" (326 : Nat) "NextLoad$Lifter" "again" "[I" "NextLoad") ∈ lw_tbl := lw_at lw_m2 187 rfl
theorem q609 : (Jvm.Cond.fieldLinkNest "NextLoad" (133 : Nat) "NextLoad$Fault" "place" "I" "NextLoad") ∈ lw_tbl := lw_at lw_m3 20 rfl
theorem q643 : (Jvm.Cond.methodLink "NextLoad" (106 : Nat) ({ cls := "java/util/ArrayList", name := "size", desc := "()I" } : Jvm.MethodName)) ∈ lw_all := lw_g (lw_at lw_m3 54 rfl) rfl
theorem q644 : (Jvm.Cond.methodLink "NextLoad" (136 : Nat) ({ cls := "java/util/ArrayList", name := "add", desc := "(Ljava/lang/Object;)Z" } : Jvm.MethodName)) ∈ lw_all := lw_g (lw_at lw_m3 55 rfl) rfl
theorem q678 : (Jvm.Cond.selects "NextLoad" ({ cls := "java/lang/Object", name := "getClass", desc := "()Ljava/lang/Class;" } : Jvm.MethodName) ({ cls := "java/lang/Object", name := "getClass", desc := "()Ljava/lang/Class;" } : Jvm.MethodName)) ∈ lw_all := lw_g (lw_at lw_m3 89 rfl) rfl
theorem q710 : (Jvm.Cond.methodLink "NextLoad" (140 : Nat) ({ cls := "NextLoad", name := "beginsAnew", desc := "()I" } : Jvm.MethodName)) ∈ lw_all := lw_g (lw_at lw_m3 121 rfl) rfl
theorem q711 : (Jvm.Cond.privateMethod ({ cls := "NextLoad", name := "beginsAnew", desc := "()I" } : Jvm.MethodName)) ∈ lw_tbl := lw_at lw_m3 122 rfl
theorem q712 : (Jvm.Cond.instanceMethod ({ cls := "NextLoad", name := "beginsAnew", desc := "()I" } : Jvm.MethodName)) ∈ lw_all := lw_g (lw_at lw_m3 123 rfl) rfl
theorem q713 : (Jvm.Cond.code ({ cls := "NextLoad", name := "beginsAnew", desc := "()I" } : Jvm.MethodName) prog_1_method_10_code (1 : Nat) (Option.some Jvm.ClassFile.FieldType.int)) ∈ lw_all := lw_g (lw_at lw_m3 124 rfl) rfl
theorem q715 : (Jvm.Cond.instanceMethod ({ cls := "NextLoad", name := "leaves", desc := "()I" } : Jvm.MethodName)) ∈ lw_all := lw_g (lw_at lw_m3 126 rfl) rfl
theorem q716 : (Jvm.Cond.selects "NextLoad" ({ cls := "NextLoad", name := "leaves", desc := "()I" } : Jvm.MethodName) ({ cls := "NextLoad", name := "leaves", desc := "()I" } : Jvm.MethodName)) ∈ lw_all := lw_g (lw_at lw_m3 127 rfl) rfl
theorem q717 : (Jvm.Cond.code ({ cls := "NextLoad", name := "leaves", desc := "()I" } : Jvm.MethodName) prog_1_method_12_code (1 : Nat) (Option.some Jvm.ClassFile.FieldType.int)) ∈ lw_all := lw_g (lw_at lw_m3 128 rfl) rfl
theorem q718 : (Jvm.Cond.methodLink "NextLoad" (143 : Nat) ({ cls := "java/util/ArrayList", name := "isEmpty", desc := "()Z" } : Jvm.MethodName)) ∈ lw_all := lw_g (lw_at lw_m3 129 rfl) rfl
theorem q722 : (Jvm.Cond.methodLink "NextLoad" (147 : Nat) ({ cls := "java/util/ArrayList", name := "remove", desc := "(I)Ljava/lang/Object;" } : Jvm.MethodName)) ∈ lw_all := lw_g (lw_at lw_m3 133 rfl) rfl
theorem q732 : (Jvm.Cond.instanceMethod ({ cls := "NextLoad", name := "plans", desc := "(IIII)I" } : Jvm.MethodName)) ∈ lw_all := lw_g (lw_at lw_m3 143 rfl) rfl
theorem q733 : (Jvm.Cond.selects "NextLoad" ({ cls := "NextLoad", name := "plans", desc := "(IIII)I" } : Jvm.MethodName) ({ cls := "NextLoad", name := "plans", desc := "(IIII)I" } : Jvm.MethodName)) ∈ lw_all := lw_g (lw_at lw_m3 144 rfl) rfl
theorem q734 : (Jvm.Cond.code ({ cls := "NextLoad", name := "plans", desc := "(IIII)I" } : Jvm.MethodName) prog_1_method_13_code (7 : Nat) (Option.some Jvm.ClassFile.FieldType.int)) ∈ lw_all := lw_g (lw_at lw_m3 145 rfl) rfl
theorem q735 : (Jvm.Cond.methodLink "NextLoad" (151 : Nat) ({ cls := "NextLoad", name := "isLifter", desc := "(I)Z" } : Jvm.MethodName)) ∈ lw_all := lw_g (lw_at lw_m3 146 rfl) rfl
theorem q736 : (Jvm.Cond.privateMethod ({ cls := "NextLoad", name := "isLifter", desc := "(I)Z" } : Jvm.MethodName)) ∈ lw_tbl := lw_at lw_m3 147 rfl
theorem q737 : (Jvm.Cond.instanceMethod ({ cls := "NextLoad", name := "isLifter", desc := "(I)Z" } : Jvm.MethodName)) ∈ lw_all := lw_g (lw_at lw_m3 148 rfl) rfl
theorem q738 : (Jvm.Cond.code ({ cls := "NextLoad", name := "isLifter", desc := "(I)Z" } : Jvm.MethodName) prog_1_method_6_code (2 : Nat) (Option.some Jvm.ClassFile.FieldType.boolean)) ∈ lw_all := lw_g (lw_at lw_m3 149 rfl) rfl
theorem q739 : (Jvm.Cond.methodLink "NextLoad" (155 : Nat) ({ cls := "NextLoad", name := "isLift", desc := "(I)Z" } : Jvm.MethodName)) ∈ lw_all := lw_g (lw_at lw_m3 150 rfl) rfl
theorem q740 : (Jvm.Cond.static ({ cls := "NextLoad", name := "isLift", desc := "(I)Z" } : Jvm.MethodName)) ∈ lw_all := lw_g (lw_at lw_m3 151 rfl) rfl
theorem q741 : (Jvm.Cond.code ({ cls := "NextLoad", name := "isLift", desc := "(I)Z" } : Jvm.MethodName) prog_1_method_7_code (1 : Nat) (Option.some Jvm.ClassFile.FieldType.boolean)) ∈ lw_all := lw_g (lw_at lw_m3 152 rfl) rfl
theorem q742 : (Jvm.Cond.constantLong "NextLoad" (114 : Nat) (2 : Int64)) ∈ lw_all := lw_g (lw_at lw_m3 153 rfl) rfl
theorem q743 : (Jvm.Cond.constantLong "NextLoad" (158 : Nat) (40 : Int64)) ∈ lw_all := lw_g (lw_at lw_m3 154 rfl) rfl
theorem q744 : (Jvm.Cond.constantLong "NextLoad" (160 : Nat) (9 : Int64)) ∈ lw_all := lw_g (lw_at lw_m3 155 rfl) rfl
theorem q745 : (Jvm.Cond.methodLink "NextLoad" (162 : Nat) ({ cls := "java/util/ArrayList", name := "get", desc := "(I)Ljava/lang/Object;" } : Jvm.MethodName)) ∈ lw_all := lw_g (lw_at lw_m3 156 rfl) rfl
theorem q746 : (Jvm.Cond.classLink "NextLoad" (2 : Nat) "NextLoad$Lifter") ∈ lw_all := lw_g (lw_at lw_m3 157 rfl) rfl
theorem q747 : (Jvm.Cond.methodLink "NextLoad" (165 : Nat) ({ cls := "NextLoad$Lifter", name := "plan", desc := "(I)[I" } : Jvm.MethodName)) ∈ lw_all := lw_g (lw_at lw_m3 158 rfl) rfl
theorem q752 : (Jvm.Cond.instanceMethod ({ cls := "NextLoad", name := "tires", desc := "(I)I" } : Jvm.MethodName)) ∈ lw_all := lw_g (lw_at lw_m3 163 rfl) rfl
theorem q753 : (Jvm.Cond.selects "NextLoad" ({ cls := "NextLoad", name := "tires", desc := "(I)I" } : Jvm.MethodName) ({ cls := "NextLoad", name := "tires", desc := "(I)I" } : Jvm.MethodName)) ∈ lw_all := lw_g (lw_at lw_m3 164 rfl) rfl
theorem q754 : (Jvm.Cond.code ({ cls := "NextLoad", name := "tires", desc := "(I)I" } : Jvm.MethodName) prog_1_method_14_code (3 : Nat) (Option.some Jvm.ClassFile.FieldType.int)) ∈ lw_all := lw_g (lw_at lw_m3 165 rfl) rfl
theorem q755 : (Jvm.Cond.constantLong "NextLoad" (169 : Nat) (300 : Int64)) ∈ lw_all := lw_g (lw_at lw_m3 166 rfl) rfl
theorem q757 : (Jvm.Cond.instanceMethod ({ cls := "NextLoad", name := "begins", desc := "()I" } : Jvm.MethodName)) ∈ lw_all := lw_g (lw_at lw_m3 168 rfl) rfl
theorem q758 : (Jvm.Cond.selects "NextLoad" ({ cls := "NextLoad", name := "begins", desc := "()I" } : Jvm.MethodName) ({ cls := "NextLoad", name := "begins", desc := "()I" } : Jvm.MethodName)) ∈ lw_all := lw_g (lw_at lw_m3 169 rfl) rfl
theorem q759 : (Jvm.Cond.code ({ cls := "NextLoad", name := "begins", desc := "()I" } : Jvm.MethodName) prog_1_method_15_code (1 : Nat) (Option.some Jvm.ClassFile.FieldType.int)) ∈ lw_all := lw_g (lw_at lw_m3 170 rfl) rfl
theorem q761 : (Jvm.Cond.instanceMethod ({ cls := "NextLoad", name := "odds", desc := "(IIII)I" } : Jvm.MethodName)) ∈ lw_all := lw_g (lw_at lw_m3 172 rfl) rfl
theorem q762 : (Jvm.Cond.selects "NextLoad" ({ cls := "NextLoad", name := "odds", desc := "(IIII)I" } : Jvm.MethodName) ({ cls := "NextLoad", name := "odds", desc := "(IIII)I" } : Jvm.MethodName)) ∈ lw_all := lw_g (lw_at lw_m3 173 rfl) rfl
theorem q763 : (Jvm.Cond.code ({ cls := "NextLoad", name := "odds", desc := "(IIII)I" } : Jvm.MethodName) prog_1_method_16_code (5 : Nat) (Option.some Jvm.ClassFile.FieldType.int)) ∈ lw_all := lw_g (lw_at lw_m3 174 rfl) rfl
theorem q764 : (Jvm.Cond.methodLink "NextLoad" (171 : Nat) ({ cls := "NextLoad", name := "oddsOf", desc := "(LNextLoad$Lifter;III)I" } : Jvm.MethodName)) ∈ lw_all := lw_g (lw_at lw_m3 175 rfl) rfl
theorem q765 : (Jvm.Cond.privateMethod ({ cls := "NextLoad", name := "oddsOf", desc := "(LNextLoad$Lifter;III)I" } : Jvm.MethodName)) ∈ lw_tbl := lw_at lw_m3 176 rfl
theorem q766 : (Jvm.Cond.instanceMethod ({ cls := "NextLoad", name := "oddsOf", desc := "(LNextLoad$Lifter;III)I" } : Jvm.MethodName)) ∈ lw_all := lw_g (lw_at lw_m3 177 rfl) rfl
theorem q767 : (Jvm.Cond.code ({ cls := "NextLoad", name := "oddsOf", desc := "(LNextLoad$Lifter;III)I" } : Jvm.MethodName) prog_1_method_3_code (5 : Nat) (Option.some Jvm.ClassFile.FieldType.int)) ∈ lw_all := lw_g (lw_at lw_m3 178 rfl) rfl
theorem q768 : (Jvm.Cond.methodLink "NextLoad" (7 : Nat) ({ cls := "NextLoad$Table", name := "of", desc := "(I)I" } : Jvm.MethodName)) ∈ lw_all := lw_g (lw_at lw_m3 179 rfl) rfl
theorem q772 : (Jvm.Cond.methodLink "NextLoad" (19 : Nat) ({ cls := "java/lang/Math", name := "max", desc := "(II)I" } : Jvm.MethodName)) ∈ lw_all := lw_g (lw_at lw_m3 183 rfl) rfl
theorem q774 : (Jvm.Cond.instanceMethod ({ cls := "NextLoad", name := "lifter", desc := "(III)I" } : Jvm.MethodName)) ∈ lw_all := lw_g (lw_at lw_m3 185 rfl) rfl
theorem q775 : (Jvm.Cond.selects "NextLoad" ({ cls := "NextLoad", name := "lifter", desc := "(III)I" } : Jvm.MethodName) ({ cls := "NextLoad", name := "lifter", desc := "(III)I" } : Jvm.MethodName)) ∈ lw_all := lw_g (lw_at lw_m3 186 rfl) rfl
theorem q776 : (Jvm.Cond.code ({ cls := "NextLoad", name := "lifter", desc := "(III)I" } : Jvm.MethodName) prog_1_method_17_code (6 : Nat) (Option.some Jvm.ClassFile.FieldType.int)) ∈ lw_all := lw_g (lw_at lw_m3 187 rfl) rfl
theorem q777 : (Jvm.Cond.methodLink "NextLoad" (196 : Nat) ({ cls := "NextLoad$Standing", name := "least", desc := "(I)I" } : Jvm.MethodName)) ∈ lw_all := lw_g (lw_at lw_m3 188 rfl) rfl
theorem q782 : (Jvm.Cond.methodLink "NextLoad" (202 : Nat) ({ cls := "NextLoad$Standing", name := "isToTry", desc := "()Z" } : Jvm.MethodName)) ∈ lw_all := lw_g (lw_at lw_m3 193 rfl) rfl
theorem q786 : (Jvm.Cond.methodLink "NextLoad" (205 : Nat) ({ cls := "NextLoad", name := "bit", desc := "(Z)I" } : Jvm.MethodName)) ∈ lw_all := lw_g (lw_at lw_m3 197 rfl) rfl
theorem q787 : (Jvm.Cond.static ({ cls := "NextLoad", name := "bit", desc := "(Z)I" } : Jvm.MethodName)) ∈ lw_all := lw_g (lw_at lw_m3 198 rfl) rfl
theorem q788 : (Jvm.Cond.code ({ cls := "NextLoad", name := "bit", desc := "(Z)I" } : Jvm.MethodName) prog_1_method_2_code (1 : Nat) (Option.some Jvm.ClassFile.FieldType.int)) ∈ lw_all := lw_g (lw_at lw_m3 199 rfl) rfl
theorem q789 : (Jvm.Cond.methodLink "NextLoad" (213 : Nat) ({ cls := "NextLoad$Standing", name := "sum", desc := "()I" } : Jvm.MethodName)) ∈ lw_all := lw_g (lw_at lw_m3 200 rfl) rfl
theorem q794 : (Jvm.Cond.instanceMethod ({ cls := "NextLoad", name := "called", desc := "()I" } : Jvm.MethodName)) ∈ lw_all := lw_g (lw_at lw_m3 205 rfl) rfl
theorem q795 : (Jvm.Cond.selects "NextLoad" ({ cls := "NextLoad", name := "called", desc := "()I" } : Jvm.MethodName) ({ cls := "NextLoad", name := "called", desc := "()I" } : Jvm.MethodName)) ∈ lw_all := lw_g (lw_at lw_m3 206 rfl) rfl
theorem q796 : (Jvm.Cond.code ({ cls := "NextLoad", name := "called", desc := "()I" } : Jvm.MethodName) prog_1_method_18_code (2 : Nat) (Option.some Jvm.ClassFile.FieldType.int)) ∈ lw_all := lw_g (lw_at lw_m3 207 rfl) rfl
theorem q797 : (Jvm.Cond.methodLink "NextLoad" (216 : Nat) ({ cls := "NextLoad$Meet", name := "called", desc := "()I" } : Jvm.MethodName)) ∈ lw_all := lw_g (lw_at lw_m3 208 rfl) rfl
theorem q806 : (Jvm.Cond.methodLink "NextLoad" (219 : Nat) ({ cls := "NextLoad", name := "tell", desc := "(J)V" } : Jvm.MethodName)) ∈ lw_all := lw_g (lw_at lw_m3 217 rfl) rfl
theorem q807 : (Jvm.Cond.privateMethod ({ cls := "NextLoad", name := "tell", desc := "(J)V" } : Jvm.MethodName)) ∈ lw_tbl := lw_at lw_m3 218 rfl
theorem q808 : (Jvm.Cond.instanceMethod ({ cls := "NextLoad", name := "tell", desc := "(J)V" } : Jvm.MethodName)) ∈ lw_all := lw_g (lw_at lw_m3 219 rfl) rfl
theorem q809 : (Jvm.Cond.code ({ cls := "NextLoad", name := "tell", desc := "(J)V" } : Jvm.MethodName) prog_1_method_5_code (3 : Nat) (Option.none : Option Jvm.ClassFile.FieldType)) ∈ lw_all := lw_g (lw_at lw_m3 220 rfl) rfl
theorem q810 : (Jvm.Cond.methodLink "NextLoad" (223 : Nat) ({ cls := "NextLoad$Meet", name := "odds", desc := "(I)I" } : Jvm.MethodName)) ∈ lw_all := lw_g (lw_at lw_m3 221 rfl) rfl
theorem q816 : (Jvm.Cond.instanceMethod ({ cls := "NextLoad", name := "order", desc := "()I" } : Jvm.MethodName)) ∈ lw_all := lw_g (lw_at lw_m3 227 rfl) rfl
theorem q817 : (Jvm.Cond.selects "NextLoad" ({ cls := "NextLoad", name := "order", desc := "()I" } : Jvm.MethodName) ({ cls := "NextLoad", name := "order", desc := "()I" } : Jvm.MethodName)) ∈ lw_all := lw_g (lw_at lw_m3 228 rfl) rfl
theorem q818 : (Jvm.Cond.code ({ cls := "NextLoad", name := "order", desc := "()I" } : Jvm.MethodName) prog_1_method_19_code (2 : Nat) (Option.some Jvm.ClassFile.FieldType.int)) ∈ lw_all := lw_g (lw_at lw_m3 229 rfl) rfl
theorem q819 : (Jvm.Cond.methodLink "NextLoad" (226 : Nat) ({ cls := "NextLoad$Meet", name := "takes", desc := "(LNextLoad$Meet;)V" } : Jvm.MethodName)) ∈ lw_all := lw_g (lw_at lw_m3 230 rfl) rfl
theorem q829 : (Jvm.Cond.instanceMethod ({ cls := "NextLoad", name := "asks", desc := "(II)I" } : Jvm.MethodName)) ∈ lw_all := lw_g (lw_at lw_m4 0 rfl) rfl
theorem q830 : (Jvm.Cond.selects "NextLoad" ({ cls := "NextLoad", name := "asks", desc := "(II)I" } : Jvm.MethodName) ({ cls := "NextLoad", name := "asks", desc := "(II)I" } : Jvm.MethodName)) ∈ lw_all := lw_g (lw_at lw_m4 1 rfl) rfl
theorem q831 : (Jvm.Cond.code ({ cls := "NextLoad", name := "asks", desc := "(II)I" } : Jvm.MethodName) prog_1_method_20_code (4 : Nat) (Option.some Jvm.ClassFile.FieldType.int)) ∈ lw_all := lw_g (lw_at lw_m4 2 rfl) rfl
theorem q833 : (Jvm.Cond.instanceMethod ({ cls := "NextLoad", name := "tries", desc := "(Z)I" } : Jvm.MethodName)) ∈ lw_all := lw_g (lw_at lw_m4 4 rfl) rfl
theorem q834 : (Jvm.Cond.selects "NextLoad" ({ cls := "NextLoad", name := "tries", desc := "(Z)I" } : Jvm.MethodName) ({ cls := "NextLoad", name := "tries", desc := "(Z)I" } : Jvm.MethodName)) ∈ lw_all := lw_g (lw_at lw_m4 5 rfl) rfl
theorem q835 : (Jvm.Cond.code ({ cls := "NextLoad", name := "tries", desc := "(Z)I" } : Jvm.MethodName) prog_1_method_22_code (4 : Nat) (Option.some Jvm.ClassFile.FieldType.int)) ∈ lw_all := lw_g (lw_at lw_m4 6 rfl) rfl
theorem q836 : (Jvm.Cond.methodLink "NextLoad" (245 : Nat) ({ cls := "NextLoad", name := "triesNow", desc := "(Z)I" } : Jvm.MethodName)) ∈ lw_all := lw_g (lw_at lw_m4 7 rfl) rfl
theorem q837 : (Jvm.Cond.privateMethod ({ cls := "NextLoad", name := "triesNow", desc := "(Z)I" } : Jvm.MethodName)) ∈ lw_tbl := lw_at lw_m4 8 rfl
theorem q838 : (Jvm.Cond.instanceMethod ({ cls := "NextLoad", name := "triesNow", desc := "(Z)I" } : Jvm.MethodName)) ∈ lw_all := lw_g (lw_at lw_m4 9 rfl) rfl
theorem q839 : (Jvm.Cond.code ({ cls := "NextLoad", name := "triesNow", desc := "(Z)I" } : Jvm.MethodName) prog_1_method_21_code (3 : Nat) (Option.some Jvm.ClassFile.FieldType.int)) ∈ lw_all := lw_g (lw_at lw_m4 10 rfl) rfl
theorem q840 : (Jvm.Cond.methodLink "NextLoad" (236 : Nat) ({ cls := "NextLoad$Result", name := "of", desc := "(Z)LNextLoad$Result;" } : Jvm.MethodName)) ∈ lw_all := lw_g (lw_at lw_m4 11 rfl) rfl
theorem q847 : (Jvm.Cond.methodLink "NextLoad" (241 : Nat) ({ cls := "NextLoad$Meet", name := "tries", desc := "(LNextLoad$Result;)I" } : Jvm.MethodName)) ∈ lw_all := lw_g (lw_at lw_m4 18 rfl) rfl
theorem q902 : (Jvm.Cond.instanceMethod ({ cls := "NextLoad", name := "tried", desc := "(II)I" } : Jvm.MethodName)) ∈ lw_all := lw_g (lw_at lw_m4 73 rfl) rfl
theorem q903 : (Jvm.Cond.selects "NextLoad" ({ cls := "NextLoad", name := "tried", desc := "(II)I" } : Jvm.MethodName) ({ cls := "NextLoad", name := "tried", desc := "(II)I" } : Jvm.MethodName)) ∈ lw_all := lw_g (lw_at lw_m4 74 rfl) rfl
theorem q904 : (Jvm.Cond.code ({ cls := "NextLoad", name := "tried", desc := "(II)I" } : Jvm.MethodName) prog_1_method_23_code (3 : Nat) (Option.some Jvm.ClassFile.FieldType.int)) ∈ lw_all := lw_g (lw_at lw_m4 75 rfl) rfl
theorem q906 : (Jvm.Cond.instanceMethod ({ cls := "NextLoad", name := "place", desc := "(I)I" } : Jvm.MethodName)) ∈ lw_all := lw_g (lw_at lw_m4 77 rfl) rfl
theorem q907 : (Jvm.Cond.selects "NextLoad" ({ cls := "NextLoad", name := "place", desc := "(I)I" } : Jvm.MethodName) ({ cls := "NextLoad", name := "place", desc := "(I)I" } : Jvm.MethodName)) ∈ lw_all := lw_g (lw_at lw_m4 78 rfl) rfl
theorem q908 : (Jvm.Cond.code ({ cls := "NextLoad", name := "place", desc := "(I)I" } : Jvm.MethodName) prog_1_method_25_code (2 : Nat) (Option.some Jvm.ClassFile.FieldType.int)) ∈ lw_all := lw_g (lw_at lw_m4 79 rfl) rfl
theorem q909 : (Jvm.Cond.methodLink "NextLoad" (251 : Nat) ({ cls := "NextLoad", name := "tellPlaces", desc := "(LNextLoad$Meet;)V" } : Jvm.MethodName)) ∈ lw_all := lw_g (lw_at lw_m4 80 rfl) rfl
theorem q910 : (Jvm.Cond.privateMethod ({ cls := "NextLoad", name := "tellPlaces", desc := "(LNextLoad$Meet;)V" } : Jvm.MethodName)) ∈ lw_tbl := lw_at lw_m4 81 rfl
theorem q911 : (Jvm.Cond.instanceMethod ({ cls := "NextLoad", name := "tellPlaces", desc := "(LNextLoad$Meet;)V" } : Jvm.MethodName)) ∈ lw_all := lw_g (lw_at lw_m4 82 rfl) rfl
theorem q912 : (Jvm.Cond.code ({ cls := "NextLoad", name := "tellPlaces", desc := "(LNextLoad$Meet;)V" } : Jvm.MethodName) prog_1_method_24_code (3 : Nat) (Option.none : Option Jvm.ClassFile.FieldType)) ∈ lw_all := lw_g (lw_at lw_m4 83 rfl) rfl
theorem q913 : (Jvm.Cond.methodLink "NextLoad" (248 : Nat) ({ cls := "NextLoad$Meet", name := "atPlace", desc := "(I)I" } : Jvm.MethodName)) ∈ lw_all := lw_g (lw_at lw_m4 84 rfl) rfl
theorem q931 : (Jvm.Cond.methodLink "NextLoad" (254 : Nat) ({ cls := "NextLoad$Meet", name := "aheadOf", desc := "(I)I" } : Jvm.MethodName)) ∈ lw_all := lw_g (lw_at lw_m4 102 rfl) rfl
theorem q933 : (Jvm.Cond.instanceMethod ({ cls := "NextLoad", name := "slot", desc := "(II)I" } : Jvm.MethodName)) ∈ lw_all := lw_g (lw_at lw_m4 104 rfl) rfl
theorem q934 : (Jvm.Cond.selects "NextLoad" ({ cls := "NextLoad", name := "slot", desc := "(II)I" } : Jvm.MethodName) ({ cls := "NextLoad", name := "slot", desc := "(II)I" } : Jvm.MethodName)) ∈ lw_all := lw_g (lw_at lw_m4 105 rfl) rfl
theorem q935 : (Jvm.Cond.code ({ cls := "NextLoad", name := "slot", desc := "(II)I" } : Jvm.MethodName) prog_1_method_26_code (7 : Nat) (Option.some Jvm.ClassFile.FieldType.int)) ∈ lw_all := lw_g (lw_at lw_m4 106 rfl) rfl
theorem q936 : (Jvm.Cond.methodLinkNest "NextLoad" (257 : Nat) ({ cls := "NextLoad$Meet", name := "isAheadAt", desc := "(IIII)Z" } : Jvm.MethodName) "NextLoad") ∈ lw_tbl := lw_at lw_m4 107 rfl
theorem q938 : (Jvm.Cond.instanceMethod ({ cls := "NextLoad", name := "needs", desc := "(II)I" } : Jvm.MethodName)) ∈ lw_all := lw_g (lw_at lw_m4 109 rfl) rfl
theorem q939 : (Jvm.Cond.selects "NextLoad" ({ cls := "NextLoad", name := "needs", desc := "(II)I" } : Jvm.MethodName) ({ cls := "NextLoad", name := "needs", desc := "(II)I" } : Jvm.MethodName)) ∈ lw_all := lw_g (lw_at lw_m4 110 rfl) rfl
theorem q940 : (Jvm.Cond.code ({ cls := "NextLoad", name := "needs", desc := "(II)I" } : Jvm.MethodName) prog_1_method_27_code (7 : Nat) (Option.some Jvm.ClassFile.FieldType.int)) ∈ lw_all := lw_g (lw_at lw_m4 111 rfl) rfl
theorem q941 : (Jvm.Cond.methodLink "NextLoad" (261 : Nat) ({ cls := "NextLoad$Meet", name := "isAhead", desc := "(II)Z" } : Jvm.MethodName)) ∈ lw_all := lw_g (lw_at lw_m4 112 rfl) rfl
theorem q942 : (Jvm.Cond.methodLink "NextLoad" (265 : Nat) ({ cls := "NextLoad$Meet", name := "isAhead", desc := "(IIZIIZ)Z" } : Jvm.MethodName)) ∈ lw_all := lw_g (lw_at lw_m4 113 rfl) rfl
theorem q944 : (Jvm.Cond.instanceMethod ({ cls := "NextLoad", name := "mass", desc := "(I)I" } : Jvm.MethodName)) ∈ lw_all := lw_g (lw_at lw_m4 115 rfl) rfl
theorem q945 : (Jvm.Cond.selects "NextLoad" ({ cls := "NextLoad", name := "mass", desc := "(I)I" } : Jvm.MethodName) ({ cls := "NextLoad", name := "mass", desc := "(I)I" } : Jvm.MethodName)) ∈ lw_all := lw_g (lw_at lw_m4 116 rfl) rfl
theorem q946 : (Jvm.Cond.code ({ cls := "NextLoad", name := "mass", desc := "(I)I" } : Jvm.MethodName) prog_1_method_35_code (2 : Nat) (Option.some Jvm.ClassFile.FieldType.int)) ∈ lw_all := lw_g (lw_at lw_m4 117 rfl) rfl
theorem q947 : (Jvm.Cond.classLink "NextLoad" (304 : Nat) "NextLoad$Mass") ∈ lw_all := lw_g (lw_at lw_m4 118 rfl) rfl
theorem q949 : (Jvm.Cond.methodLinkNest "NextLoad" (306 : Nat) ({ cls := "NextLoad$Mass", name := "<init>", desc := "()V" } : Jvm.MethodName) "NextLoad") ∈ lw_tbl := lw_at lw_m4 120 rfl
theorem q957 : (Jvm.Cond.methodLink "NextLoad" (283 : Nat) ({ cls := "NextLoad", name := "byPlan", desc := "(ILNextLoad$Aim;)J" } : Jvm.MethodName)) ∈ lw_all := lw_g (lw_at lw_m4 128 rfl) rfl
theorem q958 : (Jvm.Cond.privateMethod ({ cls := "NextLoad", name := "byPlan", desc := "(ILNextLoad$Aim;)J" } : Jvm.MethodName)) ∈ lw_tbl := lw_at lw_m4 129 rfl
theorem q959 : (Jvm.Cond.instanceMethod ({ cls := "NextLoad", name := "byPlan", desc := "(ILNextLoad$Aim;)J" } : Jvm.MethodName)) ∈ lw_all := lw_g (lw_at lw_m4 130 rfl) rfl
theorem q960 : (Jvm.Cond.code ({ cls := "NextLoad", name := "byPlan", desc := "(ILNextLoad$Aim;)J" } : Jvm.MethodName) prog_1_method_29_code (3 : Nat) (Option.some Jvm.ClassFile.FieldType.long)) ∈ lw_all := lw_g (lw_at lw_m4 131 rfl) rfl
theorem q961 : (Jvm.Cond.methodLink "NextLoad" (270 : Nat) ({ cls := "NextLoad$Planned", name := "looks", desc := "(LNextLoad$Lifter;LNextLoad$Aim;)V" } : Jvm.MethodName)) ∈ lw_all := lw_g (lw_at lw_m4 132 rfl) rfl
theorem q967 : (Jvm.Cond.methodLink "NextLoad" (274 : Nat) ({ cls := "NextLoad$Planned", name := "now", desc := "(LNextLoad$Standing;I)J" } : Jvm.MethodName)) ∈ lw_all := lw_g (lw_at lw_m4 138 rfl) rfl
theorem q1060 : (Jvm.Cond.static ({ cls := "NextLoad", name := "mixed", desc := "(IJJ)J" } : Jvm.MethodName)) ∈ lw_all := lw_g (lw_at lw_m4 231 rfl) rfl
theorem q1061 : (Jvm.Cond.code ({ cls := "NextLoad", name := "mixed", desc := "(IJJ)J" } : Jvm.MethodName) prog_1_method_28_code (5 : Nat) (Option.some Jvm.ClassFile.FieldType.long)) ∈ lw_all := lw_g (lw_at lw_m4 232 rfl) rfl
theorem q1062 : (Jvm.Cond.constantLong "NextLoad" (268 : Nat) (1000 : Int64)) ∈ lw_all := lw_g (lw_at lw_m4 233 rfl) rfl
theorem q1068 : (Jvm.Cond.instanceMethod ({ cls := "NextLoad", name := "chance", desc := "(II)I" } : Jvm.MethodName)) ∈ lw_all := lw_g (lw_at lw_m4 239 rfl) rfl
theorem q1069 : (Jvm.Cond.selects "NextLoad" ({ cls := "NextLoad", name := "chance", desc := "(II)I" } : Jvm.MethodName) ({ cls := "NextLoad", name := "chance", desc := "(II)I" } : Jvm.MethodName)) ∈ lw_all := lw_g (lw_at lw_m5 0 rfl) rfl
theorem q1070 : (Jvm.Cond.code ({ cls := "NextLoad", name := "chance", desc := "(II)I" } : Jvm.MethodName) prog_1_method_37_code (3 : Nat) (Option.some Jvm.ClassFile.FieldType.int)) ∈ lw_all := lw_g (lw_at lw_m5 1 rfl) rfl
theorem q1071 : (Jvm.Cond.methodLink "NextLoad" (309 : Nat) ({ cls := "NextLoad", name := "isGoal", desc := "(I)Z" } : Jvm.MethodName)) ∈ lw_all := lw_g (lw_at lw_m5 2 rfl) rfl
theorem q1072 : (Jvm.Cond.static ({ cls := "NextLoad", name := "isGoal", desc := "(I)Z" } : Jvm.MethodName)) ∈ lw_all := lw_g (lw_at lw_m5 3 rfl) rfl
theorem q1073 : (Jvm.Cond.code ({ cls := "NextLoad", name := "isGoal", desc := "(I)Z" } : Jvm.MethodName) prog_1_method_36_code (1 : Nat) (Option.some Jvm.ClassFile.FieldType.boolean)) ∈ lw_all := lw_g (lw_at lw_m5 4 rfl) rfl
theorem q1074 : (Jvm.Cond.constantLong "NextLoad" (307 : Nat) (121 : Int64)) ∈ lw_all := lw_g (lw_at lw_m5 5 rfl) rfl
theorem q1075 : (Jvm.Cond.classLink "NextLoad" (280 : Nat) "NextLoad$Reach") ∈ lw_all := lw_g (lw_at lw_m5 6 rfl) rfl
theorem q1077 : (Jvm.Cond.methodLinkNest "NextLoad" (282 : Nat) ({ cls := "NextLoad$Reach", name := "<init>", desc := "(I)V" } : Jvm.MethodName) "NextLoad") ∈ lw_tbl := lw_at lw_m5 8 rfl
theorem q1086 : (Jvm.Cond.instanceMethod ({ cls := "NextLoad", name := "likeliest", desc := "(I)I" } : Jvm.MethodName)) ∈ lw_all := lw_g (lw_at lw_m5 17 rfl) rfl
theorem q1087 : (Jvm.Cond.selects "NextLoad" ({ cls := "NextLoad", name := "likeliest", desc := "(I)I" } : Jvm.MethodName) ({ cls := "NextLoad", name := "likeliest", desc := "(I)I" } : Jvm.MethodName)) ∈ lw_all := lw_g (lw_at lw_m5 18 rfl) rfl
theorem q1088 : (Jvm.Cond.code ({ cls := "NextLoad", name := "likeliest", desc := "(I)I" } : Jvm.MethodName) prog_1_method_38_code (8 : Nat) (Option.some Jvm.ClassFile.FieldType.int)) ∈ lw_all := lw_g (lw_at lw_m5 19 rfl) rfl
theorem q1089 : (Jvm.Cond.methodLink "NextLoad" (287 : Nat) ({ cls := "NextLoad", name := "laysChance", desc := "(I)V" } : Jvm.MethodName)) ∈ lw_all := lw_g (lw_at lw_m5 20 rfl) rfl
theorem q1090 : (Jvm.Cond.privateMethod ({ cls := "NextLoad", name := "laysChance", desc := "(I)V" } : Jvm.MethodName)) ∈ lw_tbl := lw_at lw_m5 21 rfl
theorem q1091 : (Jvm.Cond.instanceMethod ({ cls := "NextLoad", name := "laysChance", desc := "(I)V" } : Jvm.MethodName)) ∈ lw_all := lw_g (lw_at lw_m5 22 rfl) rfl
theorem q1092 : (Jvm.Cond.code ({ cls := "NextLoad", name := "laysChance", desc := "(I)V" } : Jvm.MethodName) prog_1_method_31_code (3 : Nat) (Option.none : Option Jvm.ClassFile.FieldType)) ∈ lw_all := lw_g (lw_at lw_m5 23 rfl) rfl
theorem q1093 : (Jvm.Cond.constantLong "NextLoad" (312 : Nat) (-1 : Int64)) ∈ lw_all := lw_g (lw_at lw_m5 24 rfl) rfl
theorem q1095 : (Jvm.Cond.instanceMethod ({ cls := "NextLoad", name := "beats", desc := "(II)I" } : Jvm.MethodName)) ∈ lw_all := lw_g (lw_at lw_m5 26 rfl) rfl
theorem q1096 : (Jvm.Cond.selects "NextLoad" ({ cls := "NextLoad", name := "beats", desc := "(II)I" } : Jvm.MethodName) ({ cls := "NextLoad", name := "beats", desc := "(II)I" } : Jvm.MethodName)) ∈ lw_all := lw_g (lw_at lw_m5 27 rfl) rfl
theorem q1097 : (Jvm.Cond.code ({ cls := "NextLoad", name := "beats", desc := "(II)I" } : Jvm.MethodName) prog_1_method_39_code (3 : Nat) (Option.some Jvm.ClassFile.FieldType.int)) ∈ lw_all := lw_g (lw_at lw_m5 28 rfl) rfl
theorem q1098 : (Jvm.Cond.methodLink "NextLoad" (314 : Nat) ({ cls := "NextLoad", name := "areTwo", desc := "(II)Z" } : Jvm.MethodName)) ∈ lw_all := lw_g (lw_at lw_m5 29 rfl) rfl
theorem q1099 : (Jvm.Cond.privateMethod ({ cls := "NextLoad", name := "areTwo", desc := "(II)Z" } : Jvm.MethodName)) ∈ lw_tbl := lw_at lw_m5 30 rfl
theorem q1100 : (Jvm.Cond.instanceMethod ({ cls := "NextLoad", name := "areTwo", desc := "(II)Z" } : Jvm.MethodName)) ∈ lw_all := lw_g (lw_at lw_m5 31 rfl) rfl
theorem q1101 : (Jvm.Cond.code ({ cls := "NextLoad", name := "areTwo", desc := "(II)Z" } : Jvm.MethodName) prog_1_method_34_code (3 : Nat) (Option.some Jvm.ClassFile.FieldType.boolean)) ∈ lw_all := lw_g (lw_at lw_m5 32 rfl) rfl
theorem q1102 : (Jvm.Cond.methodLink "NextLoad" (295 : Nat) ({ cls := "NextLoad", name := "beat", desc := "(II)LNextLoad$Beat;" } : Jvm.MethodName)) ∈ lw_all := lw_g (lw_at lw_m5 33 rfl) rfl
theorem q1103 : (Jvm.Cond.privateMethod ({ cls := "NextLoad", name := "beat", desc := "(II)LNextLoad$Beat;" } : Jvm.MethodName)) ∈ lw_tbl := lw_at lw_m5 34 rfl
theorem q1104 : (Jvm.Cond.instanceMethod ({ cls := "NextLoad", name := "beat", desc := "(II)LNextLoad$Beat;" } : Jvm.MethodName)) ∈ lw_all := lw_g (lw_at lw_m5 35 rfl) rfl
theorem q1105 : (Jvm.Cond.code ({ cls := "NextLoad", name := "beat", desc := "(II)LNextLoad$Beat;" } : Jvm.MethodName) prog_1_method_32_code (3 : Nat) (Option.some (Jvm.ClassFile.FieldType.object "NextLoad$Beat"))) ∈ lw_all := lw_g (lw_at lw_m5 36 rfl) rfl
theorem q1106 : (Jvm.Cond.classLink "NextLoad" (290 : Nat) "NextLoad$Beat") ∈ lw_all := lw_g (lw_at lw_m5 37 rfl) rfl
theorem q1108 : (Jvm.Cond.methodLinkNest "NextLoad" (292 : Nat) ({ cls := "NextLoad$Beat", name := "<init>", desc := "([JZ)V" } : Jvm.MethodName) "NextLoad") ∈ lw_tbl := lw_at lw_m5 39 rfl
theorem q1120 : (Jvm.Cond.instanceMethod ({ cls := "NextLoad", name := "wins", desc := "(I)I" } : Jvm.MethodName)) ∈ lw_all := lw_g (lw_at lw_m5 51 rfl) rfl
theorem q1121 : (Jvm.Cond.selects "NextLoad" ({ cls := "NextLoad", name := "wins", desc := "(I)I" } : Jvm.MethodName) ({ cls := "NextLoad", name := "wins", desc := "(I)I" } : Jvm.MethodName)) ∈ lw_all := lw_g (lw_at lw_m5 52 rfl) rfl
theorem q1122 : (Jvm.Cond.code ({ cls := "NextLoad", name := "wins", desc := "(I)I" } : Jvm.MethodName) prog_1_method_40_code (3 : Nat) (Option.some Jvm.ClassFile.FieldType.int)) ∈ lw_all := lw_g (lw_at lw_m5 53 rfl) rfl
theorem q1123 : (Jvm.Cond.methodLink "NextLoad" (317 : Nat) ({ cls := "NextLoad", name := "win", desc := "(I)LNextLoad$Win;" } : Jvm.MethodName)) ∈ lw_all := lw_g (lw_at lw_m5 54 rfl) rfl
theorem q1124 : (Jvm.Cond.privateMethod ({ cls := "NextLoad", name := "win", desc := "(I)LNextLoad$Win;" } : Jvm.MethodName)) ∈ lw_tbl := lw_at lw_m5 55 rfl
theorem q1125 : (Jvm.Cond.instanceMethod ({ cls := "NextLoad", name := "win", desc := "(I)LNextLoad$Win;" } : Jvm.MethodName)) ∈ lw_all := lw_g (lw_at lw_m5 56 rfl) rfl
theorem q1126 : (Jvm.Cond.code ({ cls := "NextLoad", name := "win", desc := "(I)LNextLoad$Win;" } : Jvm.MethodName) prog_1_method_33_code (5 : Nat) (Option.some (Jvm.ClassFile.FieldType.object "NextLoad$Win"))) ∈ lw_all := lw_g (lw_at lw_m5 57 rfl) rfl
theorem q1128 : (Jvm.Cond.classLink "NextLoad" (299 : Nat) "NextLoad$Win") ∈ lw_all := lw_g (lw_at lw_m5 59 rfl) rfl
theorem q1130 : (Jvm.Cond.methodLink "NextLoad" (301 : Nat) ({ cls := "NextLoad$Win", name := "<init>", desc := "([LNextLoad$Beat;I)V" } : Jvm.MethodName)) ∈ lw_all := lw_g (lw_at lw_m5 61 rfl) rfl
theorem q1142 : (Jvm.Cond.instanceMethod ({ cls := "NextLoad", name := "bombs", desc := "(I)I" } : Jvm.MethodName)) ∈ lw_all := lw_g (lw_at lw_m5 73 rfl) rfl
theorem q1143 : (Jvm.Cond.selects "NextLoad" ({ cls := "NextLoad", name := "bombs", desc := "(I)I" } : Jvm.MethodName) ({ cls := "NextLoad", name := "bombs", desc := "(I)I" } : Jvm.MethodName)) ∈ lw_all := lw_g (lw_at lw_m5 74 rfl) rfl
theorem q1144 : (Jvm.Cond.code ({ cls := "NextLoad", name := "bombs", desc := "(I)I" } : Jvm.MethodName) prog_1_method_42_code (4 : Nat) (Option.some Jvm.ClassFile.FieldType.int)) ∈ lw_all := lw_g (lw_at lw_m5 75 rfl) rfl
theorem q1145 : (Jvm.Cond.methodLink "NextLoad" (329 : Nat) ({ cls := "NextLoad", name := "missed", desc := "(LNextLoad$Lifter;III)J" } : Jvm.MethodName)) ∈ lw_all := lw_g (lw_at lw_m5 76 rfl) rfl
theorem q1146 : (Jvm.Cond.privateMethod ({ cls := "NextLoad", name := "missed", desc := "(LNextLoad$Lifter;III)J" } : Jvm.MethodName)) ∈ lw_tbl := lw_at lw_m5 77 rfl
theorem q1147 : (Jvm.Cond.instanceMethod ({ cls := "NextLoad", name := "missed", desc := "(LNextLoad$Lifter;III)J" } : Jvm.MethodName)) ∈ lw_all := lw_g (lw_at lw_m5 78 rfl) rfl
theorem q1148 : (Jvm.Cond.code ({ cls := "NextLoad", name := "missed", desc := "(LNextLoad$Lifter;III)J" } : Jvm.MethodName) prog_1_method_41_code (9 : Nat) (Option.some Jvm.ClassFile.FieldType.long)) ∈ lw_all := lw_g (lw_at lw_m5 79 rfl) rfl
theorem q1149 : (Jvm.Cond.constantLong "NextLoad" (321 : Nat) (1000000 : Int64)) ∈ lw_all := lw_g (lw_at lw_m5 80 rfl) rfl
theorem q1151 : (Jvm.Cond.instanceMethod ({ cls := "NextLoad", name := "opener", desc := "(III)I" } : Jvm.MethodName)) ∈ lw_all := lw_g (lw_at lw_m5 82 rfl) rfl
theorem q1152 : (Jvm.Cond.selects "NextLoad" ({ cls := "NextLoad", name := "opener", desc := "(III)I" } : Jvm.MethodName) ({ cls := "NextLoad", name := "opener", desc := "(III)I" } : Jvm.MethodName)) ∈ lw_all := lw_g (lw_at lw_m5 83 rfl) rfl
theorem q1153 : (Jvm.Cond.code ({ cls := "NextLoad", name := "opener", desc := "(III)I" } : Jvm.MethodName) prog_1_method_43_code (5 : Nat) (Option.some Jvm.ClassFile.FieldType.int)) ∈ lw_all := lw_g (lw_at lw_m5 84 rfl) rfl
theorem q1155 : (Jvm.Cond.instanceMethod ({ cls := "NextLoad", name := "heavy", desc := "(I)I" } : Jvm.MethodName)) ∈ lw_all := lw_g (lw_at lw_m5 86 rfl) rfl
theorem q1156 : (Jvm.Cond.selects "NextLoad" ({ cls := "NextLoad", name := "heavy", desc := "(I)I" } : Jvm.MethodName) ({ cls := "NextLoad", name := "heavy", desc := "(I)I" } : Jvm.MethodName)) ∈ lw_all := lw_g (lw_at lw_m5 87 rfl) rfl
theorem q1157 : (Jvm.Cond.code ({ cls := "NextLoad", name := "heavy", desc := "(I)I" } : Jvm.MethodName) prog_1_method_45_code (2 : Nat) (Option.some Jvm.ClassFile.FieldType.int)) ∈ lw_all := lw_g (lw_at lw_m5 88 rfl) rfl
theorem q1158 : (Jvm.Cond.methodLink "NextLoad" (340 : Nat) ({ cls := "NextLoad", name := "tellsFree", desc := "(ILNextLoad$Aim;)I" } : Jvm.MethodName)) ∈ lw_all := lw_g (lw_at lw_m5 89 rfl) rfl
theorem q1159 : (Jvm.Cond.privateMethod ({ cls := "NextLoad", name := "tellsFree", desc := "(ILNextLoad$Aim;)I" } : Jvm.MethodName)) ∈ lw_tbl := lw_at lw_m5 90 rfl
theorem q1160 : (Jvm.Cond.instanceMethod ({ cls := "NextLoad", name := "tellsFree", desc := "(ILNextLoad$Aim;)I" } : Jvm.MethodName)) ∈ lw_all := lw_g (lw_at lw_m5 91 rfl) rfl
theorem q1161 : (Jvm.Cond.code ({ cls := "NextLoad", name := "tellsFree", desc := "(ILNextLoad$Aim;)I" } : Jvm.MethodName) prog_1_method_44_code (5 : Nat) (Option.some Jvm.ClassFile.FieldType.int)) ∈ lw_all := lw_g (lw_at lw_m5 92 rfl) rfl
theorem q1162 : (Jvm.Cond.methodLink "NextLoad" (333 : Nat) ({ cls := "NextLoad", name := "freely", desc := "(ILNextLoad$Aim;)J" } : Jvm.MethodName)) ∈ lw_all := lw_g (lw_at lw_m5 93 rfl) rfl
theorem q1163 : (Jvm.Cond.privateMethod ({ cls := "NextLoad", name := "freely", desc := "(ILNextLoad$Aim;)J" } : Jvm.MethodName)) ∈ lw_tbl := lw_at lw_m5 94 rfl
theorem q1164 : (Jvm.Cond.instanceMethod ({ cls := "NextLoad", name := "freely", desc := "(ILNextLoad$Aim;)J" } : Jvm.MethodName)) ∈ lw_all := lw_g (lw_at lw_m5 95 rfl) rfl
theorem q1165 : (Jvm.Cond.code ({ cls := "NextLoad", name := "freely", desc := "(ILNextLoad$Aim;)J" } : Jvm.MethodName) prog_1_method_30_code (3 : Nat) (Option.some Jvm.ClassFile.FieldType.long)) ∈ lw_all := lw_g (lw_at lw_m5 96 rfl) rfl
theorem q1166 : (Jvm.Cond.methodLink "NextLoad" (278 : Nat) ({ cls := "NextLoad$Free", name := "looks", desc := "(LNextLoad$Lifter;LNextLoad$Aim;)V" } : Jvm.MethodName)) ∈ lw_all := lw_g (lw_at lw_m5 97 rfl) rfl
theorem q1171 : (Jvm.Cond.methodLink "NextLoad" (279 : Nat) ({ cls := "NextLoad$Free", name := "now", desc := "(LNextLoad$Standing;I)J" } : Jvm.MethodName)) ∈ lw_all := lw_g (lw_at lw_m5 102 rfl) rfl
theorem q1174 : (Jvm.Cond.methodLink "NextLoad" (336 : Nat) ({ cls := "NextLoad$Free", name := "loadNow", desc := "(LNextLoad$Standing;)I" } : Jvm.MethodName)) ∈ lw_all := lw_g (lw_at lw_m5 105 rfl) rfl
theorem q1186 : (Jvm.Cond.instanceMethod ({ cls := "NextLoad", name := "reach", desc := "(II)I" } : Jvm.MethodName)) ∈ lw_all := lw_g (lw_at lw_m5 117 rfl) rfl
theorem q1187 : (Jvm.Cond.selects "NextLoad" ({ cls := "NextLoad", name := "reach", desc := "(II)I" } : Jvm.MethodName) ({ cls := "NextLoad", name := "reach", desc := "(II)I" } : Jvm.MethodName)) ∈ lw_all := lw_g (lw_at lw_m5 118 rfl) rfl
theorem q1188 : (Jvm.Cond.code ({ cls := "NextLoad", name := "reach", desc := "(II)I" } : Jvm.MethodName) prog_1_method_46_code (3 : Nat) (Option.some Jvm.ClassFile.FieldType.int)) ∈ lw_all := lw_g (lw_at lw_m5 119 rfl) rfl
theorem q1190 : (Jvm.Cond.instanceMethod ({ cls := "NextLoad", name := "aim", desc := "(II)I" } : Jvm.MethodName)) ∈ lw_all := lw_g (lw_at lw_m5 121 rfl) rfl
theorem q1191 : (Jvm.Cond.selects "NextLoad" ({ cls := "NextLoad", name := "aim", desc := "(II)I" } : Jvm.MethodName) ({ cls := "NextLoad", name := "aim", desc := "(II)I" } : Jvm.MethodName)) ∈ lw_all := lw_g (lw_at lw_m5 122 rfl) rfl
theorem q1192 : (Jvm.Cond.code ({ cls := "NextLoad", name := "aim", desc := "(II)I" } : Jvm.MethodName) prog_1_method_47_code (6 : Nat) (Option.some Jvm.ClassFile.FieldType.int)) ∈ lw_all := lw_g (lw_at lw_m5 123 rfl) rfl
theorem q1194 : (Jvm.Cond.instanceMethod ({ cls := "NextLoad", name := "against", desc := "(II)I" } : Jvm.MethodName)) ∈ lw_all := lw_g (lw_at lw_m5 125 rfl) rfl
theorem q1195 : (Jvm.Cond.selects "NextLoad" ({ cls := "NextLoad", name := "against", desc := "(II)I" } : Jvm.MethodName) ({ cls := "NextLoad", name := "against", desc := "(II)I" } : Jvm.MethodName)) ∈ lw_all := lw_g (lw_at lw_m5 126 rfl) rfl
theorem q1196 : (Jvm.Cond.code ({ cls := "NextLoad", name := "against", desc := "(II)I" } : Jvm.MethodName) prog_1_method_48_code (3 : Nat) (Option.some Jvm.ClassFile.FieldType.int)) ∈ lw_all := lw_g (lw_at lw_m5 127 rfl) rfl
theorem q1198 : (Jvm.Cond.instanceMethod ({ cls := "NextLoad", name := "gold", desc := "(I)I" } : Jvm.MethodName)) ∈ lw_all := lw_g (lw_at lw_m5 129 rfl) rfl
theorem q1199 : (Jvm.Cond.selects "NextLoad" ({ cls := "NextLoad", name := "gold", desc := "(I)I" } : Jvm.MethodName) ({ cls := "NextLoad", name := "gold", desc := "(I)I" } : Jvm.MethodName)) ∈ lw_all := lw_g (lw_at lw_m5 130 rfl) rfl
theorem q1200 : (Jvm.Cond.code ({ cls := "NextLoad", name := "gold", desc := "(I)I" } : Jvm.MethodName) prog_1_method_49_code (2 : Nat) (Option.some Jvm.ClassFile.FieldType.int)) ∈ lw_all := lw_g (lw_at lw_m5 131 rfl) rfl
theorem q1202 : (Jvm.Cond.instanceMethod ({ cls := "NextLoad", name := "line", desc := "(IIZ)I" } : Jvm.MethodName)) ∈ lw_all := lw_g (lw_at lw_m5 133 rfl) rfl
theorem q1203 : (Jvm.Cond.selects "NextLoad" ({ cls := "NextLoad", name := "line", desc := "(IIZ)I" } : Jvm.MethodName) ({ cls := "NextLoad", name := "line", desc := "(IIZ)I" } : Jvm.MethodName)) ∈ lw_all := lw_g (lw_at lw_m5 134 rfl) rfl
theorem q1204 : (Jvm.Cond.code ({ cls := "NextLoad", name := "line", desc := "(IIZ)I" } : Jvm.MethodName) prog_1_method_50_code (13 : Nat) (Option.some Jvm.ClassFile.FieldType.int)) ∈ lw_all := lw_g (lw_at lw_m5 135 rfl) rfl
theorem q1205 : (Jvm.Cond.methodLink "NextLoad" (344 : Nat) ({ cls := "NextLoad$Meet", name := "isOver", desc := "()Z" } : Jvm.MethodName)) ∈ lw_all := lw_g (lw_at lw_m5 136 rfl) rfl
theorem q1206 : (Jvm.Cond.methodLink "NextLoad" (352 : Nat) ({ cls := "NextLoad$Free", name := "loadAt", desc := "(IIIIII)I" } : Jvm.MethodName)) ∈ lw_all := lw_g (lw_at lw_m5 137 rfl) rfl
theorem q1207 : (Jvm.Cond.methodLink "NextLoad" (356 : Nat) ({ cls := "NextLoad$Result", name := "failed", desc := "()I" } : Jvm.MethodName)) ∈ lw_all := lw_g (lw_at lw_m5 138 rfl) rfl
theorem q1208 : (Jvm.Cond.methodLink "NextLoad" (358 : Nat) ({ cls := "NextLoad$Result", name := "best", desc := "(II)I" } : Jvm.MethodName)) ∈ lw_all := lw_g (lw_at lw_m5 139 rfl) rfl
theorem q1209 : (Jvm.Cond.methodLink "NextLoad" (360 : Nat) ({ cls := "NextLoad$Result", name := "least", desc := "(I)I" } : Jvm.MethodName)) ∈ lw_all := lw_g (lw_at lw_m5 140 rfl) rfl
theorem q1211 : (Jvm.Cond.instanceMethod ({ cls := "NextLoad", name := "duel", desc := "(II)I" } : Jvm.MethodName)) ∈ lw_all := lw_g (lw_at lw_m5 142 rfl) rfl
theorem q1212 : (Jvm.Cond.selects "NextLoad" ({ cls := "NextLoad", name := "duel", desc := "(II)I" } : Jvm.MethodName) ({ cls := "NextLoad", name := "duel", desc := "(II)I" } : Jvm.MethodName)) ∈ lw_all := lw_g (lw_at lw_m5 143 rfl) rfl
theorem q1213 : (Jvm.Cond.code ({ cls := "NextLoad", name := "duel", desc := "(II)I" } : Jvm.MethodName) prog_1_method_53_code (5 : Nat) (Option.some Jvm.ClassFile.FieldType.int)) ∈ lw_all := lw_g (lw_at lw_m5 144 rfl) rfl
theorem q1214 : (Jvm.Cond.methodLink "NextLoad" (379 : Nat) ({ cls := "NextLoad", name := "noDuel", desc := "(II)I" } : Jvm.MethodName)) ∈ lw_all := lw_g (lw_at lw_m5 145 rfl) rfl
theorem q1215 : (Jvm.Cond.privateMethod ({ cls := "NextLoad", name := "noDuel", desc := "(II)I" } : Jvm.MethodName)) ∈ lw_tbl := lw_at lw_m5 146 rfl
theorem q1216 : (Jvm.Cond.instanceMethod ({ cls := "NextLoad", name := "noDuel", desc := "(II)I" } : Jvm.MethodName)) ∈ lw_all := lw_g (lw_at lw_m5 147 rfl) rfl
theorem q1217 : (Jvm.Cond.code ({ cls := "NextLoad", name := "noDuel", desc := "(II)I" } : Jvm.MethodName) prog_1_method_51_code (3 : Nat) (Option.some Jvm.ClassFile.FieldType.int)) ∈ lw_all := lw_g (lw_at lw_m5 148 rfl) rfl
theorem q1218 : (Jvm.Cond.methodLink "NextLoad" (382 : Nat) ({ cls := "NextLoad", name := "tellsDuel", desc := "(IIII)I" } : Jvm.MethodName)) ∈ lw_all := lw_g (lw_at lw_m5 149 rfl) rfl
theorem q1219 : (Jvm.Cond.privateMethod ({ cls := "NextLoad", name := "tellsDuel", desc := "(IIII)I" } : Jvm.MethodName)) ∈ lw_tbl := lw_at lw_m5 150 rfl
theorem q1220 : (Jvm.Cond.instanceMethod ({ cls := "NextLoad", name := "tellsDuel", desc := "(IIII)I" } : Jvm.MethodName)) ∈ lw_all := lw_g (lw_at lw_m5 151 rfl) rfl
theorem q1221 : (Jvm.Cond.code ({ cls := "NextLoad", name := "tellsDuel", desc := "(IIII)I" } : Jvm.MethodName) prog_1_method_52_code (8 : Nat) (Option.some Jvm.ClassFile.FieldType.int)) ∈ lw_all := lw_g (lw_at lw_m5 152 rfl) rfl
theorem q1222 : (Jvm.Cond.methodLink "NextLoad" (364 : Nat) ({ cls := "NextLoad$Duel", name := "begins", desc := "(II)V" } : Jvm.MethodName)) ∈ lw_all := lw_g (lw_at lw_m5 153 rfl) rfl
theorem q1226 : (Jvm.Cond.methodLink "NextLoad" (367 : Nat) ({ cls := "NextLoad$Duel", name := "of", desc := "(IIII)I" } : Jvm.MethodName)) ∈ lw_all := lw_g (lw_at lw_m5 157 rfl) rfl
theorem q1266 : (Jvm.Cond.methodLink "NextLoad" (370 : Nat) ({ cls := "NextLoad$Duel", name := "isFirst", desc := "(II)Z" } : Jvm.MethodName)) ∈ lw_all := lw_g (lw_at lw_m5 197 rfl) rfl
theorem q1267 : (Jvm.Cond.methodLinkNest "NextLoad" (376 : Nat) ({ cls := "NextLoad$Duel", name := "cell", desc := "(IIII)I" } : Jvm.MethodName) "NextLoad") ∈ lw_tbl := lw_at lw_m5 198 rfl
theorem q1269 : (Jvm.Cond.instanceMethod ({ cls := "NextLoad", name := "bluff", desc := "(IIII)I" } : Jvm.MethodName)) ∈ lw_all := lw_g (lw_at lw_m5 200 rfl) rfl
theorem q1270 : (Jvm.Cond.selects "NextLoad" ({ cls := "NextLoad", name := "bluff", desc := "(IIII)I" } : Jvm.MethodName) ({ cls := "NextLoad", name := "bluff", desc := "(IIII)I" } : Jvm.MethodName)) ∈ lw_all := lw_g (lw_at lw_m5 201 rfl) rfl
theorem q1271 : (Jvm.Cond.code ({ cls := "NextLoad", name := "bluff", desc := "(IIII)I" } : Jvm.MethodName) prog_1_method_54_code (6 : Nat) (Option.some Jvm.ClassFile.FieldType.int)) ∈ lw_all := lw_g (lw_at lw_m5 202 rfl) rfl
theorem q1273 : (Jvm.Cond.instanceMethod ({ cls := "NextLoad", name := "plays", desc := "(I)I" } : Jvm.MethodName)) ∈ lw_all := lw_g (lw_at lw_m5 204 rfl) rfl
theorem q1274 : (Jvm.Cond.selects "NextLoad" ({ cls := "NextLoad", name := "plays", desc := "(I)I" } : Jvm.MethodName) ({ cls := "NextLoad", name := "plays", desc := "(I)I" } : Jvm.MethodName)) ∈ lw_all := lw_g (lw_at lw_m5 205 rfl) rfl
theorem q1275 : (Jvm.Cond.code ({ cls := "NextLoad", name := "plays", desc := "(I)I" } : Jvm.MethodName) prog_1_method_56_code (4 : Nat) (Option.some Jvm.ClassFile.FieldType.int)) ∈ lw_all := lw_g (lw_at lw_m5 206 rfl) rfl
theorem q1276 : (Jvm.Cond.methodLink "NextLoad" (389 : Nat) ({ cls := "NextLoad", name := "isDrawnGood", desc := "(I)Z" } : Jvm.MethodName)) ∈ lw_all := lw_g (lw_at lw_m5 207 rfl) rfl
theorem q1277 : (Jvm.Cond.privateMethod ({ cls := "NextLoad", name := "isDrawnGood", desc := "(I)Z" } : Jvm.MethodName)) ∈ lw_tbl := lw_at lw_m5 208 rfl
theorem q1278 : (Jvm.Cond.instanceMethod ({ cls := "NextLoad", name := "isDrawnGood", desc := "(I)Z" } : Jvm.MethodName)) ∈ lw_all := lw_g (lw_at lw_m5 209 rfl) rfl
theorem q1279 : (Jvm.Cond.code ({ cls := "NextLoad", name := "isDrawnGood", desc := "(I)Z" } : Jvm.MethodName) prog_1_method_55_code (2 : Nat) (Option.some Jvm.ClassFile.FieldType.boolean)) ∈ lw_all := lw_g (lw_at lw_m5 210 rfl) rfl
theorem q1280 : (Jvm.Cond.constant "NextLoad" (388 : Nat) (1103515245 : Int32)) ∈ lw_all := lw_g (lw_at lw_m5 211 rfl) rfl
theorem q1282 : (Jvm.Cond.instanceMethod ({ cls := "NextLoad", name := "often", desc := "(III)I" } : Jvm.MethodName)) ∈ lw_all := lw_g (lw_at lw_m5 213 rfl) rfl
theorem q1283 : (Jvm.Cond.selects "NextLoad" ({ cls := "NextLoad", name := "often", desc := "(III)I" } : Jvm.MethodName) ({ cls := "NextLoad", name := "often", desc := "(III)I" } : Jvm.MethodName)) ∈ lw_all := lw_g (lw_at lw_m5 214 rfl) rfl
theorem q1284 : (Jvm.Cond.code ({ cls := "NextLoad", name := "often", desc := "(III)I" } : Jvm.MethodName) prog_1_method_57_code (9 : Nat) (Option.some Jvm.ClassFile.FieldType.int)) ∈ lw_all := lw_g (lw_at lw_m5 215 rfl) rfl
theorem q1285 : (Jvm.Cond.constantLong "NextLoad" (392 : Nat) (50 : Int64)) ∈ lw_all := lw_g (lw_at lw_m5 216 rfl) rfl
theorem q1287 : (Jvm.Cond.instanceMethod ({ cls := "NextLoad", name := "count", desc := "(I)I" } : Jvm.MethodName)) ∈ lw_all := lw_g (lw_at lw_m5 218 rfl) rfl
theorem q1288 : (Jvm.Cond.selects "NextLoad" ({ cls := "NextLoad", name := "count", desc := "(I)I" } : Jvm.MethodName) ({ cls := "NextLoad", name := "count", desc := "(I)I" } : Jvm.MethodName)) ∈ lw_all := lw_g (lw_at lw_m5 219 rfl) rfl
theorem q1289 : (Jvm.Cond.code ({ cls := "NextLoad", name := "count", desc := "(I)I" } : Jvm.MethodName) prog_1_method_60_code (2 : Nat) (Option.some Jvm.ClassFile.FieldType.int)) ∈ lw_all := lw_g (lw_at lw_m5 220 rfl) rfl
theorem q1290 : (Jvm.Cond.methodLink "NextLoad" (394 : Nat) ({ cls := "NextLoad", name := "goodMany", desc := "()I" } : Jvm.MethodName)) ∈ lw_all := lw_g (lw_at lw_m5 221 rfl) rfl
theorem q1291 : (Jvm.Cond.privateMethod ({ cls := "NextLoad", name := "goodMany", desc := "()I" } : Jvm.MethodName)) ∈ lw_tbl := lw_at lw_m5 222 rfl
theorem q1292 : (Jvm.Cond.instanceMethod ({ cls := "NextLoad", name := "goodMany", desc := "()I" } : Jvm.MethodName)) ∈ lw_all := lw_g (lw_at lw_m5 223 rfl) rfl
theorem q1293 : (Jvm.Cond.code ({ cls := "NextLoad", name := "goodMany", desc := "()I" } : Jvm.MethodName) prog_1_method_58_code (3 : Nat) (Option.some Jvm.ClassFile.FieldType.int)) ∈ lw_all := lw_g (lw_at lw_m5 224 rfl) rfl
theorem q1294 : (Jvm.Cond.methodLink "NextLoad" (397 : Nat) ({ cls := "NextLoad", name := "outs", desc := "()I" } : Jvm.MethodName)) ∈ lw_all := lw_g (lw_at lw_m5 225 rfl) rfl
theorem q1295 : (Jvm.Cond.privateMethod ({ cls := "NextLoad", name := "outs", desc := "()I" } : Jvm.MethodName)) ∈ lw_tbl := lw_at lw_m5 226 rfl
theorem q1296 : (Jvm.Cond.instanceMethod ({ cls := "NextLoad", name := "outs", desc := "()I" } : Jvm.MethodName)) ∈ lw_all := lw_g (lw_at lw_m5 227 rfl) rfl
theorem q1297 : (Jvm.Cond.code ({ cls := "NextLoad", name := "outs", desc := "()I" } : Jvm.MethodName) prog_1_method_59_code (3 : Nat) (Option.some Jvm.ClassFile.FieldType.int)) ∈ lw_all := lw_g (lw_at lw_m5 228 rfl) rfl
theorem q1303 : (Jvm.Cond.instanceMethod ({ cls := "NextLoad", name := "row", desc := "(I)J" } : Jvm.MethodName)) ∈ lw_all := lw_g (lw_at lw_m5 234 rfl) rfl
theorem q1304 : (Jvm.Cond.selects "NextLoad" ({ cls := "NextLoad", name := "row", desc := "(I)J" } : Jvm.MethodName) ({ cls := "NextLoad", name := "row", desc := "(I)J" } : Jvm.MethodName)) ∈ lw_all := lw_g (lw_at lw_m5 235 rfl) rfl
theorem q1305 : (Jvm.Cond.code ({ cls := "NextLoad", name := "row", desc := "(I)J" } : Jvm.MethodName) prog_1_method_61_code (2 : Nat) (Option.some Jvm.ClassFile.FieldType.long)) ∈ lw_all := lw_g (lw_at lw_m5 236 rfl) rfl
theorem q1306 : (Jvm.Cond.classLink "NextLoad" (400 : Nat) "java/util/NoSuchElementException") ∈ lw_all := lw_g (lw_at lw_m5 237 rfl) rfl
theorem q1317 : (Jvm.Cond.methodLink "NextLoad" (402 : Nat) ({ cls := "java/util/NoSuchElementException", name := "<init>", desc := "()V" } : Jvm.MethodName)) ∈ lw_all := lw_g (lw_at lw_m6 8 rfl) rfl
theorem q1933 : (Jvm.Cond.castable "NextLoad" "java/lang/Object") ∈ lw_tbl := lw_at lw_m8 144 rfl
theorem in_X1 : ∀ w ∈ wsX10, w ∈ lw_all := lw_in wsX10 [419, 421, 423, 425, 427, 429, 431, 433, 435, 437, 439, 441, 443, 445, 447, 449, 451, 453] (by decide +kernel) (by decide +kernel)
