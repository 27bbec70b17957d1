set_option maxRecDepth 100000
abbrev cX8_likeliest : ByteArray := prog_21_method_74_code
def yX8_likeliest : MethodName := ⟨RX8, "likeliest", "(I)I"⟩
def dkwX8_likeliest_4 : List UInt8 := [96, 46, 100, 133, 182, 0, 180, 42, 42, 180, 0, 59, 4, 46, 133, 182, 0, 180, 28, 172]
abbrev dktX8_likeliest_4 : List UInt8 := dkwX8_likeliest_4 ++ []
def dkwX8_likeliest_3 : List UInt8 := [132, 3, 1, 167, 255, 208, 42, 3, 181, 0, 81, 42, 42, 180, 0, 59, 28, 46, 42, 180, 0, 59, 28, 4]
abbrev dktX8_likeliest_3 : List UInt8 := dkwX8_likeliest_3 ++ dktX8_likeliest_4
def dkwX8_likeliest_2 : List UInt8 := [180, 0, 59, 28, 46, 42, 180, 0, 59, 28, 4, 96, 46, 100, 164, 0, 7, 29, 167, 0, 4, 28, 61]
abbrev dktX8_likeliest_2 : List UInt8 := dkwX8_likeliest_2 ++ dktX8_likeliest_3
def dkwX8_likeliest_1 : List UInt8 := [29, 16, 121, 162, 0, 48, 42, 180, 0, 59, 29, 46, 42, 180, 0, 59, 29, 4, 96, 46, 100, 42]
abbrev dktX8_likeliest_1 : List UInt8 := dkwX8_likeliest_1 ++ dktX8_likeliest_2
def dkwX8_likeliest_0 : List UInt8 := [42, 3, 181, 0, 77, 42, 27, 182, 0, 233, 154, 0, 5, 2, 172, 42, 27, 182, 1, 37, 3, 61, 4, 62]
abbrev dktX8_likeliest_0 : List UInt8 := dkwX8_likeliest_0 ++ dktX8_likeliest_1
theorem dksX8_likeliest_0 : cX8_likeliest.data.toList.drop 0 = dktX8_likeliest_0 := by decide +kernel
theorem dksX8_likeliest_1 : cX8_likeliest.data.toList.drop 24 = dktX8_likeliest_1 := dk_seg dksX8_likeliest_0 24 rfl rfl
theorem dksX8_likeliest_2 : cX8_likeliest.data.toList.drop 46 = dktX8_likeliest_2 := dk_seg dksX8_likeliest_1 22 rfl rfl
theorem dksX8_likeliest_3 : cX8_likeliest.data.toList.drop 69 = dktX8_likeliest_3 := dk_seg dksX8_likeliest_2 23 rfl rfl
theorem dksX8_likeliest_4 : cX8_likeliest.data.toList.drop 93 = dktX8_likeliest_4 := dk_seg dksX8_likeliest_3 24 rfl rfl
theorem dX8_likeliest_0 : decode cX8_likeliest 0 = .ok (.aload_n 0, 1) := dk_42 (dk_at dksX8_likeliest_0 0 rfl rfl)
theorem dX8_likeliest_1 : decode cX8_likeliest 1 = .ok (.iconst 0, 1) := dk_3 (dk_at dksX8_likeliest_0 1 rfl rfl)
theorem dX8_likeliest_2 : decode cX8_likeliest 2 = .ok (.putfield 77, 3) := dk_181 0 77 (dk_at dksX8_likeliest_0 2 rfl rfl)
theorem dX8_likeliest_5 : decode cX8_likeliest 5 = .ok (.aload_n 0, 1) := dk_42 (dk_at dksX8_likeliest_0 5 rfl rfl)
theorem dX8_likeliest_6 : decode cX8_likeliest 6 = .ok (.iload_n 1, 1) := dk_27 (dk_at dksX8_likeliest_0 6 rfl rfl)
theorem dX8_likeliest_7 : decode cX8_likeliest 7 = .ok (.invokevirtual 233, 3) := dk_182 0 233 (dk_at dksX8_likeliest_0 7 rfl rfl)
theorem dX8_likeliest_10 : decode cX8_likeliest 10 = .ok (.ifCond .ne 5, 3) := dk_154 0 5 (dk_at dksX8_likeliest_0 10 rfl rfl)
theorem dX8_likeliest_13 : decode cX8_likeliest 13 = .ok (.iconst (-1), 1) := dk_2 (dk_at dksX8_likeliest_0 13 rfl rfl)
theorem dX8_likeliest_14 : decode cX8_likeliest 14 = .ok (.ireturn, 1) := dk_172 (dk_at dksX8_likeliest_0 14 rfl rfl)
theorem dX8_likeliest_15 : decode cX8_likeliest 15 = .ok (.aload_n 0, 1) := dk_42 (dk_at dksX8_likeliest_0 15 rfl rfl)
theorem dX8_likeliest_16 : decode cX8_likeliest 16 = .ok (.iload_n 1, 1) := dk_27 (dk_at dksX8_likeliest_0 16 rfl rfl)
theorem dX8_likeliest_17 : decode cX8_likeliest 17 = .ok (.invokevirtual 293, 3) := dk_182 1 37 (dk_at dksX8_likeliest_0 17 rfl rfl)
theorem dX8_likeliest_20 : decode cX8_likeliest 20 = .ok (.iconst 0, 1) := dk_3 (dk_at dksX8_likeliest_0 20 rfl rfl)
theorem dX8_likeliest_21 : decode cX8_likeliest 21 = .ok (.istore_n 2, 1) := dk_61 (dk_at dksX8_likeliest_0 21 rfl rfl)
theorem dX8_likeliest_22 : decode cX8_likeliest 22 = .ok (.iconst 1, 1) := dk_4 (dk_at dksX8_likeliest_0 22 rfl rfl)
theorem dX8_likeliest_23 : decode cX8_likeliest 23 = .ok (.istore_n 3, 1) := dk_62 (dk_at dksX8_likeliest_0 23 rfl rfl)
theorem dX8_likeliest_24 : decode cX8_likeliest 24 = .ok (.iload_n 3, 1) := dk_29 (dk_at dksX8_likeliest_1 0 rfl rfl)
theorem dX8_likeliest_25 : decode cX8_likeliest 25 = .ok (.bipush 121, 2) := dk_16 121 (dk_at dksX8_likeliest_1 1 rfl rfl)
theorem dX8_likeliest_27 : decode cX8_likeliest 27 = .ok (.if_icmp .ge 48, 3) := dk_162 0 48 (dk_at dksX8_likeliest_1 3 rfl rfl)
theorem dX8_likeliest_30 : decode cX8_likeliest 30 = .ok (.aload_n 0, 1) := dk_42 (dk_at dksX8_likeliest_1 6 rfl rfl)
theorem dX8_likeliest_31 : decode cX8_likeliest 31 = .ok (.getfield 59, 3) := dk_180 0 59 (dk_at dksX8_likeliest_1 7 rfl rfl)
theorem dX8_likeliest_34 : decode cX8_likeliest 34 = .ok (.iload_n 3, 1) := dk_29 (dk_at dksX8_likeliest_1 10 rfl rfl)
theorem dX8_likeliest_35 : decode cX8_likeliest 35 = .ok (.iaload, 1) := dk_46 (dk_at dksX8_likeliest_1 11 rfl rfl)
theorem dX8_likeliest_36 : decode cX8_likeliest 36 = .ok (.aload_n 0, 1) := dk_42 (dk_at dksX8_likeliest_1 12 rfl rfl)
theorem dX8_likeliest_37 : decode cX8_likeliest 37 = .ok (.getfield 59, 3) := dk_180 0 59 (dk_at dksX8_likeliest_1 13 rfl rfl)
theorem dX8_likeliest_40 : decode cX8_likeliest 40 = .ok (.iload_n 3, 1) := dk_29 (dk_at dksX8_likeliest_1 16 rfl rfl)
theorem dX8_likeliest_41 : decode cX8_likeliest 41 = .ok (.iconst 1, 1) := dk_4 (dk_at dksX8_likeliest_1 17 rfl rfl)
theorem dX8_likeliest_42 : decode cX8_likeliest 42 = .ok (.iadd, 1) := dk_96 (dk_at dksX8_likeliest_1 18 rfl rfl)
theorem dX8_likeliest_43 : decode cX8_likeliest 43 = .ok (.iaload, 1) := dk_46 (dk_at dksX8_likeliest_1 19 rfl rfl)
theorem dX8_likeliest_44 : decode cX8_likeliest 44 = .ok (.isub, 1) := dk_100 (dk_at dksX8_likeliest_1 20 rfl rfl)
theorem dX8_likeliest_45 : decode cX8_likeliest 45 = .ok (.aload_n 0, 1) := dk_42 (dk_at dksX8_likeliest_1 21 rfl rfl)
theorem dX8_likeliest_46 : decode cX8_likeliest 46 = .ok (.getfield 59, 3) := dk_180 0 59 (dk_at dksX8_likeliest_2 0 rfl rfl)
theorem dX8_likeliest_49 : decode cX8_likeliest 49 = .ok (.iload_n 2, 1) := dk_28 (dk_at dksX8_likeliest_2 3 rfl rfl)
theorem dX8_likeliest_50 : decode cX8_likeliest 50 = .ok (.iaload, 1) := dk_46 (dk_at dksX8_likeliest_2 4 rfl rfl)
theorem dX8_likeliest_51 : decode cX8_likeliest 51 = .ok (.aload_n 0, 1) := dk_42 (dk_at dksX8_likeliest_2 5 rfl rfl)
theorem dX8_likeliest_52 : decode cX8_likeliest 52 = .ok (.getfield 59, 3) := dk_180 0 59 (dk_at dksX8_likeliest_2 6 rfl rfl)
theorem dX8_likeliest_55 : decode cX8_likeliest 55 = .ok (.iload_n 2, 1) := dk_28 (dk_at dksX8_likeliest_2 9 rfl rfl)
theorem dX8_likeliest_56 : decode cX8_likeliest 56 = .ok (.iconst 1, 1) := dk_4 (dk_at dksX8_likeliest_2 10 rfl rfl)
theorem dX8_likeliest_57 : decode cX8_likeliest 57 = .ok (.iadd, 1) := dk_96 (dk_at dksX8_likeliest_2 11 rfl rfl)
theorem dX8_likeliest_58 : decode cX8_likeliest 58 = .ok (.iaload, 1) := dk_46 (dk_at dksX8_likeliest_2 12 rfl rfl)
theorem dX8_likeliest_59 : decode cX8_likeliest 59 = .ok (.isub, 1) := dk_100 (dk_at dksX8_likeliest_2 13 rfl rfl)
theorem dX8_likeliest_60 : decode cX8_likeliest 60 = .ok (.if_icmp .le 7, 3) := dk_164 0 7 (dk_at dksX8_likeliest_2 14 rfl rfl)
theorem dX8_likeliest_63 : decode cX8_likeliest 63 = .ok (.iload_n 3, 1) := dk_29 (dk_at dksX8_likeliest_2 17 rfl rfl)
theorem dX8_likeliest_64 : decode cX8_likeliest 64 = .ok (.goto 4, 3) := dk_167 0 4 (dk_at dksX8_likeliest_2 18 rfl rfl)
theorem dX8_likeliest_67 : decode cX8_likeliest 67 = .ok (.iload_n 2, 1) := dk_28 (dk_at dksX8_likeliest_2 21 rfl rfl)
theorem dX8_likeliest_68 : decode cX8_likeliest 68 = .ok (.istore_n 2, 1) := dk_61 (dk_at dksX8_likeliest_2 22 rfl rfl)
theorem dX8_likeliest_69 : decode cX8_likeliest 69 = .ok (.iinc 3 1, 3) := dk_132 3 1 (dk_at dksX8_likeliest_3 0 rfl rfl)
theorem dX8_likeliest_72 : decode cX8_likeliest 72 = .ok (.goto (-48), 3) := dk_167 255 208 (dk_at dksX8_likeliest_3 3 rfl rfl)
theorem dX8_likeliest_75 : decode cX8_likeliest 75 = .ok (.aload_n 0, 1) := dk_42 (dk_at dksX8_likeliest_3 6 rfl rfl)
theorem dX8_likeliest_76 : decode cX8_likeliest 76 = .ok (.iconst 0, 1) := dk_3 (dk_at dksX8_likeliest_3 7 rfl rfl)
theorem dX8_likeliest_77 : decode cX8_likeliest 77 = .ok (.putfield 81, 3) := dk_181 0 81 (dk_at dksX8_likeliest_3 8 rfl rfl)
theorem dX8_likeliest_80 : decode cX8_likeliest 80 = .ok (.aload_n 0, 1) := dk_42 (dk_at dksX8_likeliest_3 11 rfl rfl)
theorem dX8_likeliest_81 : decode cX8_likeliest 81 = .ok (.aload_n 0, 1) := dk_42 (dk_at dksX8_likeliest_3 12 rfl rfl)
theorem dX8_likeliest_82 : decode cX8_likeliest 82 = .ok (.getfield 59, 3) := dk_180 0 59 (dk_at dksX8_likeliest_3 13 rfl rfl)
theorem dX8_likeliest_85 : decode cX8_likeliest 85 = .ok (.iload_n 2, 1) := dk_28 (dk_at dksX8_likeliest_3 16 rfl rfl)
theorem dX8_likeliest_86 : decode cX8_likeliest 86 = .ok (.iaload, 1) := dk_46 (dk_at dksX8_likeliest_3 17 rfl rfl)
theorem dX8_likeliest_87 : decode cX8_likeliest 87 = .ok (.aload_n 0, 1) := dk_42 (dk_at dksX8_likeliest_3 18 rfl rfl)
theorem dX8_likeliest_88 : decode cX8_likeliest 88 = .ok (.getfield 59, 3) := dk_180 0 59 (dk_at dksX8_likeliest_3 19 rfl rfl)
theorem dX8_likeliest_91 : decode cX8_likeliest 91 = .ok (.iload_n 2, 1) := dk_28 (dk_at dksX8_likeliest_3 22 rfl rfl)
theorem dX8_likeliest_92 : decode cX8_likeliest 92 = .ok (.iconst 1, 1) := dk_4 (dk_at dksX8_likeliest_3 23 rfl rfl)
theorem dX8_likeliest_93 : decode cX8_likeliest 93 = .ok (.iadd, 1) := dk_96 (dk_at dksX8_likeliest_4 0 rfl rfl)
theorem dX8_likeliest_94 : decode cX8_likeliest 94 = .ok (.iaload, 1) := dk_46 (dk_at dksX8_likeliest_4 1 rfl rfl)
theorem dX8_likeliest_95 : decode cX8_likeliest 95 = .ok (.isub, 1) := dk_100 (dk_at dksX8_likeliest_4 2 rfl rfl)
theorem dX8_likeliest_96 : decode cX8_likeliest 96 = .ok (.i2l, 1) := dk_133 (dk_at dksX8_likeliest_4 3 rfl rfl)
theorem dX8_likeliest_97 : decode cX8_likeliest 97 = .ok (.invokevirtual 180, 3) := dk_182 0 180 (dk_at dksX8_likeliest_4 4 rfl rfl)
theorem dX8_likeliest_100 : decode cX8_likeliest 100 = .ok (.aload_n 0, 1) := dk_42 (dk_at dksX8_likeliest_4 7 rfl rfl)
theorem dX8_likeliest_101 : decode cX8_likeliest 101 = .ok (.aload_n 0, 1) := dk_42 (dk_at dksX8_likeliest_4 8 rfl rfl)
theorem dX8_likeliest_102 : decode cX8_likeliest 102 = .ok (.getfield 59, 3) := dk_180 0 59 (dk_at dksX8_likeliest_4 9 rfl rfl)
theorem dX8_likeliest_105 : decode cX8_likeliest 105 = .ok (.iconst 1, 1) := dk_4 (dk_at dksX8_likeliest_4 12 rfl rfl)
theorem dX8_likeliest_106 : decode cX8_likeliest 106 = .ok (.iaload, 1) := dk_46 (dk_at dksX8_likeliest_4 13 rfl rfl)
theorem dX8_likeliest_107 : decode cX8_likeliest 107 = .ok (.i2l, 1) := dk_133 (dk_at dksX8_likeliest_4 14 rfl rfl)
theorem dX8_likeliest_108 : decode cX8_likeliest 108 = .ok (.invokevirtual 180, 3) := dk_182 0 180 (dk_at dksX8_likeliest_4 15 rfl rfl)
theorem dX8_likeliest_111 : decode cX8_likeliest 111 = .ok (.iload_n 2, 1) := dk_28 (dk_at dksX8_likeliest_4 18 rfl rfl)
theorem dX8_likeliest_112 : decode cX8_likeliest 112 = .ok (.ireturn, 1) := dk_172 (dk_at dksX8_likeliest_4 19 rfl rfl)
abbrev cX8_laysChances : ByteArray := prog_21_method_68_code
def yX8_laysChances : MethodName := ⟨RX8, "laysChances", "(I)V"⟩
def dkwX8_laysChances_1 : List UInt8 := [27, 28, 182, 1, 34, 79, 132, 2, 1, 167, 255, 225, 177]
abbrev dktX8_laysChances_1 : List UInt8 := dkwX8_laysChances_1 ++ []
def dkwX8_laysChances_0 : List UInt8 := [3, 61, 28, 16, 121, 163, 0, 31, 42, 180, 0, 59, 28, 28, 16, 121, 160, 0, 7, 3, 167, 0, 9, 42]
abbrev dktX8_laysChances_0 : List UInt8 := dkwX8_laysChances_0 ++ dktX8_laysChances_1
theorem dksX8_laysChances_0 : cX8_laysChances.data.toList.drop 0 = dktX8_laysChances_0 := by decide +kernel
theorem dksX8_laysChances_1 : cX8_laysChances.data.toList.drop 24 = dktX8_laysChances_1 := dk_seg dksX8_laysChances_0 24 rfl rfl
theorem dX8_laysChances_0 : decode cX8_laysChances 0 = .ok (.iconst 0, 1) := dk_3 (dk_at dksX8_laysChances_0 0 rfl rfl)
theorem dX8_laysChances_1 : decode cX8_laysChances 1 = .ok (.istore_n 2, 1) := dk_61 (dk_at dksX8_laysChances_0 1 rfl rfl)
theorem dX8_laysChances_2 : decode cX8_laysChances 2 = .ok (.iload_n 2, 1) := dk_28 (dk_at dksX8_laysChances_0 2 rfl rfl)
theorem dX8_laysChances_3 : decode cX8_laysChances 3 = .ok (.bipush 121, 2) := dk_16 121 (dk_at dksX8_laysChances_0 3 rfl rfl)
theorem dX8_laysChances_5 : decode cX8_laysChances 5 = .ok (.if_icmp .gt 31, 3) := dk_163 0 31 (dk_at dksX8_laysChances_0 5 rfl rfl)
theorem dX8_laysChances_8 : decode cX8_laysChances 8 = .ok (.aload_n 0, 1) := dk_42 (dk_at dksX8_laysChances_0 8 rfl rfl)
theorem dX8_laysChances_9 : decode cX8_laysChances 9 = .ok (.getfield 59, 3) := dk_180 0 59 (dk_at dksX8_laysChances_0 9 rfl rfl)
theorem dX8_laysChances_12 : decode cX8_laysChances 12 = .ok (.iload_n 2, 1) := dk_28 (dk_at dksX8_laysChances_0 12 rfl rfl)
theorem dX8_laysChances_13 : decode cX8_laysChances 13 = .ok (.iload_n 2, 1) := dk_28 (dk_at dksX8_laysChances_0 13 rfl rfl)
theorem dX8_laysChances_14 : decode cX8_laysChances 14 = .ok (.bipush 121, 2) := dk_16 121 (dk_at dksX8_laysChances_0 14 rfl rfl)
theorem dX8_laysChances_16 : decode cX8_laysChances 16 = .ok (.if_icmp .ne 7, 3) := dk_160 0 7 (dk_at dksX8_laysChances_0 16 rfl rfl)
theorem dX8_laysChances_19 : decode cX8_laysChances 19 = .ok (.iconst 0, 1) := dk_3 (dk_at dksX8_laysChances_0 19 rfl rfl)
theorem dX8_laysChances_20 : decode cX8_laysChances 20 = .ok (.goto 9, 3) := dk_167 0 9 (dk_at dksX8_laysChances_0 20 rfl rfl)
theorem dX8_laysChances_23 : decode cX8_laysChances 23 = .ok (.aload_n 0, 1) := dk_42 (dk_at dksX8_laysChances_0 23 rfl rfl)
theorem dX8_laysChances_24 : decode cX8_laysChances 24 = .ok (.iload_n 1, 1) := dk_27 (dk_at dksX8_laysChances_1 0 rfl rfl)
theorem dX8_laysChances_25 : decode cX8_laysChances 25 = .ok (.iload_n 2, 1) := dk_28 (dk_at dksX8_laysChances_1 1 rfl rfl)
theorem dX8_laysChances_26 : decode cX8_laysChances 26 = .ok (.invokevirtual 290, 3) := dk_182 1 34 (dk_at dksX8_laysChances_1 2 rfl rfl)
theorem dX8_laysChances_29 : decode cX8_laysChances 29 = .ok (.iastore, 1) := dk_79 (dk_at dksX8_laysChances_1 5 rfl rfl)
theorem dX8_laysChances_30 : decode cX8_laysChances 30 = .ok (.iinc 2 1, 3) := dk_132 2 1 (dk_at dksX8_laysChances_1 6 rfl rfl)
theorem dX8_laysChances_33 : decode cX8_laysChances 33 = .ok (.goto (-31), 3) := dk_167 255 225 (dk_at dksX8_laysChances_1 9 rfl rfl)
theorem dX8_laysChances_36 : decode cX8_laysChances 36 = .ok (.return_, 1) := dk_177 (dk_at dksX8_laysChances_1 12 rfl rfl)
abbrev cX8_beats : ByteArray := prog_21_method_75_code
def yX8_beats : MethodName := ⟨RX8, "beats", "(II)I"⟩
def dkwX8_beats_1 : List UInt8 := [160, 0, 5, 2, 172, 42, 27, 28, 182, 1, 53, 42, 27, 182, 1, 31, 172]
abbrev dktX8_beats_1 : List UInt8 := dkwX8_beats_1 ++ []
def dkwX8_beats_0 : List UInt8 := [42, 3, 181, 0, 77, 42, 27, 182, 0, 233, 153, 0, 16, 42, 28, 182, 0, 233, 153, 0, 8, 27, 28]
abbrev dktX8_beats_0 : List UInt8 := dkwX8_beats_0 ++ dktX8_beats_1
theorem dksX8_beats_0 : cX8_beats.data.toList.drop 0 = dktX8_beats_0 := by decide +kernel
theorem dksX8_beats_1 : cX8_beats.data.toList.drop 23 = dktX8_beats_1 := dk_seg dksX8_beats_0 23 rfl rfl
theorem dX8_beats_0 : decode cX8_beats 0 = .ok (.aload_n 0, 1) := dk_42 (dk_at dksX8_beats_0 0 rfl rfl)
theorem dX8_beats_1 : decode cX8_beats 1 = .ok (.iconst 0, 1) := dk_3 (dk_at dksX8_beats_0 1 rfl rfl)
theorem dX8_beats_2 : decode cX8_beats 2 = .ok (.putfield 77, 3) := dk_181 0 77 (dk_at dksX8_beats_0 2 rfl rfl)
theorem dX8_beats_5 : decode cX8_beats 5 = .ok (.aload_n 0, 1) := dk_42 (dk_at dksX8_beats_0 5 rfl rfl)
theorem dX8_beats_6 : decode cX8_beats 6 = .ok (.iload_n 1, 1) := dk_27 (dk_at dksX8_beats_0 6 rfl rfl)
theorem dX8_beats_7 : decode cX8_beats 7 = .ok (.invokevirtual 233, 3) := dk_182 0 233 (dk_at dksX8_beats_0 7 rfl rfl)
theorem dX8_beats_10 : decode cX8_beats 10 = .ok (.ifCond .eq 16, 3) := dk_153 0 16 (dk_at dksX8_beats_0 10 rfl rfl)
theorem dX8_beats_13 : decode cX8_beats 13 = .ok (.aload_n 0, 1) := dk_42 (dk_at dksX8_beats_0 13 rfl rfl)
theorem dX8_beats_14 : decode cX8_beats 14 = .ok (.iload_n 2, 1) := dk_28 (dk_at dksX8_beats_0 14 rfl rfl)
theorem dX8_beats_15 : decode cX8_beats 15 = .ok (.invokevirtual 233, 3) := dk_182 0 233 (dk_at dksX8_beats_0 15 rfl rfl)
theorem dX8_beats_18 : decode cX8_beats 18 = .ok (.ifCond .eq 8, 3) := dk_153 0 8 (dk_at dksX8_beats_0 18 rfl rfl)
theorem dX8_beats_21 : decode cX8_beats 21 = .ok (.iload_n 1, 1) := dk_27 (dk_at dksX8_beats_0 21 rfl rfl)
theorem dX8_beats_22 : decode cX8_beats 22 = .ok (.iload_n 2, 1) := dk_28 (dk_at dksX8_beats_0 22 rfl rfl)
theorem dX8_beats_23 : decode cX8_beats 23 = .ok (.if_icmp .ne 5, 3) := dk_160 0 5 (dk_at dksX8_beats_1 0 rfl rfl)
theorem dX8_beats_26 : decode cX8_beats 26 = .ok (.iconst (-1), 1) := dk_2 (dk_at dksX8_beats_1 3 rfl rfl)
theorem dX8_beats_27 : decode cX8_beats 27 = .ok (.ireturn, 1) := dk_172 (dk_at dksX8_beats_1 4 rfl rfl)
theorem dX8_beats_28 : decode cX8_beats 28 = .ok (.aload_n 0, 1) := dk_42 (dk_at dksX8_beats_1 5 rfl rfl)
theorem dX8_beats_29 : decode cX8_beats 29 = .ok (.iload_n 1, 1) := dk_27 (dk_at dksX8_beats_1 6 rfl rfl)
theorem dX8_beats_30 : decode cX8_beats 30 = .ok (.iload_n 2, 1) := dk_28 (dk_at dksX8_beats_1 7 rfl rfl)
theorem dX8_beats_31 : decode cX8_beats 31 = .ok (.invokevirtual 309, 3) := dk_182 1 53 (dk_at dksX8_beats_1 8 rfl rfl)
theorem dX8_beats_34 : decode cX8_beats 34 = .ok (.aload_n 0, 1) := dk_42 (dk_at dksX8_beats_1 11 rfl rfl)
theorem dX8_beats_35 : decode cX8_beats 35 = .ok (.iload_n 1, 1) := dk_27 (dk_at dksX8_beats_1 12 rfl rfl)
theorem dX8_beats_36 : decode cX8_beats 36 = .ok (.invokevirtual 287, 3) := dk_182 1 31 (dk_at dksX8_beats_1 13 rfl rfl)
theorem dX8_beats_39 : decode cX8_beats 39 = .ok (.ireturn, 1) := dk_172 (dk_at dksX8_beats_1 16 rfl rfl)
abbrev cX8_aimsBeat : ByteArray := prog_21_method_69_code
def yX8_aimsBeat : MethodName := ⟨RX8, "aimsBeat", "(II)V"⟩
def dkwX8_aimsBeat_1 : List UInt8 := [182, 1, 40, 79, 132, 3, 1, 167, 255, 234, 177]
abbrev dktX8_aimsBeat_1 : List UInt8 := dkwX8_aimsBeat_1 ++ []
def dkwX8_aimsBeat_0 : List UInt8 := [42, 28, 182, 1, 37, 3, 62, 29, 16, 121, 162, 0, 22, 42, 180, 0, 56, 29, 42, 27, 28, 29]
abbrev dktX8_aimsBeat_0 : List UInt8 := dkwX8_aimsBeat_0 ++ dktX8_aimsBeat_1
theorem dksX8_aimsBeat_0 : cX8_aimsBeat.data.toList.drop 0 = dktX8_aimsBeat_0 := by decide +kernel
theorem dksX8_aimsBeat_1 : cX8_aimsBeat.data.toList.drop 22 = dktX8_aimsBeat_1 := dk_seg dksX8_aimsBeat_0 22 rfl rfl
theorem dX8_aimsBeat_0 : decode cX8_aimsBeat 0 = .ok (.aload_n 0, 1) := dk_42 (dk_at dksX8_aimsBeat_0 0 rfl rfl)
theorem dX8_aimsBeat_1 : decode cX8_aimsBeat 1 = .ok (.iload_n 2, 1) := dk_28 (dk_at dksX8_aimsBeat_0 1 rfl rfl)
theorem dX8_aimsBeat_2 : decode cX8_aimsBeat 2 = .ok (.invokevirtual 293, 3) := dk_182 1 37 (dk_at dksX8_aimsBeat_0 2 rfl rfl)
theorem dX8_aimsBeat_5 : decode cX8_aimsBeat 5 = .ok (.iconst 0, 1) := dk_3 (dk_at dksX8_aimsBeat_0 5 rfl rfl)
theorem dX8_aimsBeat_6 : decode cX8_aimsBeat 6 = .ok (.istore_n 3, 1) := dk_62 (dk_at dksX8_aimsBeat_0 6 rfl rfl)
theorem dX8_aimsBeat_7 : decode cX8_aimsBeat 7 = .ok (.iload_n 3, 1) := dk_29 (dk_at dksX8_aimsBeat_0 7 rfl rfl)
theorem dX8_aimsBeat_8 : decode cX8_aimsBeat 8 = .ok (.bipush 121, 2) := dk_16 121 (dk_at dksX8_aimsBeat_0 8 rfl rfl)
theorem dX8_aimsBeat_10 : decode cX8_aimsBeat 10 = .ok (.if_icmp .ge 22, 3) := dk_162 0 22 (dk_at dksX8_aimsBeat_0 10 rfl rfl)
theorem dX8_aimsBeat_13 : decode cX8_aimsBeat 13 = .ok (.aload_n 0, 1) := dk_42 (dk_at dksX8_aimsBeat_0 13 rfl rfl)
theorem dX8_aimsBeat_14 : decode cX8_aimsBeat 14 = .ok (.getfield 56, 3) := dk_180 0 56 (dk_at dksX8_aimsBeat_0 14 rfl rfl)
theorem dX8_aimsBeat_17 : decode cX8_aimsBeat 17 = .ok (.iload_n 3, 1) := dk_29 (dk_at dksX8_aimsBeat_0 17 rfl rfl)
theorem dX8_aimsBeat_18 : decode cX8_aimsBeat 18 = .ok (.aload_n 0, 1) := dk_42 (dk_at dksX8_aimsBeat_0 18 rfl rfl)
theorem dX8_aimsBeat_19 : decode cX8_aimsBeat 19 = .ok (.iload_n 1, 1) := dk_27 (dk_at dksX8_aimsBeat_0 19 rfl rfl)
theorem dX8_aimsBeat_20 : decode cX8_aimsBeat 20 = .ok (.iload_n 2, 1) := dk_28 (dk_at dksX8_aimsBeat_0 20 rfl rfl)
theorem dX8_aimsBeat_21 : decode cX8_aimsBeat 21 = .ok (.iload_n 3, 1) := dk_29 (dk_at dksX8_aimsBeat_0 21 rfl rfl)
theorem dX8_aimsBeat_22 : decode cX8_aimsBeat 22 = .ok (.invokevirtual 296, 3) := dk_182 1 40 (dk_at dksX8_aimsBeat_1 0 rfl rfl)
theorem dX8_aimsBeat_25 : decode cX8_aimsBeat 25 = .ok (.iastore, 1) := dk_79 (dk_at dksX8_aimsBeat_1 3 rfl rfl)
theorem dX8_aimsBeat_26 : decode cX8_aimsBeat 26 = .ok (.iinc 3 1, 3) := dk_132 3 1 (dk_at dksX8_aimsBeat_1 4 rfl rfl)
theorem dX8_aimsBeat_29 : decode cX8_aimsBeat 29 = .ok (.goto (-22), 3) := dk_167 255 234 (dk_at dksX8_aimsBeat_1 7 rfl rfl)
theorem dX8_aimsBeat_32 : decode cX8_aimsBeat 32 = .ok (.return_, 1) := dk_177 (dk_at dksX8_aimsBeat_1 10 rfl rfl)
abbrev cX8_beatBy : ByteArray := prog_21_method_67_code
def yX8_beatBy : MethodName := ⟨RX8, "beatBy", "(III)I"⟩
def dkwX8_beatBy_1 : List UInt8 := [184, 0, 160, 96, 46, 100, 172]
abbrev dktX8_beatBy_1 : List UInt8 := dkwX8_beatBy_1 ++ []
def dkwX8_beatBy_0 : List UInt8 := [29, 154, 0, 7, 3, 167, 0, 23, 19, 1, 8, 42, 180, 0, 59, 29, 42, 27, 28, 182, 0, 171]
abbrev dktX8_beatBy_0 : List UInt8 := dkwX8_beatBy_0 ++ dktX8_beatBy_1
theorem dksX8_beatBy_0 : cX8_beatBy.data.toList.drop 0 = dktX8_beatBy_0 := by decide +kernel
theorem dksX8_beatBy_1 : cX8_beatBy.data.toList.drop 22 = dktX8_beatBy_1 := dk_seg dksX8_beatBy_0 22 rfl rfl
theorem dX8_beatBy_0 : decode cX8_beatBy 0 = .ok (.iload_n 3, 1) := dk_29 (dk_at dksX8_beatBy_0 0 rfl rfl)
theorem dX8_beatBy_1 : decode cX8_beatBy 1 = .ok (.ifCond .ne 7, 3) := dk_154 0 7 (dk_at dksX8_beatBy_0 1 rfl rfl)
theorem dX8_beatBy_4 : decode cX8_beatBy 4 = .ok (.iconst 0, 1) := dk_3 (dk_at dksX8_beatBy_0 4 rfl rfl)
theorem dX8_beatBy_5 : decode cX8_beatBy 5 = .ok (.goto 23, 3) := dk_167 0 23 (dk_at dksX8_beatBy_0 5 rfl rfl)
theorem dX8_beatBy_8 : decode cX8_beatBy 8 = .ok (.ldc_w 264, 3) := dk_19 1 8 (dk_at dksX8_beatBy_0 8 rfl rfl)
theorem dX8_beatBy_11 : decode cX8_beatBy 11 = .ok (.aload_n 0, 1) := dk_42 (dk_at dksX8_beatBy_0 11 rfl rfl)
theorem dX8_beatBy_12 : decode cX8_beatBy 12 = .ok (.getfield 59, 3) := dk_180 0 59 (dk_at dksX8_beatBy_0 12 rfl rfl)
theorem dX8_beatBy_15 : decode cX8_beatBy 15 = .ok (.iload_n 3, 1) := dk_29 (dk_at dksX8_beatBy_0 15 rfl rfl)
theorem dX8_beatBy_16 : decode cX8_beatBy 16 = .ok (.aload_n 0, 1) := dk_42 (dk_at dksX8_beatBy_0 16 rfl rfl)
theorem dX8_beatBy_17 : decode cX8_beatBy 17 = .ok (.iload_n 1, 1) := dk_27 (dk_at dksX8_beatBy_0 17 rfl rfl)
theorem dX8_beatBy_18 : decode cX8_beatBy 18 = .ok (.iload_n 2, 1) := dk_28 (dk_at dksX8_beatBy_0 18 rfl rfl)
theorem dX8_beatBy_19 : decode cX8_beatBy 19 = .ok (.invokevirtual 171, 3) := dk_182 0 171 (dk_at dksX8_beatBy_0 19 rfl rfl)
theorem dX8_beatBy_22 : decode cX8_beatBy 22 = .ok (.invokestatic 160, 3) := dk_184 0 160 (dk_at dksX8_beatBy_1 0 rfl rfl)
theorem dX8_beatBy_25 : decode cX8_beatBy 25 = .ok (.iadd, 1) := dk_96 (dk_at dksX8_beatBy_1 3 rfl rfl)
theorem dX8_beatBy_26 : decode cX8_beatBy 26 = .ok (.iaload, 1) := dk_46 (dk_at dksX8_beatBy_1 4 rfl rfl)
theorem dX8_beatBy_27 : decode cX8_beatBy 27 = .ok (.isub, 1) := dk_100 (dk_at dksX8_beatBy_1 5 rfl rfl)
theorem dX8_beatBy_28 : decode cX8_beatBy 28 = .ok (.ireturn, 1) := dk_172 (dk_at dksX8_beatBy_1 6 rfl rfl)
abbrev cX8_wins : ByteArray := prog_21_method_77_code
def yX8_wins : MethodName := ⟨RX8, "wins", "(I)I"⟩
def dkwX8_wins_2 : List UInt8 := [180, 0, 7, 27, 47, 136, 172]
abbrev dktX8_wins_2 : List UInt8 := dkwX8_wins_2 ++ []
def dkwX8_wins_1 : List UInt8 := [180, 0, 84, 162, 0, 19, 42, 42, 28, 182, 1, 60, 133, 182, 0, 180, 132, 2, 1, 167, 255, 235, 42]
abbrev dktX8_wins_1 : List UInt8 := dkwX8_wins_1 ++ dktX8_wins_2
def dkwX8_wins_0 : List UInt8 := [42, 3, 181, 0, 77, 42, 27, 182, 0, 233, 154, 0, 5, 2, 172, 42, 3, 181, 0, 81, 3, 61, 28, 42]
abbrev dktX8_wins_0 : List UInt8 := dkwX8_wins_0 ++ dktX8_wins_1
theorem dksX8_wins_0 : cX8_wins.data.toList.drop 0 = dktX8_wins_0 := by decide +kernel
theorem dksX8_wins_1 : cX8_wins.data.toList.drop 24 = dktX8_wins_1 := dk_seg dksX8_wins_0 24 rfl rfl
theorem dksX8_wins_2 : cX8_wins.data.toList.drop 47 = dktX8_wins_2 := dk_seg dksX8_wins_1 23 rfl rfl
theorem dX8_wins_0 : decode cX8_wins 0 = .ok (.aload_n 0, 1) := dk_42 (dk_at dksX8_wins_0 0 rfl rfl)
theorem dX8_wins_1 : decode cX8_wins 1 = .ok (.iconst 0, 1) := dk_3 (dk_at dksX8_wins_0 1 rfl rfl)
theorem dX8_wins_2 : decode cX8_wins 2 = .ok (.putfield 77, 3) := dk_181 0 77 (dk_at dksX8_wins_0 2 rfl rfl)
theorem dX8_wins_5 : decode cX8_wins 5 = .ok (.aload_n 0, 1) := dk_42 (dk_at dksX8_wins_0 5 rfl rfl)
theorem dX8_wins_6 : decode cX8_wins 6 = .ok (.iload_n 1, 1) := dk_27 (dk_at dksX8_wins_0 6 rfl rfl)
theorem dX8_wins_7 : decode cX8_wins 7 = .ok (.invokevirtual 233, 3) := dk_182 0 233 (dk_at dksX8_wins_0 7 rfl rfl)
theorem dX8_wins_10 : decode cX8_wins 10 = .ok (.ifCond .ne 5, 3) := dk_154 0 5 (dk_at dksX8_wins_0 10 rfl rfl)
theorem dX8_wins_13 : decode cX8_wins 13 = .ok (.iconst (-1), 1) := dk_2 (dk_at dksX8_wins_0 13 rfl rfl)
theorem dX8_wins_14 : decode cX8_wins 14 = .ok (.ireturn, 1) := dk_172 (dk_at dksX8_wins_0 14 rfl rfl)
theorem dX8_wins_15 : decode cX8_wins 15 = .ok (.aload_n 0, 1) := dk_42 (dk_at dksX8_wins_0 15 rfl rfl)
theorem dX8_wins_16 : decode cX8_wins 16 = .ok (.iconst 0, 1) := dk_3 (dk_at dksX8_wins_0 16 rfl rfl)
theorem dX8_wins_17 : decode cX8_wins 17 = .ok (.putfield 81, 3) := dk_181 0 81 (dk_at dksX8_wins_0 17 rfl rfl)
theorem dX8_wins_20 : decode cX8_wins 20 = .ok (.iconst 0, 1) := dk_3 (dk_at dksX8_wins_0 20 rfl rfl)
theorem dX8_wins_21 : decode cX8_wins 21 = .ok (.istore_n 2, 1) := dk_61 (dk_at dksX8_wins_0 21 rfl rfl)
theorem dX8_wins_22 : decode cX8_wins 22 = .ok (.iload_n 2, 1) := dk_28 (dk_at dksX8_wins_0 22 rfl rfl)
theorem dX8_wins_23 : decode cX8_wins 23 = .ok (.aload_n 0, 1) := dk_42 (dk_at dksX8_wins_0 23 rfl rfl)
theorem dX8_wins_24 : decode cX8_wins 24 = .ok (.getfield 84, 3) := dk_180 0 84 (dk_at dksX8_wins_1 0 rfl rfl)
theorem dX8_wins_27 : decode cX8_wins 27 = .ok (.if_icmp .ge 19, 3) := dk_162 0 19 (dk_at dksX8_wins_1 3 rfl rfl)
theorem dX8_wins_30 : decode cX8_wins 30 = .ok (.aload_n 0, 1) := dk_42 (dk_at dksX8_wins_1 6 rfl rfl)
theorem dX8_wins_31 : decode cX8_wins 31 = .ok (.aload_n 0, 1) := dk_42 (dk_at dksX8_wins_1 7 rfl rfl)
theorem dX8_wins_32 : decode cX8_wins 32 = .ok (.iload_n 2, 1) := dk_28 (dk_at dksX8_wins_1 8 rfl rfl)
theorem dX8_wins_33 : decode cX8_wins 33 = .ok (.invokevirtual 316, 3) := dk_182 1 60 (dk_at dksX8_wins_1 9 rfl rfl)
theorem dX8_wins_36 : decode cX8_wins 36 = .ok (.i2l, 1) := dk_133 (dk_at dksX8_wins_1 12 rfl rfl)
theorem dX8_wins_37 : decode cX8_wins 37 = .ok (.invokevirtual 180, 3) := dk_182 0 180 (dk_at dksX8_wins_1 13 rfl rfl)
theorem dX8_wins_40 : decode cX8_wins 40 = .ok (.iinc 2 1, 3) := dk_132 2 1 (dk_at dksX8_wins_1 16 rfl rfl)
theorem dX8_wins_43 : decode cX8_wins 43 = .ok (.goto (-21), 3) := dk_167 255 235 (dk_at dksX8_wins_1 19 rfl rfl)
theorem dX8_wins_46 : decode cX8_wins 46 = .ok (.aload_n 0, 1) := dk_42 (dk_at dksX8_wins_1 22 rfl rfl)
theorem dX8_wins_47 : decode cX8_wins 47 = .ok (.getfield 7, 3) := dk_180 0 7 (dk_at dksX8_wins_2 0 rfl rfl)
theorem dX8_wins_50 : decode cX8_wins 50 = .ok (.iload_n 1, 1) := dk_27 (dk_at dksX8_wins_2 3 rfl rfl)
theorem dX8_wins_51 : decode cX8_wins 51 = .ok (.laload, 1) := dk_47 (dk_at dksX8_wins_2 4 rfl rfl)
theorem dX8_wins_52 : decode cX8_wins 52 = .ok (.l2i, 1) := dk_136 (dk_at dksX8_wins_2 5 rfl rfl)
theorem dX8_wins_53 : decode cX8_wins 53 = .ok (.ireturn, 1) := dk_172 (dk_at dksX8_wins_2 6 rfl rfl)
abbrev cX8_winOf : ByteArray := prog_21_method_76_code
def yX8_winOf : MethodName := ⟨RX8, "winOf", "(I)I"⟩
def dkwX8_winOf_0 : List UInt8 := [42, 27, 182, 1, 57, 42, 27, 182, 1, 31, 172]
abbrev dktX8_winOf_0 : List UInt8 := dkwX8_winOf_0 ++ []
theorem dksX8_winOf_0 : cX8_winOf.data.toList.drop 0 = dktX8_winOf_0 := by decide +kernel
theorem dX8_winOf_0 : decode cX8_winOf 0 = .ok (.aload_n 0, 1) := dk_42 (dk_at dksX8_winOf_0 0 rfl rfl)
theorem dX8_winOf_1 : decode cX8_winOf 1 = .ok (.iload_n 1, 1) := dk_27 (dk_at dksX8_winOf_0 1 rfl rfl)
theorem dX8_winOf_2 : decode cX8_winOf 2 = .ok (.invokevirtual 313, 3) := dk_182 1 57 (dk_at dksX8_winOf_0 2 rfl rfl)
theorem dX8_winOf_5 : decode cX8_winOf 5 = .ok (.aload_n 0, 1) := dk_42 (dk_at dksX8_winOf_0 5 rfl rfl)
theorem dX8_winOf_6 : decode cX8_winOf 6 = .ok (.iload_n 1, 1) := dk_27 (dk_at dksX8_winOf_0 6 rfl rfl)
theorem dX8_winOf_7 : decode cX8_winOf 7 = .ok (.invokevirtual 287, 3) := dk_182 1 31 (dk_at dksX8_winOf_0 7 rfl rfl)
theorem dX8_winOf_10 : decode cX8_winOf 10 = .ok (.ireturn, 1) := dk_172 (dk_at dksX8_winOf_0 10 rfl rfl)
abbrev cX8_aimsWin : ByteArray := prog_21_method_70_code
def yX8_aimsWin : MethodName := ⟨RX8, "aimsWin", "(I)V"⟩
def dkwX8_aimsWin_5 : List UInt8 := [180, 0, 62, 28, 46, 79, 132, 2, 1, 167, 255, 235, 177]
abbrev dktX8_aimsWin_5 : List UInt8 := dkwX8_aimsWin_5 ++ []
def dkwX8_aimsWin_4 : List UInt8 := [167, 255, 220, 132, 2, 1, 167, 255, 191, 3, 61, 28, 16, 121, 162, 0, 21, 42, 180, 0, 56, 28, 42]
abbrev dktX8_aimsWin_4 : List UInt8 := dkwX8_aimsWin_4 ++ dktX8_aimsWin_5
def dkwX8_aimsWin_3 : List UInt8 := [180, 0, 62, 29, 46, 133, 42, 27, 28, 29, 182, 1, 40, 133, 105, 20, 1, 43, 109, 136, 79, 132, 3, 1]
abbrev dktX8_aimsWin_3 : List UInt8 := dkwX8_aimsWin_3 ++ dktX8_aimsWin_4
def dkwX8_aimsWin_2 : List UInt8 := [167, 0, 49, 42, 28, 182, 1, 37, 3, 62, 29, 16, 121, 162, 0, 36, 42, 180, 0, 62, 29, 42]
abbrev dktX8_aimsWin_2 : List UInt8 := dkwX8_aimsWin_2 ++ dktX8_aimsWin_3
def dkwX8_aimsWin_1 : List UInt8 := [79, 132, 2, 1, 167, 255, 230, 3, 61, 28, 42, 180, 0, 84, 162, 0, 63, 28, 27, 160, 0, 6]
abbrev dktX8_aimsWin_1 : List UInt8 := dkwX8_aimsWin_1 ++ dktX8_aimsWin_2
def dkwX8_aimsWin_0 : List UInt8 := [3, 61, 28, 16, 121, 162, 0, 26, 42, 180, 0, 62, 28, 28, 154, 0, 7, 3, 167, 0, 6, 19, 1, 8]
abbrev dktX8_aimsWin_0 : List UInt8 := dkwX8_aimsWin_0 ++ dktX8_aimsWin_1
theorem dksX8_aimsWin_0 : cX8_aimsWin.data.toList.drop 0 = dktX8_aimsWin_0 := by decide +kernel
theorem dksX8_aimsWin_1 : cX8_aimsWin.data.toList.drop 24 = dktX8_aimsWin_1 := dk_seg dksX8_aimsWin_0 24 rfl rfl
theorem dksX8_aimsWin_2 : cX8_aimsWin.data.toList.drop 46 = dktX8_aimsWin_2 := dk_seg dksX8_aimsWin_1 22 rfl rfl
theorem dksX8_aimsWin_3 : cX8_aimsWin.data.toList.drop 68 = dktX8_aimsWin_3 := dk_seg dksX8_aimsWin_2 22 rfl rfl
theorem dksX8_aimsWin_4 : cX8_aimsWin.data.toList.drop 92 = dktX8_aimsWin_4 := dk_seg dksX8_aimsWin_3 24 rfl rfl
theorem dksX8_aimsWin_5 : cX8_aimsWin.data.toList.drop 115 = dktX8_aimsWin_5 := dk_seg dksX8_aimsWin_4 23 rfl rfl
theorem dX8_aimsWin_0 : decode cX8_aimsWin 0 = .ok (.iconst 0, 1) := dk_3 (dk_at dksX8_aimsWin_0 0 rfl rfl)
theorem dX8_aimsWin_1 : decode cX8_aimsWin 1 = .ok (.istore_n 2, 1) := dk_61 (dk_at dksX8_aimsWin_0 1 rfl rfl)
theorem dX8_aimsWin_2 : decode cX8_aimsWin 2 = .ok (.iload_n 2, 1) := dk_28 (dk_at dksX8_aimsWin_0 2 rfl rfl)
theorem dX8_aimsWin_3 : decode cX8_aimsWin 3 = .ok (.bipush 121, 2) := dk_16 121 (dk_at dksX8_aimsWin_0 3 rfl rfl)
theorem dX8_aimsWin_5 : decode cX8_aimsWin 5 = .ok (.if_icmp .ge 26, 3) := dk_162 0 26 (dk_at dksX8_aimsWin_0 5 rfl rfl)
theorem dX8_aimsWin_8 : decode cX8_aimsWin 8 = .ok (.aload_n 0, 1) := dk_42 (dk_at dksX8_aimsWin_0 8 rfl rfl)
theorem dX8_aimsWin_9 : decode cX8_aimsWin 9 = .ok (.getfield 62, 3) := dk_180 0 62 (dk_at dksX8_aimsWin_0 9 rfl rfl)
theorem dX8_aimsWin_12 : decode cX8_aimsWin 12 = .ok (.iload_n 2, 1) := dk_28 (dk_at dksX8_aimsWin_0 12 rfl rfl)
theorem dX8_aimsWin_13 : decode cX8_aimsWin 13 = .ok (.iload_n 2, 1) := dk_28 (dk_at dksX8_aimsWin_0 13 rfl rfl)
theorem dX8_aimsWin_14 : decode cX8_aimsWin 14 = .ok (.ifCond .ne 7, 3) := dk_154 0 7 (dk_at dksX8_aimsWin_0 14 rfl rfl)
theorem dX8_aimsWin_17 : decode cX8_aimsWin 17 = .ok (.iconst 0, 1) := dk_3 (dk_at dksX8_aimsWin_0 17 rfl rfl)
theorem dX8_aimsWin_18 : decode cX8_aimsWin 18 = .ok (.goto 6, 3) := dk_167 0 6 (dk_at dksX8_aimsWin_0 18 rfl rfl)
theorem dX8_aimsWin_21 : decode cX8_aimsWin 21 = .ok (.ldc_w 264, 3) := dk_19 1 8 (dk_at dksX8_aimsWin_0 21 rfl rfl)
theorem dX8_aimsWin_24 : decode cX8_aimsWin 24 = .ok (.iastore, 1) := dk_79 (dk_at dksX8_aimsWin_1 0 rfl rfl)
theorem dX8_aimsWin_25 : decode cX8_aimsWin 25 = .ok (.iinc 2 1, 3) := dk_132 2 1 (dk_at dksX8_aimsWin_1 1 rfl rfl)
theorem dX8_aimsWin_28 : decode cX8_aimsWin 28 = .ok (.goto (-26), 3) := dk_167 255 230 (dk_at dksX8_aimsWin_1 4 rfl rfl)
theorem dX8_aimsWin_31 : decode cX8_aimsWin 31 = .ok (.iconst 0, 1) := dk_3 (dk_at dksX8_aimsWin_1 7 rfl rfl)
theorem dX8_aimsWin_32 : decode cX8_aimsWin 32 = .ok (.istore_n 2, 1) := dk_61 (dk_at dksX8_aimsWin_1 8 rfl rfl)
theorem dX8_aimsWin_33 : decode cX8_aimsWin 33 = .ok (.iload_n 2, 1) := dk_28 (dk_at dksX8_aimsWin_1 9 rfl rfl)
theorem dX8_aimsWin_34 : decode cX8_aimsWin 34 = .ok (.aload_n 0, 1) := dk_42 (dk_at dksX8_aimsWin_1 10 rfl rfl)
theorem dX8_aimsWin_35 : decode cX8_aimsWin 35 = .ok (.getfield 84, 3) := dk_180 0 84 (dk_at dksX8_aimsWin_1 11 rfl rfl)
theorem dX8_aimsWin_38 : decode cX8_aimsWin 38 = .ok (.if_icmp .ge 63, 3) := dk_162 0 63 (dk_at dksX8_aimsWin_1 14 rfl rfl)
theorem dX8_aimsWin_41 : decode cX8_aimsWin 41 = .ok (.iload_n 2, 1) := dk_28 (dk_at dksX8_aimsWin_1 17 rfl rfl)
theorem dX8_aimsWin_42 : decode cX8_aimsWin 42 = .ok (.iload_n 1, 1) := dk_27 (dk_at dksX8_aimsWin_1 18 rfl rfl)
theorem dX8_aimsWin_43 : decode cX8_aimsWin 43 = .ok (.if_icmp .ne 6, 3) := dk_160 0 6 (dk_at dksX8_aimsWin_1 19 rfl rfl)
theorem dX8_aimsWin_46 : decode cX8_aimsWin 46 = .ok (.goto 49, 3) := dk_167 0 49 (dk_at dksX8_aimsWin_2 0 rfl rfl)
theorem dX8_aimsWin_49 : decode cX8_aimsWin 49 = .ok (.aload_n 0, 1) := dk_42 (dk_at dksX8_aimsWin_2 3 rfl rfl)
theorem dX8_aimsWin_50 : decode cX8_aimsWin 50 = .ok (.iload_n 2, 1) := dk_28 (dk_at dksX8_aimsWin_2 4 rfl rfl)
theorem dX8_aimsWin_51 : decode cX8_aimsWin 51 = .ok (.invokevirtual 293, 3) := dk_182 1 37 (dk_at dksX8_aimsWin_2 5 rfl rfl)
theorem dX8_aimsWin_54 : decode cX8_aimsWin 54 = .ok (.iconst 0, 1) := dk_3 (dk_at dksX8_aimsWin_2 8 rfl rfl)
theorem dX8_aimsWin_55 : decode cX8_aimsWin 55 = .ok (.istore_n 3, 1) := dk_62 (dk_at dksX8_aimsWin_2 9 rfl rfl)
theorem dX8_aimsWin_56 : decode cX8_aimsWin 56 = .ok (.iload_n 3, 1) := dk_29 (dk_at dksX8_aimsWin_2 10 rfl rfl)
theorem dX8_aimsWin_57 : decode cX8_aimsWin 57 = .ok (.bipush 121, 2) := dk_16 121 (dk_at dksX8_aimsWin_2 11 rfl rfl)
theorem dX8_aimsWin_59 : decode cX8_aimsWin 59 = .ok (.if_icmp .ge 36, 3) := dk_162 0 36 (dk_at dksX8_aimsWin_2 13 rfl rfl)
theorem dX8_aimsWin_62 : decode cX8_aimsWin 62 = .ok (.aload_n 0, 1) := dk_42 (dk_at dksX8_aimsWin_2 16 rfl rfl)
theorem dX8_aimsWin_63 : decode cX8_aimsWin 63 = .ok (.getfield 62, 3) := dk_180 0 62 (dk_at dksX8_aimsWin_2 17 rfl rfl)
theorem dX8_aimsWin_66 : decode cX8_aimsWin 66 = .ok (.iload_n 3, 1) := dk_29 (dk_at dksX8_aimsWin_2 20 rfl rfl)
theorem dX8_aimsWin_67 : decode cX8_aimsWin 67 = .ok (.aload_n 0, 1) := dk_42 (dk_at dksX8_aimsWin_2 21 rfl rfl)
theorem dX8_aimsWin_68 : decode cX8_aimsWin 68 = .ok (.getfield 62, 3) := dk_180 0 62 (dk_at dksX8_aimsWin_3 0 rfl rfl)
theorem dX8_aimsWin_71 : decode cX8_aimsWin 71 = .ok (.iload_n 3, 1) := dk_29 (dk_at dksX8_aimsWin_3 3 rfl rfl)
theorem dX8_aimsWin_72 : decode cX8_aimsWin 72 = .ok (.iaload, 1) := dk_46 (dk_at dksX8_aimsWin_3 4 rfl rfl)
theorem dX8_aimsWin_73 : decode cX8_aimsWin 73 = .ok (.i2l, 1) := dk_133 (dk_at dksX8_aimsWin_3 5 rfl rfl)
theorem dX8_aimsWin_74 : decode cX8_aimsWin 74 = .ok (.aload_n 0, 1) := dk_42 (dk_at dksX8_aimsWin_3 6 rfl rfl)
theorem dX8_aimsWin_75 : decode cX8_aimsWin 75 = .ok (.iload_n 1, 1) := dk_27 (dk_at dksX8_aimsWin_3 7 rfl rfl)
theorem dX8_aimsWin_76 : decode cX8_aimsWin 76 = .ok (.iload_n 2, 1) := dk_28 (dk_at dksX8_aimsWin_3 8 rfl rfl)
theorem dX8_aimsWin_77 : decode cX8_aimsWin 77 = .ok (.iload_n 3, 1) := dk_29 (dk_at dksX8_aimsWin_3 9 rfl rfl)
theorem dX8_aimsWin_78 : decode cX8_aimsWin 78 = .ok (.invokevirtual 296, 3) := dk_182 1 40 (dk_at dksX8_aimsWin_3 10 rfl rfl)
theorem dX8_aimsWin_81 : decode cX8_aimsWin 81 = .ok (.i2l, 1) := dk_133 (dk_at dksX8_aimsWin_3 13 rfl rfl)
theorem dX8_aimsWin_82 : decode cX8_aimsWin 82 = .ok (.lmul, 1) := dk_105 (dk_at dksX8_aimsWin_3 14 rfl rfl)
theorem dX8_aimsWin_83 : decode cX8_aimsWin 83 = .ok (.ldc2_w 299, 3) := dk_20 1 43 (dk_at dksX8_aimsWin_3 15 rfl rfl)
theorem dX8_aimsWin_86 : decode cX8_aimsWin 86 = .ok (.ldiv, 1) := dk_109 (dk_at dksX8_aimsWin_3 18 rfl rfl)
theorem dX8_aimsWin_87 : decode cX8_aimsWin 87 = .ok (.l2i, 1) := dk_136 (dk_at dksX8_aimsWin_3 19 rfl rfl)
theorem dX8_aimsWin_88 : decode cX8_aimsWin 88 = .ok (.iastore, 1) := dk_79 (dk_at dksX8_aimsWin_3 20 rfl rfl)
theorem dX8_aimsWin_89 : decode cX8_aimsWin 89 = .ok (.iinc 3 1, 3) := dk_132 3 1 (dk_at dksX8_aimsWin_3 21 rfl rfl)
theorem dX8_aimsWin_92 : decode cX8_aimsWin 92 = .ok (.goto (-36), 3) := dk_167 255 220 (dk_at dksX8_aimsWin_4 0 rfl rfl)
theorem dX8_aimsWin_95 : decode cX8_aimsWin 95 = .ok (.iinc 2 1, 3) := dk_132 2 1 (dk_at dksX8_aimsWin_4 3 rfl rfl)
theorem dX8_aimsWin_98 : decode cX8_aimsWin 98 = .ok (.goto (-65), 3) := dk_167 255 191 (dk_at dksX8_aimsWin_4 6 rfl rfl)
theorem dX8_aimsWin_101 : decode cX8_aimsWin 101 = .ok (.iconst 0, 1) := dk_3 (dk_at dksX8_aimsWin_4 9 rfl rfl)
theorem dX8_aimsWin_102 : decode cX8_aimsWin 102 = .ok (.istore_n 2, 1) := dk_61 (dk_at dksX8_aimsWin_4 10 rfl rfl)
theorem dX8_aimsWin_103 : decode cX8_aimsWin 103 = .ok (.iload_n 2, 1) := dk_28 (dk_at dksX8_aimsWin_4 11 rfl rfl)
theorem dX8_aimsWin_104 : decode cX8_aimsWin 104 = .ok (.bipush 121, 2) := dk_16 121 (dk_at dksX8_aimsWin_4 12 rfl rfl)
theorem dX8_aimsWin_106 : decode cX8_aimsWin 106 = .ok (.if_icmp .ge 21, 3) := dk_162 0 21 (dk_at dksX8_aimsWin_4 14 rfl rfl)
theorem dX8_aimsWin_109 : decode cX8_aimsWin 109 = .ok (.aload_n 0, 1) := dk_42 (dk_at dksX8_aimsWin_4 17 rfl rfl)
theorem dX8_aimsWin_110 : decode cX8_aimsWin 110 = .ok (.getfield 56, 3) := dk_180 0 56 (dk_at dksX8_aimsWin_4 18 rfl rfl)
theorem dX8_aimsWin_113 : decode cX8_aimsWin 113 = .ok (.iload_n 2, 1) := dk_28 (dk_at dksX8_aimsWin_4 21 rfl rfl)
theorem dX8_aimsWin_114 : decode cX8_aimsWin 114 = .ok (.aload_n 0, 1) := dk_42 (dk_at dksX8_aimsWin_4 22 rfl rfl)
theorem dX8_aimsWin_115 : decode cX8_aimsWin 115 = .ok (.getfield 62, 3) := dk_180 0 62 (dk_at dksX8_aimsWin_5 0 rfl rfl)
theorem dX8_aimsWin_118 : decode cX8_aimsWin 118 = .ok (.iload_n 2, 1) := dk_28 (dk_at dksX8_aimsWin_5 3 rfl rfl)
theorem dX8_aimsWin_119 : decode cX8_aimsWin 119 = .ok (.iaload, 1) := dk_46 (dk_at dksX8_aimsWin_5 4 rfl rfl)
theorem dX8_aimsWin_120 : decode cX8_aimsWin 120 = .ok (.iastore, 1) := dk_79 (dk_at dksX8_aimsWin_5 5 rfl rfl)
theorem dX8_aimsWin_121 : decode cX8_aimsWin 121 = .ok (.iinc 2 1, 3) := dk_132 2 1 (dk_at dksX8_aimsWin_5 6 rfl rfl)
theorem dX8_aimsWin_124 : decode cX8_aimsWin 124 = .ok (.goto (-21), 3) := dk_167 255 235 (dk_at dksX8_aimsWin_5 9 rfl rfl)
theorem dX8_aimsWin_127 : decode cX8_aimsWin 127 = .ok (.return_, 1) := dk_177 (dk_at dksX8_aimsWin_5 12 rfl rfl)
abbrev cX8_bombs : ByteArray := prog_21_method_79_code
def yX8_bombs : MethodName := ⟨RX8, "bombs", "(I)I"⟩
def dkwX8_bombs_4 : List UInt8 := [132, 2, 1, 167, 255, 181, 19, 1, 8, 42, 27, 4, 182, 1, 34, 100, 172]
abbrev dktX8_bombs_4 : List UInt8 := dkwX8_bombs_4 ++ []
def dkwX8_bombs_3 : List UInt8 := [27, 28, 21, 5, 21, 4, 3, 182, 0, 153, 54, 4, 132, 5, 1, 167, 255, 214, 42, 29, 133, 182, 0, 180]
abbrev dktX8_bombs_3 : List UInt8 := dkwX8_bombs_3 ++ dktX8_bombs_4
def dkwX8_bombs_2 : List UInt8 := [162, 0, 42, 21, 4, 158, 0, 37, 29, 42, 27, 28, 21, 4, 21, 5, 182, 0, 245, 184, 1, 63, 62, 42]
abbrev dktX8_bombs_2 : List UInt8 := dkwX8_bombs_2 ++ dktX8_bombs_3
def dkwX8_bombs_1 : List UInt8 := [162, 0, 76, 19, 1, 8, 62, 42, 27, 28, 3, 182, 0, 125, 54, 4, 3, 54, 5, 21, 5, 6]
abbrev dktX8_bombs_1 : List UInt8 := dkwX8_bombs_1 ++ dktX8_bombs_2
def dkwX8_bombs_0 : List UInt8 := [42, 3, 181, 0, 77, 42, 27, 182, 0, 233, 154, 0, 5, 2, 172, 42, 3, 181, 0, 81, 3, 61, 28, 6]
abbrev dktX8_bombs_0 : List UInt8 := dkwX8_bombs_0 ++ dktX8_bombs_1
theorem dksX8_bombs_0 : cX8_bombs.data.toList.drop 0 = dktX8_bombs_0 := by decide +kernel
theorem dksX8_bombs_1 : cX8_bombs.data.toList.drop 24 = dktX8_bombs_1 := dk_seg dksX8_bombs_0 24 rfl rfl
theorem dksX8_bombs_2 : cX8_bombs.data.toList.drop 46 = dktX8_bombs_2 := dk_seg dksX8_bombs_1 22 rfl rfl
theorem dksX8_bombs_3 : cX8_bombs.data.toList.drop 70 = dktX8_bombs_3 := dk_seg dksX8_bombs_2 24 rfl rfl
theorem dksX8_bombs_4 : cX8_bombs.data.toList.drop 94 = dktX8_bombs_4 := dk_seg dksX8_bombs_3 24 rfl rfl
theorem dX8_bombs_0 : decode cX8_bombs 0 = .ok (.aload_n 0, 1) := dk_42 (dk_at dksX8_bombs_0 0 rfl rfl)
theorem dX8_bombs_1 : decode cX8_bombs 1 = .ok (.iconst 0, 1) := dk_3 (dk_at dksX8_bombs_0 1 rfl rfl)
theorem dX8_bombs_2 : decode cX8_bombs 2 = .ok (.putfield 77, 3) := dk_181 0 77 (dk_at dksX8_bombs_0 2 rfl rfl)
theorem dX8_bombs_5 : decode cX8_bombs 5 = .ok (.aload_n 0, 1) := dk_42 (dk_at dksX8_bombs_0 5 rfl rfl)
theorem dX8_bombs_6 : decode cX8_bombs 6 = .ok (.iload_n 1, 1) := dk_27 (dk_at dksX8_bombs_0 6 rfl rfl)
theorem dX8_bombs_7 : decode cX8_bombs 7 = .ok (.invokevirtual 233, 3) := dk_182 0 233 (dk_at dksX8_bombs_0 7 rfl rfl)
theorem dX8_bombs_10 : decode cX8_bombs 10 = .ok (.ifCond .ne 5, 3) := dk_154 0 5 (dk_at dksX8_bombs_0 10 rfl rfl)
theorem dX8_bombs_13 : decode cX8_bombs 13 = .ok (.iconst (-1), 1) := dk_2 (dk_at dksX8_bombs_0 13 rfl rfl)
theorem dX8_bombs_14 : decode cX8_bombs 14 = .ok (.ireturn, 1) := dk_172 (dk_at dksX8_bombs_0 14 rfl rfl)
theorem dX8_bombs_15 : decode cX8_bombs 15 = .ok (.aload_n 0, 1) := dk_42 (dk_at dksX8_bombs_0 15 rfl rfl)
theorem dX8_bombs_16 : decode cX8_bombs 16 = .ok (.iconst 0, 1) := dk_3 (dk_at dksX8_bombs_0 16 rfl rfl)
theorem dX8_bombs_17 : decode cX8_bombs 17 = .ok (.putfield 81, 3) := dk_181 0 81 (dk_at dksX8_bombs_0 17 rfl rfl)
theorem dX8_bombs_20 : decode cX8_bombs 20 = .ok (.iconst 0, 1) := dk_3 (dk_at dksX8_bombs_0 20 rfl rfl)
theorem dX8_bombs_21 : decode cX8_bombs 21 = .ok (.istore_n 2, 1) := dk_61 (dk_at dksX8_bombs_0 21 rfl rfl)
theorem dX8_bombs_22 : decode cX8_bombs 22 = .ok (.iload_n 2, 1) := dk_28 (dk_at dksX8_bombs_0 22 rfl rfl)
theorem dX8_bombs_23 : decode cX8_bombs 23 = .ok (.iconst 3, 1) := dk_6 (dk_at dksX8_bombs_0 23 rfl rfl)
theorem dX8_bombs_24 : decode cX8_bombs 24 = .ok (.if_icmp .ge 76, 3) := dk_162 0 76 (dk_at dksX8_bombs_1 0 rfl rfl)
theorem dX8_bombs_27 : decode cX8_bombs 27 = .ok (.ldc_w 264, 3) := dk_19 1 8 (dk_at dksX8_bombs_1 3 rfl rfl)
theorem dX8_bombs_30 : decode cX8_bombs 30 = .ok (.istore_n 3, 1) := dk_62 (dk_at dksX8_bombs_1 6 rfl rfl)
theorem dX8_bombs_31 : decode cX8_bombs 31 = .ok (.aload_n 0, 1) := dk_42 (dk_at dksX8_bombs_1 7 rfl rfl)
theorem dX8_bombs_32 : decode cX8_bombs 32 = .ok (.iload_n 1, 1) := dk_27 (dk_at dksX8_bombs_1 8 rfl rfl)
theorem dX8_bombs_33 : decode cX8_bombs 33 = .ok (.iload_n 2, 1) := dk_28 (dk_at dksX8_bombs_1 9 rfl rfl)
theorem dX8_bombs_34 : decode cX8_bombs 34 = .ok (.iconst 0, 1) := dk_3 (dk_at dksX8_bombs_1 10 rfl rfl)
theorem dX8_bombs_35 : decode cX8_bombs 35 = .ok (.invokevirtual 125, 3) := dk_182 0 125 (dk_at dksX8_bombs_1 11 rfl rfl)
theorem dX8_bombs_38 : decode cX8_bombs 38 = .ok (.istore 4, 2) := dk_54 4 (dk_at dksX8_bombs_1 14 rfl rfl)
theorem dX8_bombs_40 : decode cX8_bombs 40 = .ok (.iconst 0, 1) := dk_3 (dk_at dksX8_bombs_1 16 rfl rfl)
theorem dX8_bombs_41 : decode cX8_bombs 41 = .ok (.istore 5, 2) := dk_54 5 (dk_at dksX8_bombs_1 17 rfl rfl)
theorem dX8_bombs_43 : decode cX8_bombs 43 = .ok (.iload 5, 2) := dk_21 5 (dk_at dksX8_bombs_1 19 rfl rfl)
theorem dX8_bombs_45 : decode cX8_bombs 45 = .ok (.iconst 3, 1) := dk_6 (dk_at dksX8_bombs_1 21 rfl rfl)
theorem dX8_bombs_46 : decode cX8_bombs 46 = .ok (.if_icmp .ge 42, 3) := dk_162 0 42 (dk_at dksX8_bombs_2 0 rfl rfl)
theorem dX8_bombs_49 : decode cX8_bombs 49 = .ok (.iload 4, 2) := dk_21 4 (dk_at dksX8_bombs_2 3 rfl rfl)
theorem dX8_bombs_51 : decode cX8_bombs 51 = .ok (.ifCond .le 37, 3) := dk_158 0 37 (dk_at dksX8_bombs_2 5 rfl rfl)
theorem dX8_bombs_54 : decode cX8_bombs 54 = .ok (.iload_n 3, 1) := dk_29 (dk_at dksX8_bombs_2 8 rfl rfl)
theorem dX8_bombs_55 : decode cX8_bombs 55 = .ok (.aload_n 0, 1) := dk_42 (dk_at dksX8_bombs_2 9 rfl rfl)
theorem dX8_bombs_56 : decode cX8_bombs 56 = .ok (.iload_n 1, 1) := dk_27 (dk_at dksX8_bombs_2 10 rfl rfl)
theorem dX8_bombs_57 : decode cX8_bombs 57 = .ok (.iload_n 2, 1) := dk_28 (dk_at dksX8_bombs_2 11 rfl rfl)
theorem dX8_bombs_58 : decode cX8_bombs 58 = .ok (.iload 4, 2) := dk_21 4 (dk_at dksX8_bombs_2 12 rfl rfl)
theorem dX8_bombs_60 : decode cX8_bombs 60 = .ok (.iload 5, 2) := dk_21 5 (dk_at dksX8_bombs_2 14 rfl rfl)
theorem dX8_bombs_62 : decode cX8_bombs 62 = .ok (.invokevirtual 245, 3) := dk_182 0 245 (dk_at dksX8_bombs_2 16 rfl rfl)
theorem dX8_bombs_65 : decode cX8_bombs 65 = .ok (.invokestatic 319, 3) := dk_184 1 63 (dk_at dksX8_bombs_2 19 rfl rfl)
theorem dX8_bombs_68 : decode cX8_bombs 68 = .ok (.istore_n 3, 1) := dk_62 (dk_at dksX8_bombs_2 22 rfl rfl)
theorem dX8_bombs_69 : decode cX8_bombs 69 = .ok (.aload_n 0, 1) := dk_42 (dk_at dksX8_bombs_2 23 rfl rfl)
theorem dX8_bombs_70 : decode cX8_bombs 70 = .ok (.iload_n 1, 1) := dk_27 (dk_at dksX8_bombs_3 0 rfl rfl)
theorem dX8_bombs_71 : decode cX8_bombs 71 = .ok (.iload_n 2, 1) := dk_28 (dk_at dksX8_bombs_3 1 rfl rfl)
theorem dX8_bombs_72 : decode cX8_bombs 72 = .ok (.iload 5, 2) := dk_21 5 (dk_at dksX8_bombs_3 2 rfl rfl)
theorem dX8_bombs_74 : decode cX8_bombs 74 = .ok (.iload 4, 2) := dk_21 4 (dk_at dksX8_bombs_3 4 rfl rfl)
theorem dX8_bombs_76 : decode cX8_bombs 76 = .ok (.iconst 0, 1) := dk_3 (dk_at dksX8_bombs_3 6 rfl rfl)
theorem dX8_bombs_77 : decode cX8_bombs 77 = .ok (.invokevirtual 153, 3) := dk_182 0 153 (dk_at dksX8_bombs_3 7 rfl rfl)
theorem dX8_bombs_80 : decode cX8_bombs 80 = .ok (.istore 4, 2) := dk_54 4 (dk_at dksX8_bombs_3 10 rfl rfl)
theorem dX8_bombs_82 : decode cX8_bombs 82 = .ok (.iinc 5 1, 3) := dk_132 5 1 (dk_at dksX8_bombs_3 12 rfl rfl)
theorem dX8_bombs_85 : decode cX8_bombs 85 = .ok (.goto (-42), 3) := dk_167 255 214 (dk_at dksX8_bombs_3 15 rfl rfl)
theorem dX8_bombs_88 : decode cX8_bombs 88 = .ok (.aload_n 0, 1) := dk_42 (dk_at dksX8_bombs_3 18 rfl rfl)
theorem dX8_bombs_89 : decode cX8_bombs 89 = .ok (.iload_n 3, 1) := dk_29 (dk_at dksX8_bombs_3 19 rfl rfl)
theorem dX8_bombs_90 : decode cX8_bombs 90 = .ok (.i2l, 1) := dk_133 (dk_at dksX8_bombs_3 20 rfl rfl)
theorem dX8_bombs_91 : decode cX8_bombs 91 = .ok (.invokevirtual 180, 3) := dk_182 0 180 (dk_at dksX8_bombs_3 21 rfl rfl)
theorem dX8_bombs_94 : decode cX8_bombs 94 = .ok (.iinc 2 1, 3) := dk_132 2 1 (dk_at dksX8_bombs_4 0 rfl rfl)
theorem dX8_bombs_97 : decode cX8_bombs 97 = .ok (.goto (-75), 3) := dk_167 255 181 (dk_at dksX8_bombs_4 3 rfl rfl)
theorem dX8_bombs_100 : decode cX8_bombs 100 = .ok (.ldc_w 264, 3) := dk_19 1 8 (dk_at dksX8_bombs_4 6 rfl rfl)
theorem dX8_bombs_103 : decode cX8_bombs 103 = .ok (.aload_n 0, 1) := dk_42 (dk_at dksX8_bombs_4 9 rfl rfl)
theorem dX8_bombs_104 : decode cX8_bombs 104 = .ok (.iload_n 1, 1) := dk_27 (dk_at dksX8_bombs_4 10 rfl rfl)
theorem dX8_bombs_105 : decode cX8_bombs 105 = .ok (.iconst 1, 1) := dk_4 (dk_at dksX8_bombs_4 11 rfl rfl)
theorem dX8_bombs_106 : decode cX8_bombs 106 = .ok (.invokevirtual 290, 3) := dk_182 1 34 (dk_at dksX8_bombs_4 12 rfl rfl)
theorem dX8_bombs_109 : decode cX8_bombs 109 = .ok (.isub, 1) := dk_100 (dk_at dksX8_bombs_4 15 rfl rfl)
theorem dX8_bombs_110 : decode cX8_bombs 110 = .ok (.ireturn, 1) := dk_172 (dk_at dksX8_bombs_4 16 rfl rfl)
abbrev cX8_failsToo : ByteArray := prog_21_method_78_code
def yX8_failsToo : MethodName := ⟨RX8, "failsToo", "(II)I"⟩
def dkwX8_failsToo_0 : List UInt8 := [26, 133, 17, 3, 232, 27, 100, 133, 105, 20, 1, 9, 109, 136, 172]
abbrev dktX8_failsToo_0 : List UInt8 := dkwX8_failsToo_0 ++ []
theorem dksX8_failsToo_0 : cX8_failsToo.data.toList.drop 0 = dktX8_failsToo_0 := by decide +kernel
theorem dX8_failsToo_0 : decode cX8_failsToo 0 = .ok (.iload_n 0, 1) := dk_26 (dk_at dksX8_failsToo_0 0 rfl rfl)
theorem dX8_failsToo_1 : decode cX8_failsToo 1 = .ok (.i2l, 1) := dk_133 (dk_at dksX8_failsToo_0 1 rfl rfl)
theorem dX8_failsToo_2 : decode cX8_failsToo 2 = .ok (.sipush 1000, 3) := dk_17 3 232 (dk_at dksX8_failsToo_0 2 rfl rfl)
theorem dX8_failsToo_5 : decode cX8_failsToo 5 = .ok (.iload_n 1, 1) := dk_27 (dk_at dksX8_failsToo_0 5 rfl rfl)
theorem dX8_failsToo_6 : decode cX8_failsToo 6 = .ok (.isub, 1) := dk_100 (dk_at dksX8_failsToo_0 6 rfl rfl)
theorem dX8_failsToo_7 : decode cX8_failsToo 7 = .ok (.i2l, 1) := dk_133 (dk_at dksX8_failsToo_0 7 rfl rfl)
theorem dX8_failsToo_8 : decode cX8_failsToo 8 = .ok (.lmul, 1) := dk_105 (dk_at dksX8_failsToo_0 8 rfl rfl)
theorem dX8_failsToo_9 : decode cX8_failsToo 9 = .ok (.ldc2_w 265, 3) := dk_20 1 9 (dk_at dksX8_failsToo_0 9 rfl rfl)
theorem dX8_failsToo_12 : decode cX8_failsToo 12 = .ok (.ldiv, 1) := dk_109 (dk_at dksX8_failsToo_0 12 rfl rfl)
theorem dX8_failsToo_13 : decode cX8_failsToo 13 = .ok (.l2i, 1) := dk_136 (dk_at dksX8_failsToo_0 13 rfl rfl)
theorem dX8_failsToo_14 : decode cX8_failsToo 14 = .ok (.ireturn, 1) := dk_172 (dk_at dksX8_failsToo_0 14 rfl rfl)
abbrev cX8_opener : ByteArray := prog_21_method_80_code
def yX8_opener : MethodName := ⟨RX8, "opener", "(III)I"⟩
def dkwX8_opener_4 : List UInt8 := [167, 255, 202, 16, 254, 172]
abbrev dktX8_opener_4 : List UInt8 := dkwX8_opener_4 ++ []
def dkwX8_opener_3 : List UInt8 := [184, 1, 63, 54, 5, 132, 6, 1, 167, 255, 230, 21, 5, 29, 163, 0, 6, 21, 4, 172, 132, 4, 255]
abbrev dktX8_opener_3 : List UInt8 := dkwX8_opener_3 ++ dktX8_opener_4
def dkwX8_opener_2 : List UInt8 := [54, 5, 3, 54, 6, 21, 6, 6, 162, 0, 26, 21, 5, 42, 27, 28, 21, 4, 21, 6, 182, 0, 245]
abbrev dktX8_opener_2 : List UInt8 := dkwX8_opener_2 ++ dktX8_opener_3
def dkwX8_opener_1 : List UInt8 := [20, 1, 43, 184, 0, 87, 154, 0, 5, 2, 172, 16, 40, 54, 4, 21, 4, 158, 0, 55, 19, 1, 8]
abbrev dktX8_opener_1 : List UInt8 := dkwX8_opener_1 ++ dktX8_opener_2
def dkwX8_opener_0 : List UInt8 := [42, 3, 181, 0, 77, 42, 27, 182, 0, 233, 153, 0, 22, 28, 184, 0, 236, 153, 0, 15, 29, 133, 9]
abbrev dktX8_opener_0 : List UInt8 := dkwX8_opener_0 ++ dktX8_opener_1
theorem dksX8_opener_0 : cX8_opener.data.toList.drop 0 = dktX8_opener_0 := by decide +kernel
theorem dksX8_opener_1 : cX8_opener.data.toList.drop 23 = dktX8_opener_1 := dk_seg dksX8_opener_0 23 rfl rfl
theorem dksX8_opener_2 : cX8_opener.data.toList.drop 46 = dktX8_opener_2 := dk_seg dksX8_opener_1 23 rfl rfl
theorem dksX8_opener_3 : cX8_opener.data.toList.drop 69 = dktX8_opener_3 := dk_seg dksX8_opener_2 23 rfl rfl
theorem dksX8_opener_4 : cX8_opener.data.toList.drop 92 = dktX8_opener_4 := dk_seg dksX8_opener_3 23 rfl rfl
theorem dX8_opener_0 : decode cX8_opener 0 = .ok (.aload_n 0, 1) := dk_42 (dk_at dksX8_opener_0 0 rfl rfl)
theorem dX8_opener_1 : decode cX8_opener 1 = .ok (.iconst 0, 1) := dk_3 (dk_at dksX8_opener_0 1 rfl rfl)
theorem dX8_opener_2 : decode cX8_opener 2 = .ok (.putfield 77, 3) := dk_181 0 77 (dk_at dksX8_opener_0 2 rfl rfl)
theorem dX8_opener_5 : decode cX8_opener 5 = .ok (.aload_n 0, 1) := dk_42 (dk_at dksX8_opener_0 5 rfl rfl)
theorem dX8_opener_6 : decode cX8_opener 6 = .ok (.iload_n 1, 1) := dk_27 (dk_at dksX8_opener_0 6 rfl rfl)
theorem dX8_opener_7 : decode cX8_opener 7 = .ok (.invokevirtual 233, 3) := dk_182 0 233 (dk_at dksX8_opener_0 7 rfl rfl)
theorem dX8_opener_10 : decode cX8_opener 10 = .ok (.ifCond .eq 22, 3) := dk_153 0 22 (dk_at dksX8_opener_0 10 rfl rfl)
theorem dX8_opener_13 : decode cX8_opener 13 = .ok (.iload_n 2, 1) := dk_28 (dk_at dksX8_opener_0 13 rfl rfl)
theorem dX8_opener_14 : decode cX8_opener 14 = .ok (.invokestatic 236, 3) := dk_184 0 236 (dk_at dksX8_opener_0 14 rfl rfl)
theorem dX8_opener_17 : decode cX8_opener 17 = .ok (.ifCond .eq 15, 3) := dk_153 0 15 (dk_at dksX8_opener_0 17 rfl rfl)
theorem dX8_opener_20 : decode cX8_opener 20 = .ok (.iload_n 3, 1) := dk_29 (dk_at dksX8_opener_0 20 rfl rfl)
theorem dX8_opener_21 : decode cX8_opener 21 = .ok (.i2l, 1) := dk_133 (dk_at dksX8_opener_0 21 rfl rfl)
theorem dX8_opener_22 : decode cX8_opener 22 = .ok (.lconst 0, 1) := dk_9 (dk_at dksX8_opener_0 22 rfl rfl)
theorem dX8_opener_23 : decode cX8_opener 23 = .ok (.ldc2_w 299, 3) := dk_20 1 43 (dk_at dksX8_opener_1 0 rfl rfl)
theorem dX8_opener_26 : decode cX8_opener 26 = .ok (.invokestatic 87, 3) := dk_184 0 87 (dk_at dksX8_opener_1 3 rfl rfl)
theorem dX8_opener_29 : decode cX8_opener 29 = .ok (.ifCond .ne 5, 3) := dk_154 0 5 (dk_at dksX8_opener_1 6 rfl rfl)
theorem dX8_opener_32 : decode cX8_opener 32 = .ok (.iconst (-1), 1) := dk_2 (dk_at dksX8_opener_1 9 rfl rfl)
theorem dX8_opener_33 : decode cX8_opener 33 = .ok (.ireturn, 1) := dk_172 (dk_at dksX8_opener_1 10 rfl rfl)
theorem dX8_opener_34 : decode cX8_opener 34 = .ok (.bipush 40, 2) := dk_16 40 (dk_at dksX8_opener_1 11 rfl rfl)
theorem dX8_opener_36 : decode cX8_opener 36 = .ok (.istore 4, 2) := dk_54 4 (dk_at dksX8_opener_1 13 rfl rfl)
theorem dX8_opener_38 : decode cX8_opener 38 = .ok (.iload 4, 2) := dk_21 4 (dk_at dksX8_opener_1 15 rfl rfl)
theorem dX8_opener_40 : decode cX8_opener 40 = .ok (.ifCond .le 55, 3) := dk_158 0 55 (dk_at dksX8_opener_1 17 rfl rfl)
theorem dX8_opener_43 : decode cX8_opener 43 = .ok (.ldc_w 264, 3) := dk_19 1 8 (dk_at dksX8_opener_1 20 rfl rfl)
theorem dX8_opener_46 : decode cX8_opener 46 = .ok (.istore 5, 2) := dk_54 5 (dk_at dksX8_opener_2 0 rfl rfl)
theorem dX8_opener_48 : decode cX8_opener 48 = .ok (.iconst 0, 1) := dk_3 (dk_at dksX8_opener_2 2 rfl rfl)
theorem dX8_opener_49 : decode cX8_opener 49 = .ok (.istore 6, 2) := dk_54 6 (dk_at dksX8_opener_2 3 rfl rfl)
theorem dX8_opener_51 : decode cX8_opener 51 = .ok (.iload 6, 2) := dk_21 6 (dk_at dksX8_opener_2 5 rfl rfl)
theorem dX8_opener_53 : decode cX8_opener 53 = .ok (.iconst 3, 1) := dk_6 (dk_at dksX8_opener_2 7 rfl rfl)
theorem dX8_opener_54 : decode cX8_opener 54 = .ok (.if_icmp .ge 26, 3) := dk_162 0 26 (dk_at dksX8_opener_2 8 rfl rfl)
theorem dX8_opener_57 : decode cX8_opener 57 = .ok (.iload 5, 2) := dk_21 5 (dk_at dksX8_opener_2 11 rfl rfl)
theorem dX8_opener_59 : decode cX8_opener 59 = .ok (.aload_n 0, 1) := dk_42 (dk_at dksX8_opener_2 13 rfl rfl)
theorem dX8_opener_60 : decode cX8_opener 60 = .ok (.iload_n 1, 1) := dk_27 (dk_at dksX8_opener_2 14 rfl rfl)
theorem dX8_opener_61 : decode cX8_opener 61 = .ok (.iload_n 2, 1) := dk_28 (dk_at dksX8_opener_2 15 rfl rfl)
theorem dX8_opener_62 : decode cX8_opener 62 = .ok (.iload 4, 2) := dk_21 4 (dk_at dksX8_opener_2 16 rfl rfl)
theorem dX8_opener_64 : decode cX8_opener 64 = .ok (.iload 6, 2) := dk_21 6 (dk_at dksX8_opener_2 18 rfl rfl)
theorem dX8_opener_66 : decode cX8_opener 66 = .ok (.invokevirtual 245, 3) := dk_182 0 245 (dk_at dksX8_opener_2 20 rfl rfl)
theorem dX8_opener_69 : decode cX8_opener 69 = .ok (.invokestatic 319, 3) := dk_184 1 63 (dk_at dksX8_opener_3 0 rfl rfl)
theorem dX8_opener_72 : decode cX8_opener 72 = .ok (.istore 5, 2) := dk_54 5 (dk_at dksX8_opener_3 3 rfl rfl)
theorem dX8_opener_74 : decode cX8_opener 74 = .ok (.iinc 6 1, 3) := dk_132 6 1 (dk_at dksX8_opener_3 5 rfl rfl)
theorem dX8_opener_77 : decode cX8_opener 77 = .ok (.goto (-26), 3) := dk_167 255 230 (dk_at dksX8_opener_3 8 rfl rfl)
theorem dX8_opener_80 : decode cX8_opener 80 = .ok (.iload 5, 2) := dk_21 5 (dk_at dksX8_opener_3 11 rfl rfl)
theorem dX8_opener_82 : decode cX8_opener 82 = .ok (.iload_n 3, 1) := dk_29 (dk_at dksX8_opener_3 13 rfl rfl)
theorem dX8_opener_83 : decode cX8_opener 83 = .ok (.if_icmp .gt 6, 3) := dk_163 0 6 (dk_at dksX8_opener_3 14 rfl rfl)
theorem dX8_opener_86 : decode cX8_opener 86 = .ok (.iload 4, 2) := dk_21 4 (dk_at dksX8_opener_3 17 rfl rfl)
theorem dX8_opener_88 : decode cX8_opener 88 = .ok (.ireturn, 1) := dk_172 (dk_at dksX8_opener_3 19 rfl rfl)
theorem dX8_opener_89 : decode cX8_opener 89 = .ok (.iinc 4 (-1), 3) := dk_132 4 255 (dk_at dksX8_opener_3 20 rfl rfl)
theorem dX8_opener_92 : decode cX8_opener 92 = .ok (.goto (-54), 3) := dk_167 255 202 (dk_at dksX8_opener_4 0 rfl rfl)
theorem dX8_opener_95 : decode cX8_opener 95 = .ok (.bipush (-2), 2) := dk_16 254 (dk_at dksX8_opener_4 3 rfl rfl)
theorem dX8_opener_97 : decode cX8_opener 97 = .ok (.ireturn, 1) := dk_172 (dk_at dksX8_opener_4 5 rfl rfl)
abbrev cX8_heavy : ByteArray := prog_21_method_90_code
def yX8_heavy : MethodName := ⟨RX8, "heavy", "(I)I"⟩
def dkwX8_heavy_1 : List UInt8 := [172]
abbrev dktX8_heavy_1 : List UInt8 := dkwX8_heavy_1 ++ []
def dkwX8_heavy_0 : List UInt8 := [42, 3, 181, 0, 77, 42, 27, 182, 0, 233, 154, 0, 5, 2, 172, 42, 182, 1, 45, 42, 27, 182, 1, 102]
abbrev dktX8_heavy_0 : List UInt8 := dkwX8_heavy_0 ++ dktX8_heavy_1
theorem dksX8_heavy_0 : cX8_heavy.data.toList.drop 0 = dktX8_heavy_0 := by decide +kernel
theorem dksX8_heavy_1 : cX8_heavy.data.toList.drop 24 = dktX8_heavy_1 := dk_seg dksX8_heavy_0 24 rfl rfl
theorem dX8_heavy_0 : decode cX8_heavy 0 = .ok (.aload_n 0, 1) := dk_42 (dk_at dksX8_heavy_0 0 rfl rfl)
theorem dX8_heavy_1 : decode cX8_heavy 1 = .ok (.iconst 0, 1) := dk_3 (dk_at dksX8_heavy_0 1 rfl rfl)
theorem dX8_heavy_2 : decode cX8_heavy 2 = .ok (.putfield 77, 3) := dk_181 0 77 (dk_at dksX8_heavy_0 2 rfl rfl)
theorem dX8_heavy_5 : decode cX8_heavy 5 = .ok (.aload_n 0, 1) := dk_42 (dk_at dksX8_heavy_0 5 rfl rfl)
theorem dX8_heavy_6 : decode cX8_heavy 6 = .ok (.iload_n 1, 1) := dk_27 (dk_at dksX8_heavy_0 6 rfl rfl)
theorem dX8_heavy_7 : decode cX8_heavy 7 = .ok (.invokevirtual 233, 3) := dk_182 0 233 (dk_at dksX8_heavy_0 7 rfl rfl)
theorem dX8_heavy_10 : decode cX8_heavy 10 = .ok (.ifCond .ne 5, 3) := dk_154 0 5 (dk_at dksX8_heavy_0 10 rfl rfl)
theorem dX8_heavy_13 : decode cX8_heavy 13 = .ok (.iconst (-1), 1) := dk_2 (dk_at dksX8_heavy_0 13 rfl rfl)
theorem dX8_heavy_14 : decode cX8_heavy 14 = .ok (.ireturn, 1) := dk_172 (dk_at dksX8_heavy_0 14 rfl rfl)
theorem dX8_heavy_15 : decode cX8_heavy 15 = .ok (.aload_n 0, 1) := dk_42 (dk_at dksX8_heavy_0 15 rfl rfl)
theorem dX8_heavy_16 : decode cX8_heavy 16 = .ok (.invokevirtual 301, 3) := dk_182 1 45 (dk_at dksX8_heavy_0 16 rfl rfl)
theorem dX8_heavy_19 : decode cX8_heavy 19 = .ok (.aload_n 0, 1) := dk_42 (dk_at dksX8_heavy_0 19 rfl rfl)
theorem dX8_heavy_20 : decode cX8_heavy 20 = .ok (.iload_n 1, 1) := dk_27 (dk_at dksX8_heavy_0 20 rfl rfl)
theorem dX8_heavy_21 : decode cX8_heavy 21 = .ok (.invokevirtual 358, 3) := dk_182 1 102 (dk_at dksX8_heavy_0 21 rfl rfl)
theorem dX8_heavy_24 : decode cX8_heavy 24 = .ok (.ireturn, 1) := dk_172 (dk_at dksX8_heavy_1 0 rfl rfl)
abbrev cX8_tellsFree : ByteArray := prog_21_method_89_code
def yX8_tellsFree : MethodName := ⟨RX8, "tellsFree", "(I)I"⟩
def dkwX8_tellsFree_1 : List UInt8 := [182, 1, 31, 133, 182, 0, 180, 28, 172]
abbrev dktX8_tellsFree_1 : List UInt8 := dkwX8_tellsFree_1 ++ []
def dkwX8_tellsFree_0 : List UInt8 := [42, 27, 182, 1, 99, 61, 42, 3, 181, 0, 81, 42, 42, 180, 1, 90, 133, 182, 0, 180, 42, 42, 27]
abbrev dktX8_tellsFree_0 : List UInt8 := dkwX8_tellsFree_0 ++ dktX8_tellsFree_1
theorem dksX8_tellsFree_0 : cX8_tellsFree.data.toList.drop 0 = dktX8_tellsFree_0 := by decide +kernel
theorem dksX8_tellsFree_1 : cX8_tellsFree.data.toList.drop 23 = dktX8_tellsFree_1 := dk_seg dksX8_tellsFree_0 23 rfl rfl
theorem dX8_tellsFree_0 : decode cX8_tellsFree 0 = .ok (.aload_n 0, 1) := dk_42 (dk_at dksX8_tellsFree_0 0 rfl rfl)
theorem dX8_tellsFree_1 : decode cX8_tellsFree 1 = .ok (.iload_n 1, 1) := dk_27 (dk_at dksX8_tellsFree_0 1 rfl rfl)
theorem dX8_tellsFree_2 : decode cX8_tellsFree 2 = .ok (.invokevirtual 355, 3) := dk_182 1 99 (dk_at dksX8_tellsFree_0 2 rfl rfl)
theorem dX8_tellsFree_5 : decode cX8_tellsFree 5 = .ok (.istore_n 2, 1) := dk_61 (dk_at dksX8_tellsFree_0 5 rfl rfl)
theorem dX8_tellsFree_6 : decode cX8_tellsFree 6 = .ok (.aload_n 0, 1) := dk_42 (dk_at dksX8_tellsFree_0 6 rfl rfl)
theorem dX8_tellsFree_7 : decode cX8_tellsFree 7 = .ok (.iconst 0, 1) := dk_3 (dk_at dksX8_tellsFree_0 7 rfl rfl)
theorem dX8_tellsFree_8 : decode cX8_tellsFree 8 = .ok (.putfield 81, 3) := dk_181 0 81 (dk_at dksX8_tellsFree_0 8 rfl rfl)
theorem dX8_tellsFree_11 : decode cX8_tellsFree 11 = .ok (.aload_n 0, 1) := dk_42 (dk_at dksX8_tellsFree_0 11 rfl rfl)
theorem dX8_tellsFree_12 : decode cX8_tellsFree 12 = .ok (.aload_n 0, 1) := dk_42 (dk_at dksX8_tellsFree_0 12 rfl rfl)
theorem dX8_tellsFree_13 : decode cX8_tellsFree 13 = .ok (.getfield 346, 3) := dk_180 1 90 (dk_at dksX8_tellsFree_0 13 rfl rfl)
theorem dX8_tellsFree_16 : decode cX8_tellsFree 16 = .ok (.i2l, 1) := dk_133 (dk_at dksX8_tellsFree_0 16 rfl rfl)
theorem dX8_tellsFree_17 : decode cX8_tellsFree 17 = .ok (.invokevirtual 180, 3) := dk_182 0 180 (dk_at dksX8_tellsFree_0 17 rfl rfl)
theorem dX8_tellsFree_20 : decode cX8_tellsFree 20 = .ok (.aload_n 0, 1) := dk_42 (dk_at dksX8_tellsFree_0 20 rfl rfl)
theorem dX8_tellsFree_21 : decode cX8_tellsFree 21 = .ok (.aload_n 0, 1) := dk_42 (dk_at dksX8_tellsFree_0 21 rfl rfl)
theorem dX8_tellsFree_22 : decode cX8_tellsFree 22 = .ok (.iload_n 1, 1) := dk_27 (dk_at dksX8_tellsFree_0 22 rfl rfl)
theorem dX8_tellsFree_23 : decode cX8_tellsFree 23 = .ok (.invokevirtual 287, 3) := dk_182 1 31 (dk_at dksX8_tellsFree_1 0 rfl rfl)
theorem dX8_tellsFree_26 : decode cX8_tellsFree 26 = .ok (.i2l, 1) := dk_133 (dk_at dksX8_tellsFree_1 3 rfl rfl)
theorem dX8_tellsFree_27 : decode cX8_tellsFree 27 = .ok (.invokevirtual 180, 3) := dk_182 0 180 (dk_at dksX8_tellsFree_1 4 rfl rfl)
theorem dX8_tellsFree_30 : decode cX8_tellsFree 30 = .ok (.iload_n 2, 1) := dk_28 (dk_at dksX8_tellsFree_1 7 rfl rfl)
theorem dX8_tellsFree_31 : decode cX8_tellsFree 31 = .ok (.ireturn, 1) := dk_172 (dk_at dksX8_tellsFree_1 8 rfl rfl)
abbrev cX8_freeNow : ByteArray := prog_21_method_87_code
def yX8_freeNow : MethodName := ⟨RX8, "freeNow", "(I)I"⟩
def dkwX8_freeNow_6 : List UInt8 := [42, 27, 182, 0, 249, 29, 182, 1, 82, 54, 5, 42, 42, 180, 1, 66, 181, 1, 90, 21, 5, 172]
abbrev dktX8_freeNow_6 : List UInt8 := dkwX8_freeNow_6 ++ []
def dkwX8_freeNow_5 : List UInt8 := [42, 27, 182, 1, 21, 21, 4, 182, 1, 86, 42, 27, 28, 42, 27, 182, 1, 21, 42, 27, 7, 182, 0, 106]
abbrev dktX8_freeNow_5 : List UInt8 := dkwX8_freeNow_5 ++ dktX8_freeNow_6
def dkwX8_freeNow_4 : List UInt8 := [42, 27, 28, 4, 96, 21, 4, 29, 96, 182, 1, 96, 42, 28, 29, 21, 4, 182, 1, 79, 172, 42, 27, 28]
abbrev dktX8_freeNow_4 : List UInt8 := dkwX8_freeNow_4 ++ dktX8_freeNow_5
def dkwX8_freeNow_3 : List UInt8 := [182, 0, 249, 16, 40, 164, 0, 40, 29, 154, 0, 10, 42, 180, 0, 56, 3, 46, 172, 28, 5, 162, 0, 15]
abbrev dktX8_freeNow_3 : List UInt8 := dkwX8_freeNow_3 ++ dktX8_freeNow_4
def dkwX8_freeNow_2 : List UInt8 := [42, 27, 182, 1, 24, 54, 4, 42, 27, 28, 182, 1, 93, 42, 27, 182, 0, 249, 153, 0, 13, 42, 27]
abbrev dktX8_freeNow_2 : List UInt8 := dkwX8_freeNow_2 ++ dktX8_freeNow_3
def dkwX8_freeNow_1 : List UInt8 := [42, 27, 182, 0, 167, 46, 172, 42, 180, 0, 32, 3, 46, 61, 42, 27, 16, 7, 28, 96, 182, 0, 106, 62]
abbrev dktX8_freeNow_1 : List UInt8 := dkwX8_freeNow_1 ++ dktX8_freeNow_2
def dkwX8_freeNow_0 : List UInt8 := [42, 3, 181, 1, 90, 42, 27, 182, 0, 121, 154, 0, 10, 42, 182, 0, 113, 153, 0, 14, 42, 180, 0, 56]
abbrev dktX8_freeNow_0 : List UInt8 := dkwX8_freeNow_0 ++ dktX8_freeNow_1
theorem dksX8_freeNow_0 : cX8_freeNow.data.toList.drop 0 = dktX8_freeNow_0 := by decide +kernel
theorem dksX8_freeNow_1 : cX8_freeNow.data.toList.drop 24 = dktX8_freeNow_1 := dk_seg dksX8_freeNow_0 24 rfl rfl
theorem dksX8_freeNow_2 : cX8_freeNow.data.toList.drop 48 = dktX8_freeNow_2 := dk_seg dksX8_freeNow_1 24 rfl rfl
theorem dksX8_freeNow_3 : cX8_freeNow.data.toList.drop 71 = dktX8_freeNow_3 := dk_seg dksX8_freeNow_2 23 rfl rfl
theorem dksX8_freeNow_4 : cX8_freeNow.data.toList.drop 95 = dktX8_freeNow_4 := dk_seg dksX8_freeNow_3 24 rfl rfl
theorem dksX8_freeNow_5 : cX8_freeNow.data.toList.drop 119 = dktX8_freeNow_5 := dk_seg dksX8_freeNow_4 24 rfl rfl
theorem dksX8_freeNow_6 : cX8_freeNow.data.toList.drop 143 = dktX8_freeNow_6 := dk_seg dksX8_freeNow_5 24 rfl rfl
theorem dX8_freeNow_0 : decode cX8_freeNow 0 = .ok (.aload_n 0, 1) := dk_42 (dk_at dksX8_freeNow_0 0 rfl rfl)
theorem dX8_freeNow_1 : decode cX8_freeNow 1 = .ok (.iconst 0, 1) := dk_3 (dk_at dksX8_freeNow_0 1 rfl rfl)
theorem dX8_freeNow_2 : decode cX8_freeNow 2 = .ok (.putfield 346, 3) := dk_181 1 90 (dk_at dksX8_freeNow_0 2 rfl rfl)
theorem dX8_freeNow_5 : decode cX8_freeNow 5 = .ok (.aload_n 0, 1) := dk_42 (dk_at dksX8_freeNow_0 5 rfl rfl)
theorem dX8_freeNow_6 : decode cX8_freeNow 6 = .ok (.iload_n 1, 1) := dk_27 (dk_at dksX8_freeNow_0 6 rfl rfl)
theorem dX8_freeNow_7 : decode cX8_freeNow 7 = .ok (.invokevirtual 121, 3) := dk_182 0 121 (dk_at dksX8_freeNow_0 7 rfl rfl)
theorem dX8_freeNow_10 : decode cX8_freeNow 10 = .ok (.ifCond .ne 10, 3) := dk_154 0 10 (dk_at dksX8_freeNow_0 10 rfl rfl)
theorem dX8_freeNow_13 : decode cX8_freeNow 13 = .ok (.aload_n 0, 1) := dk_42 (dk_at dksX8_freeNow_0 13 rfl rfl)
theorem dX8_freeNow_14 : decode cX8_freeNow 14 = .ok (.invokevirtual 113, 3) := dk_182 0 113 (dk_at dksX8_freeNow_0 14 rfl rfl)
theorem dX8_freeNow_17 : decode cX8_freeNow 17 = .ok (.ifCond .eq 14, 3) := dk_153 0 14 (dk_at dksX8_freeNow_0 17 rfl rfl)
theorem dX8_freeNow_20 : decode cX8_freeNow 20 = .ok (.aload_n 0, 1) := dk_42 (dk_at dksX8_freeNow_0 20 rfl rfl)
theorem dX8_freeNow_21 : decode cX8_freeNow 21 = .ok (.getfield 56, 3) := dk_180 0 56 (dk_at dksX8_freeNow_0 21 rfl rfl)
theorem dX8_freeNow_24 : decode cX8_freeNow 24 = .ok (.aload_n 0, 1) := dk_42 (dk_at dksX8_freeNow_1 0 rfl rfl)
theorem dX8_freeNow_25 : decode cX8_freeNow 25 = .ok (.iload_n 1, 1) := dk_27 (dk_at dksX8_freeNow_1 1 rfl rfl)
theorem dX8_freeNow_26 : decode cX8_freeNow 26 = .ok (.invokevirtual 167, 3) := dk_182 0 167 (dk_at dksX8_freeNow_1 2 rfl rfl)
theorem dX8_freeNow_29 : decode cX8_freeNow 29 = .ok (.iaload, 1) := dk_46 (dk_at dksX8_freeNow_1 5 rfl rfl)
theorem dX8_freeNow_30 : decode cX8_freeNow 30 = .ok (.ireturn, 1) := dk_172 (dk_at dksX8_freeNow_1 6 rfl rfl)
theorem dX8_freeNow_31 : decode cX8_freeNow 31 = .ok (.aload_n 0, 1) := dk_42 (dk_at dksX8_freeNow_1 7 rfl rfl)
theorem dX8_freeNow_32 : decode cX8_freeNow 32 = .ok (.getfield 32, 3) := dk_180 0 32 (dk_at dksX8_freeNow_1 8 rfl rfl)
theorem dX8_freeNow_35 : decode cX8_freeNow 35 = .ok (.iconst 0, 1) := dk_3 (dk_at dksX8_freeNow_1 11 rfl rfl)
theorem dX8_freeNow_36 : decode cX8_freeNow 36 = .ok (.iaload, 1) := dk_46 (dk_at dksX8_freeNow_1 12 rfl rfl)
theorem dX8_freeNow_37 : decode cX8_freeNow 37 = .ok (.istore_n 2, 1) := dk_61 (dk_at dksX8_freeNow_1 13 rfl rfl)
theorem dX8_freeNow_38 : decode cX8_freeNow 38 = .ok (.aload_n 0, 1) := dk_42 (dk_at dksX8_freeNow_1 14 rfl rfl)
theorem dX8_freeNow_39 : decode cX8_freeNow 39 = .ok (.iload_n 1, 1) := dk_27 (dk_at dksX8_freeNow_1 15 rfl rfl)
theorem dX8_freeNow_40 : decode cX8_freeNow 40 = .ok (.bipush 7, 2) := dk_16 7 (dk_at dksX8_freeNow_1 16 rfl rfl)
theorem dX8_freeNow_42 : decode cX8_freeNow 42 = .ok (.iload_n 2, 1) := dk_28 (dk_at dksX8_freeNow_1 18 rfl rfl)
theorem dX8_freeNow_43 : decode cX8_freeNow 43 = .ok (.iadd, 1) := dk_96 (dk_at dksX8_freeNow_1 19 rfl rfl)
theorem dX8_freeNow_44 : decode cX8_freeNow 44 = .ok (.invokevirtual 106, 3) := dk_182 0 106 (dk_at dksX8_freeNow_1 20 rfl rfl)
theorem dX8_freeNow_47 : decode cX8_freeNow 47 = .ok (.istore_n 3, 1) := dk_62 (dk_at dksX8_freeNow_1 23 rfl rfl)
theorem dX8_freeNow_48 : decode cX8_freeNow 48 = .ok (.aload_n 0, 1) := dk_42 (dk_at dksX8_freeNow_2 0 rfl rfl)
theorem dX8_freeNow_49 : decode cX8_freeNow 49 = .ok (.iload_n 1, 1) := dk_27 (dk_at dksX8_freeNow_2 1 rfl rfl)
theorem dX8_freeNow_50 : decode cX8_freeNow 50 = .ok (.invokevirtual 280, 3) := dk_182 1 24 (dk_at dksX8_freeNow_2 2 rfl rfl)
theorem dX8_freeNow_53 : decode cX8_freeNow 53 = .ok (.istore 4, 2) := dk_54 4 (dk_at dksX8_freeNow_2 5 rfl rfl)
theorem dX8_freeNow_55 : decode cX8_freeNow 55 = .ok (.aload_n 0, 1) := dk_42 (dk_at dksX8_freeNow_2 7 rfl rfl)
theorem dX8_freeNow_56 : decode cX8_freeNow 56 = .ok (.iload_n 1, 1) := dk_27 (dk_at dksX8_freeNow_2 8 rfl rfl)
theorem dX8_freeNow_57 : decode cX8_freeNow 57 = .ok (.iload_n 2, 1) := dk_28 (dk_at dksX8_freeNow_2 9 rfl rfl)
theorem dX8_freeNow_58 : decode cX8_freeNow 58 = .ok (.invokevirtual 349, 3) := dk_182 1 93 (dk_at dksX8_freeNow_2 10 rfl rfl)
theorem dX8_freeNow_61 : decode cX8_freeNow 61 = .ok (.aload_n 0, 1) := dk_42 (dk_at dksX8_freeNow_2 13 rfl rfl)
theorem dX8_freeNow_62 : decode cX8_freeNow 62 = .ok (.iload_n 1, 1) := dk_27 (dk_at dksX8_freeNow_2 14 rfl rfl)
theorem dX8_freeNow_63 : decode cX8_freeNow 63 = .ok (.invokevirtual 249, 3) := dk_182 0 249 (dk_at dksX8_freeNow_2 15 rfl rfl)
theorem dX8_freeNow_66 : decode cX8_freeNow 66 = .ok (.ifCond .eq 13, 3) := dk_153 0 13 (dk_at dksX8_freeNow_2 18 rfl rfl)
theorem dX8_freeNow_69 : decode cX8_freeNow 69 = .ok (.aload_n 0, 1) := dk_42 (dk_at dksX8_freeNow_2 21 rfl rfl)
theorem dX8_freeNow_70 : decode cX8_freeNow 70 = .ok (.iload_n 1, 1) := dk_27 (dk_at dksX8_freeNow_2 22 rfl rfl)
theorem dX8_freeNow_71 : decode cX8_freeNow 71 = .ok (.invokevirtual 249, 3) := dk_182 0 249 (dk_at dksX8_freeNow_3 0 rfl rfl)
theorem dX8_freeNow_74 : decode cX8_freeNow 74 = .ok (.bipush 40, 2) := dk_16 40 (dk_at dksX8_freeNow_3 3 rfl rfl)
theorem dX8_freeNow_76 : decode cX8_freeNow 76 = .ok (.if_icmp .le 40, 3) := dk_164 0 40 (dk_at dksX8_freeNow_3 5 rfl rfl)
theorem dX8_freeNow_79 : decode cX8_freeNow 79 = .ok (.iload_n 3, 1) := dk_29 (dk_at dksX8_freeNow_3 8 rfl rfl)
theorem dX8_freeNow_80 : decode cX8_freeNow 80 = .ok (.ifCond .ne 10, 3) := dk_154 0 10 (dk_at dksX8_freeNow_3 9 rfl rfl)
theorem dX8_freeNow_83 : decode cX8_freeNow 83 = .ok (.aload_n 0, 1) := dk_42 (dk_at dksX8_freeNow_3 12 rfl rfl)
theorem dX8_freeNow_84 : decode cX8_freeNow 84 = .ok (.getfield 56, 3) := dk_180 0 56 (dk_at dksX8_freeNow_3 13 rfl rfl)
theorem dX8_freeNow_87 : decode cX8_freeNow 87 = .ok (.iconst 0, 1) := dk_3 (dk_at dksX8_freeNow_3 16 rfl rfl)
theorem dX8_freeNow_88 : decode cX8_freeNow 88 = .ok (.iaload, 1) := dk_46 (dk_at dksX8_freeNow_3 17 rfl rfl)
theorem dX8_freeNow_89 : decode cX8_freeNow 89 = .ok (.ireturn, 1) := dk_172 (dk_at dksX8_freeNow_3 18 rfl rfl)
theorem dX8_freeNow_90 : decode cX8_freeNow 90 = .ok (.iload_n 2, 1) := dk_28 (dk_at dksX8_freeNow_3 19 rfl rfl)
theorem dX8_freeNow_91 : decode cX8_freeNow 91 = .ok (.iconst 2, 1) := dk_5 (dk_at dksX8_freeNow_3 20 rfl rfl)
theorem dX8_freeNow_92 : decode cX8_freeNow 92 = .ok (.if_icmp .ge 15, 3) := dk_162 0 15 (dk_at dksX8_freeNow_3 21 rfl rfl)
theorem dX8_freeNow_95 : decode cX8_freeNow 95 = .ok (.aload_n 0, 1) := dk_42 (dk_at dksX8_freeNow_4 0 rfl rfl)
theorem dX8_freeNow_96 : decode cX8_freeNow 96 = .ok (.iload_n 1, 1) := dk_27 (dk_at dksX8_freeNow_4 1 rfl rfl)
theorem dX8_freeNow_97 : decode cX8_freeNow 97 = .ok (.iload_n 2, 1) := dk_28 (dk_at dksX8_freeNow_4 2 rfl rfl)
theorem dX8_freeNow_98 : decode cX8_freeNow 98 = .ok (.iconst 1, 1) := dk_4 (dk_at dksX8_freeNow_4 3 rfl rfl)
theorem dX8_freeNow_99 : decode cX8_freeNow 99 = .ok (.iadd, 1) := dk_96 (dk_at dksX8_freeNow_4 4 rfl rfl)
theorem dX8_freeNow_100 : decode cX8_freeNow 100 = .ok (.iload 4, 2) := dk_21 4 (dk_at dksX8_freeNow_4 5 rfl rfl)
theorem dX8_freeNow_102 : decode cX8_freeNow 102 = .ok (.iload_n 3, 1) := dk_29 (dk_at dksX8_freeNow_4 7 rfl rfl)
theorem dX8_freeNow_103 : decode cX8_freeNow 103 = .ok (.iadd, 1) := dk_96 (dk_at dksX8_freeNow_4 8 rfl rfl)
theorem dX8_freeNow_104 : decode cX8_freeNow 104 = .ok (.invokevirtual 352, 3) := dk_182 1 96 (dk_at dksX8_freeNow_4 9 rfl rfl)
theorem dX8_freeNow_107 : decode cX8_freeNow 107 = .ok (.aload_n 0, 1) := dk_42 (dk_at dksX8_freeNow_4 12 rfl rfl)
theorem dX8_freeNow_108 : decode cX8_freeNow 108 = .ok (.iload_n 2, 1) := dk_28 (dk_at dksX8_freeNow_4 13 rfl rfl)
theorem dX8_freeNow_109 : decode cX8_freeNow 109 = .ok (.iload_n 3, 1) := dk_29 (dk_at dksX8_freeNow_4 14 rfl rfl)
theorem dX8_freeNow_110 : decode cX8_freeNow 110 = .ok (.iload 4, 2) := dk_21 4 (dk_at dksX8_freeNow_4 15 rfl rfl)
theorem dX8_freeNow_112 : decode cX8_freeNow 112 = .ok (.invokevirtual 335, 3) := dk_182 1 79 (dk_at dksX8_freeNow_4 17 rfl rfl)
theorem dX8_freeNow_115 : decode cX8_freeNow 115 = .ok (.ireturn, 1) := dk_172 (dk_at dksX8_freeNow_4 20 rfl rfl)
theorem dX8_freeNow_116 : decode cX8_freeNow 116 = .ok (.aload_n 0, 1) := dk_42 (dk_at dksX8_freeNow_4 21 rfl rfl)
theorem dX8_freeNow_117 : decode cX8_freeNow 117 = .ok (.iload_n 1, 1) := dk_27 (dk_at dksX8_freeNow_4 22 rfl rfl)
theorem dX8_freeNow_118 : decode cX8_freeNow 118 = .ok (.iload_n 2, 1) := dk_28 (dk_at dksX8_freeNow_4 23 rfl rfl)
theorem dX8_freeNow_119 : decode cX8_freeNow 119 = .ok (.aload_n 0, 1) := dk_42 (dk_at dksX8_freeNow_5 0 rfl rfl)
theorem dX8_freeNow_120 : decode cX8_freeNow 120 = .ok (.iload_n 1, 1) := dk_27 (dk_at dksX8_freeNow_5 1 rfl rfl)
theorem dX8_freeNow_121 : decode cX8_freeNow 121 = .ok (.invokevirtual 277, 3) := dk_182 1 21 (dk_at dksX8_freeNow_5 2 rfl rfl)
theorem dX8_freeNow_124 : decode cX8_freeNow 124 = .ok (.iload 4, 2) := dk_21 4 (dk_at dksX8_freeNow_5 5 rfl rfl)
theorem dX8_freeNow_126 : decode cX8_freeNow 126 = .ok (.invokevirtual 342, 3) := dk_182 1 86 (dk_at dksX8_freeNow_5 7 rfl rfl)
theorem dX8_freeNow_129 : decode cX8_freeNow 129 = .ok (.aload_n 0, 1) := dk_42 (dk_at dksX8_freeNow_5 10 rfl rfl)
theorem dX8_freeNow_130 : decode cX8_freeNow 130 = .ok (.iload_n 1, 1) := dk_27 (dk_at dksX8_freeNow_5 11 rfl rfl)
theorem dX8_freeNow_131 : decode cX8_freeNow 131 = .ok (.iload_n 2, 1) := dk_28 (dk_at dksX8_freeNow_5 12 rfl rfl)
theorem dX8_freeNow_132 : decode cX8_freeNow 132 = .ok (.aload_n 0, 1) := dk_42 (dk_at dksX8_freeNow_5 13 rfl rfl)
theorem dX8_freeNow_133 : decode cX8_freeNow 133 = .ok (.iload_n 1, 1) := dk_27 (dk_at dksX8_freeNow_5 14 rfl rfl)
theorem dX8_freeNow_134 : decode cX8_freeNow 134 = .ok (.invokevirtual 277, 3) := dk_182 1 21 (dk_at dksX8_freeNow_5 15 rfl rfl)
theorem dX8_freeNow_137 : decode cX8_freeNow 137 = .ok (.aload_n 0, 1) := dk_42 (dk_at dksX8_freeNow_5 18 rfl rfl)
theorem dX8_freeNow_138 : decode cX8_freeNow 138 = .ok (.iload_n 1, 1) := dk_27 (dk_at dksX8_freeNow_5 19 rfl rfl)
theorem dX8_freeNow_139 : decode cX8_freeNow 139 = .ok (.iconst 4, 1) := dk_7 (dk_at dksX8_freeNow_5 20 rfl rfl)
theorem dX8_freeNow_140 : decode cX8_freeNow 140 = .ok (.invokevirtual 106, 3) := dk_182 0 106 (dk_at dksX8_freeNow_5 21 rfl rfl)
theorem dX8_freeNow_143 : decode cX8_freeNow 143 = .ok (.aload_n 0, 1) := dk_42 (dk_at dksX8_freeNow_6 0 rfl rfl)
theorem dX8_freeNow_144 : decode cX8_freeNow 144 = .ok (.iload_n 1, 1) := dk_27 (dk_at dksX8_freeNow_6 1 rfl rfl)
theorem dX8_freeNow_145 : decode cX8_freeNow 145 = .ok (.invokevirtual 249, 3) := dk_182 0 249 (dk_at dksX8_freeNow_6 2 rfl rfl)
theorem dX8_freeNow_148 : decode cX8_freeNow 148 = .ok (.iload_n 3, 1) := dk_29 (dk_at dksX8_freeNow_6 5 rfl rfl)
theorem dX8_freeNow_149 : decode cX8_freeNow 149 = .ok (.invokevirtual 338, 3) := dk_182 1 82 (dk_at dksX8_freeNow_6 6 rfl rfl)
theorem dX8_freeNow_152 : decode cX8_freeNow 152 = .ok (.istore 5, 2) := dk_54 5 (dk_at dksX8_freeNow_6 9 rfl rfl)
theorem dX8_freeNow_154 : decode cX8_freeNow 154 = .ok (.aload_n 0, 1) := dk_42 (dk_at dksX8_freeNow_6 11 rfl rfl)
theorem dX8_freeNow_155 : decode cX8_freeNow 155 = .ok (.aload_n 0, 1) := dk_42 (dk_at dksX8_freeNow_6 12 rfl rfl)
theorem dX8_freeNow_156 : decode cX8_freeNow 156 = .ok (.getfield 322, 3) := dk_180 1 66 (dk_at dksX8_freeNow_6 13 rfl rfl)
theorem dX8_freeNow_159 : decode cX8_freeNow 159 = .ok (.putfield 346, 3) := dk_181 1 90 (dk_at dksX8_freeNow_6 16 rfl rfl)
theorem dX8_freeNow_162 : decode cX8_freeNow 162 = .ok (.iload 5, 2) := dk_21 5 (dk_at dksX8_freeNow_6 19 rfl rfl)
theorem dX8_freeNow_164 : decode cX8_freeNow 164 = .ok (.ireturn, 1) := dk_172 (dk_at dksX8_freeNow_6 21 rfl rfl)
abbrev cX8_laysBehind : ByteArray := prog_21_method_86_code
def yX8_laysBehind : MethodName := ⟨RX8, "laysBehind", "(II)V"⟩
def dkwX8_laysBehind_3 : List UInt8 := [27, 29, 3, 3, 4, 3, 182, 1, 82, 79, 132, 4, 1, 167, 255, 213, 132, 3, 255, 167, 255, 199, 177]
abbrev dktX8_laysBehind_3 : List UInt8 := dkwX8_laysBehind_3 ++ []
def dkwX8_laysBehind_2 : List UInt8 := [163, 0, 40, 42, 27, 29, 3, 21, 4, 182, 1, 86, 42, 180, 0, 65, 16, 121, 29, 104, 21, 4, 96, 42]
abbrev dktX8_laysBehind_2 : List UInt8 := dkwX8_laysBehind_2 ++ dktX8_laysBehind_3
def dkwX8_laysBehind_1 : List UInt8 := [132, 3, 1, 167, 255, 231, 5, 62, 29, 28, 164, 0, 58, 3, 54, 4, 21, 4, 16, 40, 29, 104]
abbrev dktX8_laysBehind_1 : List UInt8 := dkwX8_laysBehind_1 ++ dktX8_laysBehind_2
def dkwX8_laysBehind_0 : List UInt8 := [3, 62, 29, 16, 121, 162, 0, 25, 42, 180, 0, 65, 17, 1, 107, 29, 96, 42, 180, 0, 56, 29, 46, 79]
abbrev dktX8_laysBehind_0 : List UInt8 := dkwX8_laysBehind_0 ++ dktX8_laysBehind_1
theorem dksX8_laysBehind_0 : cX8_laysBehind.data.toList.drop 0 = dktX8_laysBehind_0 := by decide +kernel
theorem dksX8_laysBehind_1 : cX8_laysBehind.data.toList.drop 24 = dktX8_laysBehind_1 := dk_seg dksX8_laysBehind_0 24 rfl rfl
theorem dksX8_laysBehind_2 : cX8_laysBehind.data.toList.drop 46 = dktX8_laysBehind_2 := dk_seg dksX8_laysBehind_1 22 rfl rfl
theorem dksX8_laysBehind_3 : cX8_laysBehind.data.toList.drop 70 = dktX8_laysBehind_3 := dk_seg dksX8_laysBehind_2 24 rfl rfl
theorem dX8_laysBehind_0 : decode cX8_laysBehind 0 = .ok (.iconst 0, 1) := dk_3 (dk_at dksX8_laysBehind_0 0 rfl rfl)
theorem dX8_laysBehind_1 : decode cX8_laysBehind 1 = .ok (.istore_n 3, 1) := dk_62 (dk_at dksX8_laysBehind_0 1 rfl rfl)
theorem dX8_laysBehind_2 : decode cX8_laysBehind 2 = .ok (.iload_n 3, 1) := dk_29 (dk_at dksX8_laysBehind_0 2 rfl rfl)
theorem dX8_laysBehind_3 : decode cX8_laysBehind 3 = .ok (.bipush 121, 2) := dk_16 121 (dk_at dksX8_laysBehind_0 3 rfl rfl)
theorem dX8_laysBehind_5 : decode cX8_laysBehind 5 = .ok (.if_icmp .ge 25, 3) := dk_162 0 25 (dk_at dksX8_laysBehind_0 5 rfl rfl)
theorem dX8_laysBehind_8 : decode cX8_laysBehind 8 = .ok (.aload_n 0, 1) := dk_42 (dk_at dksX8_laysBehind_0 8 rfl rfl)
theorem dX8_laysBehind_9 : decode cX8_laysBehind 9 = .ok (.getfield 65, 3) := dk_180 0 65 (dk_at dksX8_laysBehind_0 9 rfl rfl)
theorem dX8_laysBehind_12 : decode cX8_laysBehind 12 = .ok (.sipush 363, 3) := dk_17 1 107 (dk_at dksX8_laysBehind_0 12 rfl rfl)
theorem dX8_laysBehind_15 : decode cX8_laysBehind 15 = .ok (.iload_n 3, 1) := dk_29 (dk_at dksX8_laysBehind_0 15 rfl rfl)
theorem dX8_laysBehind_16 : decode cX8_laysBehind 16 = .ok (.iadd, 1) := dk_96 (dk_at dksX8_laysBehind_0 16 rfl rfl)
theorem dX8_laysBehind_17 : decode cX8_laysBehind 17 = .ok (.aload_n 0, 1) := dk_42 (dk_at dksX8_laysBehind_0 17 rfl rfl)
theorem dX8_laysBehind_18 : decode cX8_laysBehind 18 = .ok (.getfield 56, 3) := dk_180 0 56 (dk_at dksX8_laysBehind_0 18 rfl rfl)
theorem dX8_laysBehind_21 : decode cX8_laysBehind 21 = .ok (.iload_n 3, 1) := dk_29 (dk_at dksX8_laysBehind_0 21 rfl rfl)
theorem dX8_laysBehind_22 : decode cX8_laysBehind 22 = .ok (.iaload, 1) := dk_46 (dk_at dksX8_laysBehind_0 22 rfl rfl)
theorem dX8_laysBehind_23 : decode cX8_laysBehind 23 = .ok (.iastore, 1) := dk_79 (dk_at dksX8_laysBehind_0 23 rfl rfl)
theorem dX8_laysBehind_24 : decode cX8_laysBehind 24 = .ok (.iinc 3 1, 3) := dk_132 3 1 (dk_at dksX8_laysBehind_1 0 rfl rfl)
theorem dX8_laysBehind_27 : decode cX8_laysBehind 27 = .ok (.goto (-25), 3) := dk_167 255 231 (dk_at dksX8_laysBehind_1 3 rfl rfl)
theorem dX8_laysBehind_30 : decode cX8_laysBehind 30 = .ok (.iconst 2, 1) := dk_5 (dk_at dksX8_laysBehind_1 6 rfl rfl)
theorem dX8_laysBehind_31 : decode cX8_laysBehind 31 = .ok (.istore_n 3, 1) := dk_62 (dk_at dksX8_laysBehind_1 7 rfl rfl)
theorem dX8_laysBehind_32 : decode cX8_laysBehind 32 = .ok (.iload_n 3, 1) := dk_29 (dk_at dksX8_laysBehind_1 8 rfl rfl)
theorem dX8_laysBehind_33 : decode cX8_laysBehind 33 = .ok (.iload_n 2, 1) := dk_28 (dk_at dksX8_laysBehind_1 9 rfl rfl)
theorem dX8_laysBehind_34 : decode cX8_laysBehind 34 = .ok (.if_icmp .le 58, 3) := dk_164 0 58 (dk_at dksX8_laysBehind_1 10 rfl rfl)
theorem dX8_laysBehind_37 : decode cX8_laysBehind 37 = .ok (.iconst 0, 1) := dk_3 (dk_at dksX8_laysBehind_1 13 rfl rfl)
theorem dX8_laysBehind_38 : decode cX8_laysBehind 38 = .ok (.istore 4, 2) := dk_54 4 (dk_at dksX8_laysBehind_1 14 rfl rfl)
theorem dX8_laysBehind_40 : decode cX8_laysBehind 40 = .ok (.iload 4, 2) := dk_21 4 (dk_at dksX8_laysBehind_1 16 rfl rfl)
theorem dX8_laysBehind_42 : decode cX8_laysBehind 42 = .ok (.bipush 40, 2) := dk_16 40 (dk_at dksX8_laysBehind_1 18 rfl rfl)
theorem dX8_laysBehind_44 : decode cX8_laysBehind 44 = .ok (.iload_n 3, 1) := dk_29 (dk_at dksX8_laysBehind_1 20 rfl rfl)
theorem dX8_laysBehind_45 : decode cX8_laysBehind 45 = .ok (.imul, 1) := dk_104 (dk_at dksX8_laysBehind_1 21 rfl rfl)
theorem dX8_laysBehind_46 : decode cX8_laysBehind 46 = .ok (.if_icmp .gt 40, 3) := dk_163 0 40 (dk_at dksX8_laysBehind_2 0 rfl rfl)
theorem dX8_laysBehind_49 : decode cX8_laysBehind 49 = .ok (.aload_n 0, 1) := dk_42 (dk_at dksX8_laysBehind_2 3 rfl rfl)
theorem dX8_laysBehind_50 : decode cX8_laysBehind 50 = .ok (.iload_n 1, 1) := dk_27 (dk_at dksX8_laysBehind_2 4 rfl rfl)
theorem dX8_laysBehind_51 : decode cX8_laysBehind 51 = .ok (.iload_n 3, 1) := dk_29 (dk_at dksX8_laysBehind_2 5 rfl rfl)
theorem dX8_laysBehind_52 : decode cX8_laysBehind 52 = .ok (.iconst 0, 1) := dk_3 (dk_at dksX8_laysBehind_2 6 rfl rfl)
theorem dX8_laysBehind_53 : decode cX8_laysBehind 53 = .ok (.iload 4, 2) := dk_21 4 (dk_at dksX8_laysBehind_2 7 rfl rfl)
theorem dX8_laysBehind_55 : decode cX8_laysBehind 55 = .ok (.invokevirtual 342, 3) := dk_182 1 86 (dk_at dksX8_laysBehind_2 9 rfl rfl)
theorem dX8_laysBehind_58 : decode cX8_laysBehind 58 = .ok (.aload_n 0, 1) := dk_42 (dk_at dksX8_laysBehind_2 12 rfl rfl)
theorem dX8_laysBehind_59 : decode cX8_laysBehind 59 = .ok (.getfield 65, 3) := dk_180 0 65 (dk_at dksX8_laysBehind_2 13 rfl rfl)
theorem dX8_laysBehind_62 : decode cX8_laysBehind 62 = .ok (.bipush 121, 2) := dk_16 121 (dk_at dksX8_laysBehind_2 16 rfl rfl)
theorem dX8_laysBehind_64 : decode cX8_laysBehind 64 = .ok (.iload_n 3, 1) := dk_29 (dk_at dksX8_laysBehind_2 18 rfl rfl)
theorem dX8_laysBehind_65 : decode cX8_laysBehind 65 = .ok (.imul, 1) := dk_104 (dk_at dksX8_laysBehind_2 19 rfl rfl)
theorem dX8_laysBehind_66 : decode cX8_laysBehind 66 = .ok (.iload 4, 2) := dk_21 4 (dk_at dksX8_laysBehind_2 20 rfl rfl)
theorem dX8_laysBehind_68 : decode cX8_laysBehind 68 = .ok (.iadd, 1) := dk_96 (dk_at dksX8_laysBehind_2 22 rfl rfl)
theorem dX8_laysBehind_69 : decode cX8_laysBehind 69 = .ok (.aload_n 0, 1) := dk_42 (dk_at dksX8_laysBehind_2 23 rfl rfl)
theorem dX8_laysBehind_70 : decode cX8_laysBehind 70 = .ok (.iload_n 1, 1) := dk_27 (dk_at dksX8_laysBehind_3 0 rfl rfl)
theorem dX8_laysBehind_71 : decode cX8_laysBehind 71 = .ok (.iload_n 3, 1) := dk_29 (dk_at dksX8_laysBehind_3 1 rfl rfl)
theorem dX8_laysBehind_72 : decode cX8_laysBehind 72 = .ok (.iconst 0, 1) := dk_3 (dk_at dksX8_laysBehind_3 2 rfl rfl)
theorem dX8_laysBehind_73 : decode cX8_laysBehind 73 = .ok (.iconst 0, 1) := dk_3 (dk_at dksX8_laysBehind_3 3 rfl rfl)
theorem dX8_laysBehind_74 : decode cX8_laysBehind 74 = .ok (.iconst 1, 1) := dk_4 (dk_at dksX8_laysBehind_3 4 rfl rfl)
theorem dX8_laysBehind_75 : decode cX8_laysBehind 75 = .ok (.iconst 0, 1) := dk_3 (dk_at dksX8_laysBehind_3 5 rfl rfl)
theorem dX8_laysBehind_76 : decode cX8_laysBehind 76 = .ok (.invokevirtual 338, 3) := dk_182 1 82 (dk_at dksX8_laysBehind_3 6 rfl rfl)
theorem dX8_laysBehind_79 : decode cX8_laysBehind 79 = .ok (.iastore, 1) := dk_79 (dk_at dksX8_laysBehind_3 9 rfl rfl)
theorem dX8_laysBehind_80 : decode cX8_laysBehind 80 = .ok (.iinc 4 1, 3) := dk_132 4 1 (dk_at dksX8_laysBehind_3 10 rfl rfl)
theorem dX8_laysBehind_83 : decode cX8_laysBehind 83 = .ok (.goto (-43), 3) := dk_167 255 213 (dk_at dksX8_laysBehind_3 13 rfl rfl)
theorem dX8_laysBehind_86 : decode cX8_laysBehind 86 = .ok (.iinc 3 (-1), 3) := dk_132 3 255 (dk_at dksX8_laysBehind_3 16 rfl rfl)
theorem dX8_laysBehind_89 : decode cX8_laysBehind 89 = .ok (.goto (-57), 3) := dk_167 255 199 (dk_at dksX8_laysBehind_3 19 rfl rfl)
theorem dX8_laysBehind_92 : decode cX8_laysBehind 92 = .ok (.return_, 1) := dk_177 (dk_at dksX8_laysBehind_3 22 rfl rfl)
abbrev cX8_laysRounds : ByteArray := prog_21_method_85_code
def yX8_laysRounds : MethodName := ⟨RX8, "laysRounds", "(IIII)V"⟩
def dkwX8_laysRounds_5 : List UInt8 := [167, 255, 170, 132, 7, 1, 167, 255, 154, 132, 6, 1, 167, 255, 138, 132, 5, 255, 167, 255, 123, 177]
abbrev dktX8_laysRounds_5 : List UInt8 := dkwX8_laysRounds_5 ++ []
def dkwX8_laysRounds_4 : List UInt8 := [54, 9, 42, 180, 0, 68, 21, 5, 21, 6, 21, 7, 21, 8, 184, 1, 72, 21, 9, 79, 132, 8, 1]
abbrev dktX8_laysRounds_4 : List UInt8 := dkwX8_laysRounds_4 ++ dktX8_laysRounds_5
def dkwX8_laysRounds_3 : List UInt8 := [21, 8, 21, 4, 182, 1, 79, 167, 0, 17, 42, 27, 28, 21, 5, 21, 6, 21, 7, 21, 8, 182, 1, 82]
abbrev dktX8_laysRounds_3 : List UInt8 := dkwX8_laysRounds_3 ++ dktX8_laysRounds_4
def dkwX8_laysRounds_2 : List UInt8 := [184, 1, 75, 154, 0, 6, 167, 0, 62, 21, 5, 6, 159, 0, 10, 21, 7, 16, 40, 164, 0, 15, 42, 28]
abbrev dktX8_laysRounds_2 : List UInt8 := dkwX8_laysRounds_2 ++ dktX8_laysRounds_3
def dkwX8_laysRounds_1 : List UInt8 := [16, 42, 162, 0, 101, 3, 54, 8, 21, 8, 21, 7, 162, 0, 85, 21, 5, 21, 6, 21, 7, 21, 8]
abbrev dktX8_laysRounds_1 : List UInt8 := dkwX8_laysRounds_1 ++ dktX8_laysRounds_2
def dkwX8_laysRounds_0 : List UInt8 := [6, 54, 5, 21, 5, 29, 164, 0, 133, 3, 54, 6, 21, 6, 21, 5, 163, 0, 117, 4, 54, 7, 21, 7]
abbrev dktX8_laysRounds_0 : List UInt8 := dkwX8_laysRounds_0 ++ dktX8_laysRounds_1
theorem dksX8_laysRounds_0 : cX8_laysRounds.data.toList.drop 0 = dktX8_laysRounds_0 := by decide +kernel
theorem dksX8_laysRounds_1 : cX8_laysRounds.data.toList.drop 24 = dktX8_laysRounds_1 := dk_seg dksX8_laysRounds_0 24 rfl rfl
theorem dksX8_laysRounds_2 : cX8_laysRounds.data.toList.drop 47 = dktX8_laysRounds_2 := dk_seg dksX8_laysRounds_1 23 rfl rfl
theorem dksX8_laysRounds_3 : cX8_laysRounds.data.toList.drop 71 = dktX8_laysRounds_3 := dk_seg dksX8_laysRounds_2 24 rfl rfl
theorem dksX8_laysRounds_4 : cX8_laysRounds.data.toList.drop 95 = dktX8_laysRounds_4 := dk_seg dksX8_laysRounds_3 24 rfl rfl
theorem dksX8_laysRounds_5 : cX8_laysRounds.data.toList.drop 118 = dktX8_laysRounds_5 := dk_seg dksX8_laysRounds_4 23 rfl rfl
theorem dX8_laysRounds_0 : decode cX8_laysRounds 0 = .ok (.iconst 3, 1) := dk_6 (dk_at dksX8_laysRounds_0 0 rfl rfl)
theorem dX8_laysRounds_1 : decode cX8_laysRounds 1 = .ok (.istore 5, 2) := dk_54 5 (dk_at dksX8_laysRounds_0 1 rfl rfl)
theorem dX8_laysRounds_3 : decode cX8_laysRounds 3 = .ok (.iload 5, 2) := dk_21 5 (dk_at dksX8_laysRounds_0 3 rfl rfl)
theorem dX8_laysRounds_5 : decode cX8_laysRounds 5 = .ok (.iload_n 3, 1) := dk_29 (dk_at dksX8_laysRounds_0 5 rfl rfl)
theorem dX8_laysRounds_6 : decode cX8_laysRounds 6 = .ok (.if_icmp .le 133, 3) := dk_164 0 133 (dk_at dksX8_laysRounds_0 6 rfl rfl)
theorem dX8_laysRounds_9 : decode cX8_laysRounds 9 = .ok (.iconst 0, 1) := dk_3 (dk_at dksX8_laysRounds_0 9 rfl rfl)
theorem dX8_laysRounds_10 : decode cX8_laysRounds 10 = .ok (.istore 6, 2) := dk_54 6 (dk_at dksX8_laysRounds_0 10 rfl rfl)
theorem dX8_laysRounds_12 : decode cX8_laysRounds 12 = .ok (.iload 6, 2) := dk_21 6 (dk_at dksX8_laysRounds_0 12 rfl rfl)
theorem dX8_laysRounds_14 : decode cX8_laysRounds 14 = .ok (.iload 5, 2) := dk_21 5 (dk_at dksX8_laysRounds_0 14 rfl rfl)
theorem dX8_laysRounds_16 : decode cX8_laysRounds 16 = .ok (.if_icmp .gt 117, 3) := dk_163 0 117 (dk_at dksX8_laysRounds_0 16 rfl rfl)
theorem dX8_laysRounds_19 : decode cX8_laysRounds 19 = .ok (.iconst 1, 1) := dk_4 (dk_at dksX8_laysRounds_0 19 rfl rfl)
theorem dX8_laysRounds_20 : decode cX8_laysRounds 20 = .ok (.istore 7, 2) := dk_54 7 (dk_at dksX8_laysRounds_0 20 rfl rfl)
theorem dX8_laysRounds_22 : decode cX8_laysRounds 22 = .ok (.iload 7, 2) := dk_21 7 (dk_at dksX8_laysRounds_0 22 rfl rfl)
theorem dX8_laysRounds_24 : decode cX8_laysRounds 24 = .ok (.bipush 42, 2) := dk_16 42 (dk_at dksX8_laysRounds_1 0 rfl rfl)
theorem dX8_laysRounds_26 : decode cX8_laysRounds 26 = .ok (.if_icmp .ge 101, 3) := dk_162 0 101 (dk_at dksX8_laysRounds_1 2 rfl rfl)
theorem dX8_laysRounds_29 : decode cX8_laysRounds 29 = .ok (.iconst 0, 1) := dk_3 (dk_at dksX8_laysRounds_1 5 rfl rfl)
theorem dX8_laysRounds_30 : decode cX8_laysRounds 30 = .ok (.istore 8, 2) := dk_54 8 (dk_at dksX8_laysRounds_1 6 rfl rfl)
theorem dX8_laysRounds_32 : decode cX8_laysRounds 32 = .ok (.iload 8, 2) := dk_21 8 (dk_at dksX8_laysRounds_1 8 rfl rfl)
theorem dX8_laysRounds_34 : decode cX8_laysRounds 34 = .ok (.iload 7, 2) := dk_21 7 (dk_at dksX8_laysRounds_1 10 rfl rfl)
theorem dX8_laysRounds_36 : decode cX8_laysRounds 36 = .ok (.if_icmp .ge 85, 3) := dk_162 0 85 (dk_at dksX8_laysRounds_1 12 rfl rfl)
theorem dX8_laysRounds_39 : decode cX8_laysRounds 39 = .ok (.iload 5, 2) := dk_21 5 (dk_at dksX8_laysRounds_1 15 rfl rfl)
theorem dX8_laysRounds_41 : decode cX8_laysRounds 41 = .ok (.iload 6, 2) := dk_21 6 (dk_at dksX8_laysRounds_1 17 rfl rfl)
theorem dX8_laysRounds_43 : decode cX8_laysRounds 43 = .ok (.iload 7, 2) := dk_21 7 (dk_at dksX8_laysRounds_1 19 rfl rfl)
theorem dX8_laysRounds_45 : decode cX8_laysRounds 45 = .ok (.iload 8, 2) := dk_21 8 (dk_at dksX8_laysRounds_1 21 rfl rfl)
theorem dX8_laysRounds_47 : decode cX8_laysRounds 47 = .ok (.invokestatic 331, 3) := dk_184 1 75 (dk_at dksX8_laysRounds_2 0 rfl rfl)
theorem dX8_laysRounds_50 : decode cX8_laysRounds 50 = .ok (.ifCond .ne 6, 3) := dk_154 0 6 (dk_at dksX8_laysRounds_2 3 rfl rfl)
theorem dX8_laysRounds_53 : decode cX8_laysRounds 53 = .ok (.goto 62, 3) := dk_167 0 62 (dk_at dksX8_laysRounds_2 6 rfl rfl)
theorem dX8_laysRounds_56 : decode cX8_laysRounds 56 = .ok (.iload 5, 2) := dk_21 5 (dk_at dksX8_laysRounds_2 9 rfl rfl)
theorem dX8_laysRounds_58 : decode cX8_laysRounds 58 = .ok (.iconst 3, 1) := dk_6 (dk_at dksX8_laysRounds_2 11 rfl rfl)
theorem dX8_laysRounds_59 : decode cX8_laysRounds 59 = .ok (.if_icmp .eq 10, 3) := dk_159 0 10 (dk_at dksX8_laysRounds_2 12 rfl rfl)
theorem dX8_laysRounds_62 : decode cX8_laysRounds 62 = .ok (.iload 7, 2) := dk_21 7 (dk_at dksX8_laysRounds_2 15 rfl rfl)
theorem dX8_laysRounds_64 : decode cX8_laysRounds 64 = .ok (.bipush 40, 2) := dk_16 40 (dk_at dksX8_laysRounds_2 17 rfl rfl)
theorem dX8_laysRounds_66 : decode cX8_laysRounds 66 = .ok (.if_icmp .le 15, 3) := dk_164 0 15 (dk_at dksX8_laysRounds_2 19 rfl rfl)
theorem dX8_laysRounds_69 : decode cX8_laysRounds 69 = .ok (.aload_n 0, 1) := dk_42 (dk_at dksX8_laysRounds_2 22 rfl rfl)
theorem dX8_laysRounds_70 : decode cX8_laysRounds 70 = .ok (.iload_n 2, 1) := dk_28 (dk_at dksX8_laysRounds_2 23 rfl rfl)
theorem dX8_laysRounds_71 : decode cX8_laysRounds 71 = .ok (.iload 8, 2) := dk_21 8 (dk_at dksX8_laysRounds_3 0 rfl rfl)
theorem dX8_laysRounds_73 : decode cX8_laysRounds 73 = .ok (.iload 4, 2) := dk_21 4 (dk_at dksX8_laysRounds_3 2 rfl rfl)
theorem dX8_laysRounds_75 : decode cX8_laysRounds 75 = .ok (.invokevirtual 335, 3) := dk_182 1 79 (dk_at dksX8_laysRounds_3 4 rfl rfl)
theorem dX8_laysRounds_78 : decode cX8_laysRounds 78 = .ok (.goto 17, 3) := dk_167 0 17 (dk_at dksX8_laysRounds_3 7 rfl rfl)
theorem dX8_laysRounds_81 : decode cX8_laysRounds 81 = .ok (.aload_n 0, 1) := dk_42 (dk_at dksX8_laysRounds_3 10 rfl rfl)
theorem dX8_laysRounds_82 : decode cX8_laysRounds 82 = .ok (.iload_n 1, 1) := dk_27 (dk_at dksX8_laysRounds_3 11 rfl rfl)
theorem dX8_laysRounds_83 : decode cX8_laysRounds 83 = .ok (.iload_n 2, 1) := dk_28 (dk_at dksX8_laysRounds_3 12 rfl rfl)
theorem dX8_laysRounds_84 : decode cX8_laysRounds 84 = .ok (.iload 5, 2) := dk_21 5 (dk_at dksX8_laysRounds_3 13 rfl rfl)
theorem dX8_laysRounds_86 : decode cX8_laysRounds 86 = .ok (.iload 6, 2) := dk_21 6 (dk_at dksX8_laysRounds_3 15 rfl rfl)
theorem dX8_laysRounds_88 : decode cX8_laysRounds 88 = .ok (.iload 7, 2) := dk_21 7 (dk_at dksX8_laysRounds_3 17 rfl rfl)
theorem dX8_laysRounds_90 : decode cX8_laysRounds 90 = .ok (.iload 8, 2) := dk_21 8 (dk_at dksX8_laysRounds_3 19 rfl rfl)
theorem dX8_laysRounds_92 : decode cX8_laysRounds 92 = .ok (.invokevirtual 338, 3) := dk_182 1 82 (dk_at dksX8_laysRounds_3 21 rfl rfl)
theorem dX8_laysRounds_95 : decode cX8_laysRounds 95 = .ok (.istore 9, 2) := dk_54 9 (dk_at dksX8_laysRounds_4 0 rfl rfl)
theorem dX8_laysRounds_97 : decode cX8_laysRounds 97 = .ok (.aload_n 0, 1) := dk_42 (dk_at dksX8_laysRounds_4 2 rfl rfl)
theorem dX8_laysRounds_98 : decode cX8_laysRounds 98 = .ok (.getfield 68, 3) := dk_180 0 68 (dk_at dksX8_laysRounds_4 3 rfl rfl)
theorem dX8_laysRounds_101 : decode cX8_laysRounds 101 = .ok (.iload 5, 2) := dk_21 5 (dk_at dksX8_laysRounds_4 6 rfl rfl)
theorem dX8_laysRounds_103 : decode cX8_laysRounds 103 = .ok (.iload 6, 2) := dk_21 6 (dk_at dksX8_laysRounds_4 8 rfl rfl)
theorem dX8_laysRounds_105 : decode cX8_laysRounds 105 = .ok (.iload 7, 2) := dk_21 7 (dk_at dksX8_laysRounds_4 10 rfl rfl)
theorem dX8_laysRounds_107 : decode cX8_laysRounds 107 = .ok (.iload 8, 2) := dk_21 8 (dk_at dksX8_laysRounds_4 12 rfl rfl)
theorem dX8_laysRounds_109 : decode cX8_laysRounds 109 = .ok (.invokestatic 328, 3) := dk_184 1 72 (dk_at dksX8_laysRounds_4 14 rfl rfl)
theorem dX8_laysRounds_112 : decode cX8_laysRounds 112 = .ok (.iload 9, 2) := dk_21 9 (dk_at dksX8_laysRounds_4 17 rfl rfl)
theorem dX8_laysRounds_114 : decode cX8_laysRounds 114 = .ok (.iastore, 1) := dk_79 (dk_at dksX8_laysRounds_4 19 rfl rfl)
theorem dX8_laysRounds_115 : decode cX8_laysRounds 115 = .ok (.iinc 8 1, 3) := dk_132 8 1 (dk_at dksX8_laysRounds_4 20 rfl rfl)
theorem dX8_laysRounds_118 : decode cX8_laysRounds 118 = .ok (.goto (-86), 3) := dk_167 255 170 (dk_at dksX8_laysRounds_5 0 rfl rfl)
theorem dX8_laysRounds_121 : decode cX8_laysRounds 121 = .ok (.iinc 7 1, 3) := dk_132 7 1 (dk_at dksX8_laysRounds_5 3 rfl rfl)
theorem dX8_laysRounds_124 : decode cX8_laysRounds 124 = .ok (.goto (-102), 3) := dk_167 255 154 (dk_at dksX8_laysRounds_5 6 rfl rfl)
theorem dX8_laysRounds_127 : decode cX8_laysRounds 127 = .ok (.iinc 6 1, 3) := dk_132 6 1 (dk_at dksX8_laysRounds_5 9 rfl rfl)
theorem dX8_laysRounds_130 : decode cX8_laysRounds 130 = .ok (.goto (-118), 3) := dk_167 255 138 (dk_at dksX8_laysRounds_5 12 rfl rfl)
theorem dX8_laysRounds_133 : decode cX8_laysRounds 133 = .ok (.iinc 5 (-1), 3) := dk_132 5 255 (dk_at dksX8_laysRounds_5 15 rfl rfl)
theorem dX8_laysRounds_136 : decode cX8_laysRounds 136 = .ok (.goto (-133), 3) := dk_167 255 123 (dk_at dksX8_laysRounds_5 18 rfl rfl)
theorem dX8_laysRounds_139 : decode cX8_laysRounds 139 = .ok (.return_, 1) := dk_177 (dk_at dksX8_laysRounds_5 21 rfl rfl)
abbrev cX8_canBe : ByteArray := prog_21_method_84_code
def yX8_canBe : MethodName := ⟨RX8, "canBe", "(IIII)Z"⟩
def dkwX8_canBe_1 : List UInt8 := [29, 154, 0, 7, 4, 167, 0, 4, 3, 172]
abbrev dktX8_canBe_1 : List UInt8 := dkwX8_canBe_1 ++ []
def dkwX8_canBe_0 : List UInt8 := [27, 154, 0, 18, 29, 28, 4, 100, 160, 0, 7, 4, 167, 0, 21, 3, 167, 0, 17, 27, 26, 161, 0, 7]
abbrev dktX8_canBe_0 : List UInt8 := dkwX8_canBe_0 ++ dktX8_canBe_1
theorem dksX8_canBe_0 : cX8_canBe.data.toList.drop 0 = dktX8_canBe_0 := by decide +kernel
theorem dksX8_canBe_1 : cX8_canBe.data.toList.drop 24 = dktX8_canBe_1 := dk_seg dksX8_canBe_0 24 rfl rfl
theorem dX8_canBe_0 : decode cX8_canBe 0 = .ok (.iload_n 1, 1) := dk_27 (dk_at dksX8_canBe_0 0 rfl rfl)
theorem dX8_canBe_1 : decode cX8_canBe 1 = .ok (.ifCond .ne 18, 3) := dk_154 0 18 (dk_at dksX8_canBe_0 1 rfl rfl)
theorem dX8_canBe_4 : decode cX8_canBe 4 = .ok (.iload_n 3, 1) := dk_29 (dk_at dksX8_canBe_0 4 rfl rfl)
theorem dX8_canBe_5 : decode cX8_canBe 5 = .ok (.iload_n 2, 1) := dk_28 (dk_at dksX8_canBe_0 5 rfl rfl)
theorem dX8_canBe_6 : decode cX8_canBe 6 = .ok (.iconst 1, 1) := dk_4 (dk_at dksX8_canBe_0 6 rfl rfl)
theorem dX8_canBe_7 : decode cX8_canBe 7 = .ok (.isub, 1) := dk_100 (dk_at dksX8_canBe_0 7 rfl rfl)
theorem dX8_canBe_8 : decode cX8_canBe 8 = .ok (.if_icmp .ne 7, 3) := dk_160 0 7 (dk_at dksX8_canBe_0 8 rfl rfl)
theorem dX8_canBe_11 : decode cX8_canBe 11 = .ok (.iconst 1, 1) := dk_4 (dk_at dksX8_canBe_0 11 rfl rfl)
theorem dX8_canBe_12 : decode cX8_canBe 12 = .ok (.goto 21, 3) := dk_167 0 21 (dk_at dksX8_canBe_0 12 rfl rfl)
theorem dX8_canBe_15 : decode cX8_canBe 15 = .ok (.iconst 0, 1) := dk_3 (dk_at dksX8_canBe_0 15 rfl rfl)
theorem dX8_canBe_16 : decode cX8_canBe 16 = .ok (.goto 17, 3) := dk_167 0 17 (dk_at dksX8_canBe_0 16 rfl rfl)
theorem dX8_canBe_19 : decode cX8_canBe 19 = .ok (.iload_n 1, 1) := dk_27 (dk_at dksX8_canBe_0 19 rfl rfl)
theorem dX8_canBe_20 : decode cX8_canBe 20 = .ok (.iload_n 0, 1) := dk_26 (dk_at dksX8_canBe_0 20 rfl rfl)
theorem dX8_canBe_21 : decode cX8_canBe 21 = .ok (.if_icmp .lt 7, 3) := dk_161 0 7 (dk_at dksX8_canBe_0 21 rfl rfl)
theorem dX8_canBe_24 : decode cX8_canBe 24 = .ok (.iload_n 3, 1) := dk_29 (dk_at dksX8_canBe_1 0 rfl rfl)
theorem dX8_canBe_25 : decode cX8_canBe 25 = .ok (.ifCond .ne 7, 3) := dk_154 0 7 (dk_at dksX8_canBe_1 1 rfl rfl)
theorem dX8_canBe_28 : decode cX8_canBe 28 = .ok (.iconst 1, 1) := dk_4 (dk_at dksX8_canBe_1 4 rfl rfl)
theorem dX8_canBe_29 : decode cX8_canBe 29 = .ok (.goto 4, 3) := dk_167 0 4 (dk_at dksX8_canBe_1 5 rfl rfl)
theorem dX8_canBe_32 : decode cX8_canBe 32 = .ok (.iconst 0, 1) := dk_3 (dk_at dksX8_canBe_1 8 rfl rfl)
theorem dX8_canBe_33 : decode cX8_canBe 33 = .ok (.ireturn, 1) := dk_172 (dk_at dksX8_canBe_1 9 rfl rfl)
abbrev cX8_ends : ByteArray := prog_21_method_83_code
def yX8_ends : MethodName := ⟨RX8, "ends", "(III)I"⟩
def dkwX8_ends_1 : List UInt8 := [96, 28, 96, 46, 172]
abbrev dktX8_ends_1 : List UInt8 := dkwX8_ends_1 ++ []
def dkwX8_ends_0 : List UInt8 := [28, 154, 0, 12, 42, 180, 0, 56, 3, 46, 167, 0, 18, 42, 180, 0, 65, 16, 121, 27, 4, 96, 104, 29]
abbrev dktX8_ends_0 : List UInt8 := dkwX8_ends_0 ++ dktX8_ends_1
theorem dksX8_ends_0 : cX8_ends.data.toList.drop 0 = dktX8_ends_0 := by decide +kernel
theorem dksX8_ends_1 : cX8_ends.data.toList.drop 24 = dktX8_ends_1 := dk_seg dksX8_ends_0 24 rfl rfl
theorem dX8_ends_0 : decode cX8_ends 0 = .ok (.iload_n 2, 1) := dk_28 (dk_at dksX8_ends_0 0 rfl rfl)
theorem dX8_ends_1 : decode cX8_ends 1 = .ok (.ifCond .ne 12, 3) := dk_154 0 12 (dk_at dksX8_ends_0 1 rfl rfl)
theorem dX8_ends_4 : decode cX8_ends 4 = .ok (.aload_n 0, 1) := dk_42 (dk_at dksX8_ends_0 4 rfl rfl)
theorem dX8_ends_5 : decode cX8_ends 5 = .ok (.getfield 56, 3) := dk_180 0 56 (dk_at dksX8_ends_0 5 rfl rfl)
theorem dX8_ends_8 : decode cX8_ends 8 = .ok (.iconst 0, 1) := dk_3 (dk_at dksX8_ends_0 8 rfl rfl)
theorem dX8_ends_9 : decode cX8_ends 9 = .ok (.iaload, 1) := dk_46 (dk_at dksX8_ends_0 9 rfl rfl)
theorem dX8_ends_10 : decode cX8_ends 10 = .ok (.goto 18, 3) := dk_167 0 18 (dk_at dksX8_ends_0 10 rfl rfl)
theorem dX8_ends_13 : decode cX8_ends 13 = .ok (.aload_n 0, 1) := dk_42 (dk_at dksX8_ends_0 13 rfl rfl)
theorem dX8_ends_14 : decode cX8_ends 14 = .ok (.getfield 65, 3) := dk_180 0 65 (dk_at dksX8_ends_0 14 rfl rfl)
theorem dX8_ends_17 : decode cX8_ends 17 = .ok (.bipush 121, 2) := dk_16 121 (dk_at dksX8_ends_0 17 rfl rfl)
theorem dX8_ends_19 : decode cX8_ends 19 = .ok (.iload_n 1, 1) := dk_27 (dk_at dksX8_ends_0 19 rfl rfl)
theorem dX8_ends_20 : decode cX8_ends 20 = .ok (.iconst 1, 1) := dk_4 (dk_at dksX8_ends_0 20 rfl rfl)
theorem dX8_ends_21 : decode cX8_ends 21 = .ok (.iadd, 1) := dk_96 (dk_at dksX8_ends_0 21 rfl rfl)
theorem dX8_ends_22 : decode cX8_ends 22 = .ok (.imul, 1) := dk_104 (dk_at dksX8_ends_0 22 rfl rfl)
theorem dX8_ends_23 : decode cX8_ends 23 = .ok (.iload_n 3, 1) := dk_29 (dk_at dksX8_ends_0 23 rfl rfl)
theorem dX8_ends_24 : decode cX8_ends 24 = .ok (.iadd, 1) := dk_96 (dk_at dksX8_ends_1 0 rfl rfl)
theorem dX8_ends_25 : decode cX8_ends 25 = .ok (.iload_n 2, 1) := dk_28 (dk_at dksX8_ends_1 1 rfl rfl)
theorem dX8_ends_26 : decode cX8_ends 26 = .ok (.iadd, 1) := dk_96 (dk_at dksX8_ends_1 2 rfl rfl)
theorem dX8_ends_27 : decode cX8_ends 27 = .ok (.iaload, 1) := dk_46 (dk_at dksX8_ends_1 3 rfl rfl)
theorem dX8_ends_28 : decode cX8_ends 28 = .ok (.ireturn, 1) := dk_172 (dk_at dksX8_ends_1 4 rfl rfl)
abbrev cX8_triesBest : ByteArray := prog_21_method_82_code
def yX8_triesBest : MethodName := ⟨RX8, "triesBest", "(IIIIII)I"⟩
def dkwX8_triesBest_4 : List UInt8 := [167, 0, 13, 21, 11, 54, 7, 42, 21, 8, 181, 1, 66, 132, 8, 1, 167, 255, 160, 21, 7, 172]
abbrev dktX8_triesBest_4 : List UInt8 := dkwX8_triesBest_4 ++ []
def dkwX8_triesBest_3 : List UInt8 := [21, 8, 21, 4, 182, 0, 245, 21, 9, 21, 10, 184, 1, 18, 54, 11, 21, 11, 21, 7, 163, 0, 6]
abbrev dktX8_triesBest_3 : List UInt8 := dkwX8_triesBest_3 ++ dktX8_triesBest_4
def dkwX8_triesBest_2 : List UInt8 := [180, 0, 68, 29, 4, 96, 21, 4, 4, 96, 21, 8, 21, 6, 184, 1, 72, 46, 54, 10, 42, 27, 28]
abbrev dktX8_triesBest_2 : List UInt8 := dkwX8_triesBest_2 ++ dktX8_triesBest_3
def dkwX8_triesBest_1 : List UInt8 := [4, 96, 21, 4, 16, 41, 21, 8, 4, 96, 184, 1, 69, 21, 8, 184, 1, 72, 46, 54, 9, 42]
abbrev dktX8_triesBest_1 : List UInt8 := dkwX8_triesBest_1 ++ dktX8_triesBest_2
def dkwX8_triesBest_0 : List UInt8 := [42, 3, 181, 1, 66, 2, 54, 7, 21, 5, 54, 8, 21, 8, 16, 40, 163, 0, 95, 42, 180, 0, 68, 29]
abbrev dktX8_triesBest_0 : List UInt8 := dkwX8_triesBest_0 ++ dktX8_triesBest_1
theorem dksX8_triesBest_0 : cX8_triesBest.data.toList.drop 0 = dktX8_triesBest_0 := by decide +kernel
theorem dksX8_triesBest_1 : cX8_triesBest.data.toList.drop 24 = dktX8_triesBest_1 := dk_seg dksX8_triesBest_0 24 rfl rfl
theorem dksX8_triesBest_2 : cX8_triesBest.data.toList.drop 46 = dktX8_triesBest_2 := dk_seg dksX8_triesBest_1 22 rfl rfl
theorem dksX8_triesBest_3 : cX8_triesBest.data.toList.drop 69 = dktX8_triesBest_3 := dk_seg dksX8_triesBest_2 23 rfl rfl
theorem dksX8_triesBest_4 : cX8_triesBest.data.toList.drop 92 = dktX8_triesBest_4 := dk_seg dksX8_triesBest_3 23 rfl rfl
theorem dX8_triesBest_0 : decode cX8_triesBest 0 = .ok (.aload_n 0, 1) := dk_42 (dk_at dksX8_triesBest_0 0 rfl rfl)
theorem dX8_triesBest_1 : decode cX8_triesBest 1 = .ok (.iconst 0, 1) := dk_3 (dk_at dksX8_triesBest_0 1 rfl rfl)
theorem dX8_triesBest_2 : decode cX8_triesBest 2 = .ok (.putfield 322, 3) := dk_181 1 66 (dk_at dksX8_triesBest_0 2 rfl rfl)
theorem dX8_triesBest_5 : decode cX8_triesBest 5 = .ok (.iconst (-1), 1) := dk_2 (dk_at dksX8_triesBest_0 5 rfl rfl)
theorem dX8_triesBest_6 : decode cX8_triesBest 6 = .ok (.istore 7, 2) := dk_54 7 (dk_at dksX8_triesBest_0 6 rfl rfl)
theorem dX8_triesBest_8 : decode cX8_triesBest 8 = .ok (.iload 5, 2) := dk_21 5 (dk_at dksX8_triesBest_0 8 rfl rfl)
theorem dX8_triesBest_10 : decode cX8_triesBest 10 = .ok (.istore 8, 2) := dk_54 8 (dk_at dksX8_triesBest_0 10 rfl rfl)
theorem dX8_triesBest_12 : decode cX8_triesBest 12 = .ok (.iload 8, 2) := dk_21 8 (dk_at dksX8_triesBest_0 12 rfl rfl)
theorem dX8_triesBest_14 : decode cX8_triesBest 14 = .ok (.bipush 40, 2) := dk_16 40 (dk_at dksX8_triesBest_0 14 rfl rfl)
theorem dX8_triesBest_16 : decode cX8_triesBest 16 = .ok (.if_icmp .gt 95, 3) := dk_163 0 95 (dk_at dksX8_triesBest_0 16 rfl rfl)
theorem dX8_triesBest_19 : decode cX8_triesBest 19 = .ok (.aload_n 0, 1) := dk_42 (dk_at dksX8_triesBest_0 19 rfl rfl)
theorem dX8_triesBest_20 : decode cX8_triesBest 20 = .ok (.getfield 68, 3) := dk_180 0 68 (dk_at dksX8_triesBest_0 20 rfl rfl)
theorem dX8_triesBest_23 : decode cX8_triesBest 23 = .ok (.iload_n 3, 1) := dk_29 (dk_at dksX8_triesBest_0 23 rfl rfl)
theorem dX8_triesBest_24 : decode cX8_triesBest 24 = .ok (.iconst 1, 1) := dk_4 (dk_at dksX8_triesBest_1 0 rfl rfl)
theorem dX8_triesBest_25 : decode cX8_triesBest 25 = .ok (.iadd, 1) := dk_96 (dk_at dksX8_triesBest_1 1 rfl rfl)
theorem dX8_triesBest_26 : decode cX8_triesBest 26 = .ok (.iload 4, 2) := dk_21 4 (dk_at dksX8_triesBest_1 2 rfl rfl)
theorem dX8_triesBest_28 : decode cX8_triesBest 28 = .ok (.bipush 41, 2) := dk_16 41 (dk_at dksX8_triesBest_1 4 rfl rfl)
theorem dX8_triesBest_30 : decode cX8_triesBest 30 = .ok (.iload 8, 2) := dk_21 8 (dk_at dksX8_triesBest_1 6 rfl rfl)
theorem dX8_triesBest_32 : decode cX8_triesBest 32 = .ok (.iconst 1, 1) := dk_4 (dk_at dksX8_triesBest_1 8 rfl rfl)
theorem dX8_triesBest_33 : decode cX8_triesBest 33 = .ok (.iadd, 1) := dk_96 (dk_at dksX8_triesBest_1 9 rfl rfl)
theorem dX8_triesBest_34 : decode cX8_triesBest 34 = .ok (.invokestatic 325, 3) := dk_184 1 69 (dk_at dksX8_triesBest_1 10 rfl rfl)
theorem dX8_triesBest_37 : decode cX8_triesBest 37 = .ok (.iload 8, 2) := dk_21 8 (dk_at dksX8_triesBest_1 13 rfl rfl)
theorem dX8_triesBest_39 : decode cX8_triesBest 39 = .ok (.invokestatic 328, 3) := dk_184 1 72 (dk_at dksX8_triesBest_1 15 rfl rfl)
theorem dX8_triesBest_42 : decode cX8_triesBest 42 = .ok (.iaload, 1) := dk_46 (dk_at dksX8_triesBest_1 18 rfl rfl)
theorem dX8_triesBest_43 : decode cX8_triesBest 43 = .ok (.istore 9, 2) := dk_54 9 (dk_at dksX8_triesBest_1 19 rfl rfl)
theorem dX8_triesBest_45 : decode cX8_triesBest 45 = .ok (.aload_n 0, 1) := dk_42 (dk_at dksX8_triesBest_1 21 rfl rfl)
theorem dX8_triesBest_46 : decode cX8_triesBest 46 = .ok (.getfield 68, 3) := dk_180 0 68 (dk_at dksX8_triesBest_2 0 rfl rfl)
theorem dX8_triesBest_49 : decode cX8_triesBest 49 = .ok (.iload_n 3, 1) := dk_29 (dk_at dksX8_triesBest_2 3 rfl rfl)
theorem dX8_triesBest_50 : decode cX8_triesBest 50 = .ok (.iconst 1, 1) := dk_4 (dk_at dksX8_triesBest_2 4 rfl rfl)
theorem dX8_triesBest_51 : decode cX8_triesBest 51 = .ok (.iadd, 1) := dk_96 (dk_at dksX8_triesBest_2 5 rfl rfl)
theorem dX8_triesBest_52 : decode cX8_triesBest 52 = .ok (.iload 4, 2) := dk_21 4 (dk_at dksX8_triesBest_2 6 rfl rfl)
theorem dX8_triesBest_54 : decode cX8_triesBest 54 = .ok (.iconst 1, 1) := dk_4 (dk_at dksX8_triesBest_2 8 rfl rfl)
theorem dX8_triesBest_55 : decode cX8_triesBest 55 = .ok (.iadd, 1) := dk_96 (dk_at dksX8_triesBest_2 9 rfl rfl)
theorem dX8_triesBest_56 : decode cX8_triesBest 56 = .ok (.iload 8, 2) := dk_21 8 (dk_at dksX8_triesBest_2 10 rfl rfl)
theorem dX8_triesBest_58 : decode cX8_triesBest 58 = .ok (.iload 6, 2) := dk_21 6 (dk_at dksX8_triesBest_2 12 rfl rfl)
theorem dX8_triesBest_60 : decode cX8_triesBest 60 = .ok (.invokestatic 328, 3) := dk_184 1 72 (dk_at dksX8_triesBest_2 14 rfl rfl)
theorem dX8_triesBest_63 : decode cX8_triesBest 63 = .ok (.iaload, 1) := dk_46 (dk_at dksX8_triesBest_2 17 rfl rfl)
theorem dX8_triesBest_64 : decode cX8_triesBest 64 = .ok (.istore 10, 2) := dk_54 10 (dk_at dksX8_triesBest_2 18 rfl rfl)
theorem dX8_triesBest_66 : decode cX8_triesBest 66 = .ok (.aload_n 0, 1) := dk_42 (dk_at dksX8_triesBest_2 20 rfl rfl)
theorem dX8_triesBest_67 : decode cX8_triesBest 67 = .ok (.iload_n 1, 1) := dk_27 (dk_at dksX8_triesBest_2 21 rfl rfl)
theorem dX8_triesBest_68 : decode cX8_triesBest 68 = .ok (.iload_n 2, 1) := dk_28 (dk_at dksX8_triesBest_2 22 rfl rfl)
theorem dX8_triesBest_69 : decode cX8_triesBest 69 = .ok (.iload 8, 2) := dk_21 8 (dk_at dksX8_triesBest_3 0 rfl rfl)
theorem dX8_triesBest_71 : decode cX8_triesBest 71 = .ok (.iload 4, 2) := dk_21 4 (dk_at dksX8_triesBest_3 2 rfl rfl)
theorem dX8_triesBest_73 : decode cX8_triesBest 73 = .ok (.invokevirtual 245, 3) := dk_182 0 245 (dk_at dksX8_triesBest_3 4 rfl rfl)
theorem dX8_triesBest_76 : decode cX8_triesBest 76 = .ok (.iload 9, 2) := dk_21 9 (dk_at dksX8_triesBest_3 7 rfl rfl)
theorem dX8_triesBest_78 : decode cX8_triesBest 78 = .ok (.iload 10, 2) := dk_21 10 (dk_at dksX8_triesBest_3 9 rfl rfl)
theorem dX8_triesBest_80 : decode cX8_triesBest 80 = .ok (.invokestatic 274, 3) := dk_184 1 18 (dk_at dksX8_triesBest_3 11 rfl rfl)
theorem dX8_triesBest_83 : decode cX8_triesBest 83 = .ok (.istore 11, 2) := dk_54 11 (dk_at dksX8_triesBest_3 14 rfl rfl)
theorem dX8_triesBest_85 : decode cX8_triesBest 85 = .ok (.iload 11, 2) := dk_21 11 (dk_at dksX8_triesBest_3 16 rfl rfl)
theorem dX8_triesBest_87 : decode cX8_triesBest 87 = .ok (.iload 7, 2) := dk_21 7 (dk_at dksX8_triesBest_3 18 rfl rfl)
theorem dX8_triesBest_89 : decode cX8_triesBest 89 = .ok (.if_icmp .gt 6, 3) := dk_163 0 6 (dk_at dksX8_triesBest_3 20 rfl rfl)
theorem dX8_triesBest_92 : decode cX8_triesBest 92 = .ok (.goto 13, 3) := dk_167 0 13 (dk_at dksX8_triesBest_4 0 rfl rfl)
theorem dX8_triesBest_95 : decode cX8_triesBest 95 = .ok (.iload 11, 2) := dk_21 11 (dk_at dksX8_triesBest_4 3 rfl rfl)
theorem dX8_triesBest_97 : decode cX8_triesBest 97 = .ok (.istore 7, 2) := dk_54 7 (dk_at dksX8_triesBest_4 5 rfl rfl)
theorem dX8_triesBest_99 : decode cX8_triesBest 99 = .ok (.aload_n 0, 1) := dk_42 (dk_at dksX8_triesBest_4 7 rfl rfl)
theorem dX8_triesBest_100 : decode cX8_triesBest 100 = .ok (.iload 8, 2) := dk_21 8 (dk_at dksX8_triesBest_4 8 rfl rfl)
theorem dX8_triesBest_102 : decode cX8_triesBest 102 = .ok (.putfield 322, 3) := dk_181 1 66 (dk_at dksX8_triesBest_4 10 rfl rfl)
theorem dX8_triesBest_105 : decode cX8_triesBest 105 = .ok (.iinc 8 1, 3) := dk_132 8 1 (dk_at dksX8_triesBest_4 13 rfl rfl)
theorem dX8_triesBest_108 : decode cX8_triesBest 108 = .ok (.goto (-96), 3) := dk_167 255 160 (dk_at dksX8_triesBest_4 16 rfl rfl)
theorem dX8_triesBest_111 : decode cX8_triesBest 111 = .ok (.iload 7, 2) := dk_21 7 (dk_at dksX8_triesBest_4 19 rfl rfl)
theorem dX8_triesBest_113 : decode cX8_triesBest 113 = .ok (.ireturn, 1) := dk_172 (dk_at dksX8_triesBest_4 21 rfl rfl)
abbrev cX8_cell : ByteArray := prog_21_method_81_code
def yX8_cell : MethodName := ⟨RX8, "cell", "(IIII)I"⟩
def dkwX8_cell_0 : List UInt8 := [16, 42, 16, 42, 7, 26, 104, 27, 96, 104, 28, 96, 104, 29, 96, 172]
abbrev dktX8_cell_0 : List UInt8 := dkwX8_cell_0 ++ []
theorem dksX8_cell_0 : cX8_cell.data.toList.drop 0 = dktX8_cell_0 := by decide +kernel
theorem dX8_cell_0 : decode cX8_cell 0 = .ok (.bipush 42, 2) := dk_16 42 (dk_at dksX8_cell_0 0 rfl rfl)
theorem dX8_cell_2 : decode cX8_cell 2 = .ok (.bipush 42, 2) := dk_16 42 (dk_at dksX8_cell_0 2 rfl rfl)
theorem dX8_cell_4 : decode cX8_cell 4 = .ok (.iconst 4, 1) := dk_7 (dk_at dksX8_cell_0 4 rfl rfl)
theorem dX8_cell_5 : decode cX8_cell 5 = .ok (.iload_n 0, 1) := dk_26 (dk_at dksX8_cell_0 5 rfl rfl)
theorem dX8_cell_6 : decode cX8_cell 6 = .ok (.imul, 1) := dk_104 (dk_at dksX8_cell_0 6 rfl rfl)
theorem dX8_cell_7 : decode cX8_cell 7 = .ok (.iload_n 1, 1) := dk_27 (dk_at dksX8_cell_0 7 rfl rfl)
theorem dX8_cell_8 : decode cX8_cell 8 = .ok (.iadd, 1) := dk_96 (dk_at dksX8_cell_0 8 rfl rfl)
theorem dX8_cell_9 : decode cX8_cell 9 = .ok (.imul, 1) := dk_104 (dk_at dksX8_cell_0 9 rfl rfl)
theorem dX8_cell_10 : decode cX8_cell 10 = .ok (.iload_n 2, 1) := dk_28 (dk_at dksX8_cell_0 10 rfl rfl)
theorem dX8_cell_11 : decode cX8_cell 11 = .ok (.iadd, 1) := dk_96 (dk_at dksX8_cell_0 11 rfl rfl)
theorem dX8_cell_12 : decode cX8_cell 12 = .ok (.imul, 1) := dk_104 (dk_at dksX8_cell_0 12 rfl rfl)
theorem dX8_cell_13 : decode cX8_cell 13 = .ok (.iload_n 3, 1) := dk_29 (dk_at dksX8_cell_0 13 rfl rfl)
theorem dX8_cell_14 : decode cX8_cell 14 = .ok (.iadd, 1) := dk_96 (dk_at dksX8_cell_0 14 rfl rfl)
theorem dX8_cell_15 : decode cX8_cell 15 = .ok (.ireturn, 1) := dk_172 (dk_at dksX8_cell_0 15 rfl rfl)
abbrev cX8_nextLoadOf : ByteArray := prog_21_method_88_code
def yX8_nextLoadOf : MethodName := ⟨RX8, "nextLoadOf", "(III)V"⟩
def dkwX8_nextLoadOf_1 : List UInt8 := [181, 1, 90, 177]
abbrev dktX8_nextLoadOf_1 : List UInt8 := dkwX8_nextLoadOf_1 ++ []
def dkwX8_nextLoadOf_0 : List UInt8 := [42, 27, 28, 3, 29, 182, 1, 86, 42, 27, 28, 3, 3, 4, 3, 182, 1, 82, 87, 42, 42, 180, 1, 66]
abbrev dktX8_nextLoadOf_0 : List UInt8 := dkwX8_nextLoadOf_0 ++ dktX8_nextLoadOf_1
theorem dksX8_nextLoadOf_0 : cX8_nextLoadOf.data.toList.drop 0 = dktX8_nextLoadOf_0 := by decide +kernel
theorem dksX8_nextLoadOf_1 : cX8_nextLoadOf.data.toList.drop 24 = dktX8_nextLoadOf_1 := dk_seg dksX8_nextLoadOf_0 24 rfl rfl
theorem dX8_nextLoadOf_0 : decode cX8_nextLoadOf 0 = .ok (.aload_n 0, 1) := dk_42 (dk_at dksX8_nextLoadOf_0 0 rfl rfl)
theorem dX8_nextLoadOf_1 : decode cX8_nextLoadOf 1 = .ok (.iload_n 1, 1) := dk_27 (dk_at dksX8_nextLoadOf_0 1 rfl rfl)
theorem dX8_nextLoadOf_2 : decode cX8_nextLoadOf 2 = .ok (.iload_n 2, 1) := dk_28 (dk_at dksX8_nextLoadOf_0 2 rfl rfl)
theorem dX8_nextLoadOf_3 : decode cX8_nextLoadOf 3 = .ok (.iconst 0, 1) := dk_3 (dk_at dksX8_nextLoadOf_0 3 rfl rfl)
theorem dX8_nextLoadOf_4 : decode cX8_nextLoadOf 4 = .ok (.iload_n 3, 1) := dk_29 (dk_at dksX8_nextLoadOf_0 4 rfl rfl)
theorem dX8_nextLoadOf_5 : decode cX8_nextLoadOf 5 = .ok (.invokevirtual 342, 3) := dk_182 1 86 (dk_at dksX8_nextLoadOf_0 5 rfl rfl)
theorem dX8_nextLoadOf_8 : decode cX8_nextLoadOf 8 = .ok (.aload_n 0, 1) := dk_42 (dk_at dksX8_nextLoadOf_0 8 rfl rfl)
theorem dX8_nextLoadOf_9 : decode cX8_nextLoadOf 9 = .ok (.iload_n 1, 1) := dk_27 (dk_at dksX8_nextLoadOf_0 9 rfl rfl)
theorem dX8_nextLoadOf_10 : decode cX8_nextLoadOf 10 = .ok (.iload_n 2, 1) := dk_28 (dk_at dksX8_nextLoadOf_0 10 rfl rfl)
theorem dX8_nextLoadOf_11 : decode cX8_nextLoadOf 11 = .ok (.iconst 0, 1) := dk_3 (dk_at dksX8_nextLoadOf_0 11 rfl rfl)
theorem dX8_nextLoadOf_12 : decode cX8_nextLoadOf 12 = .ok (.iconst 0, 1) := dk_3 (dk_at dksX8_nextLoadOf_0 12 rfl rfl)
theorem dX8_nextLoadOf_13 : decode cX8_nextLoadOf 13 = .ok (.iconst 1, 1) := dk_4 (dk_at dksX8_nextLoadOf_0 13 rfl rfl)
theorem dX8_nextLoadOf_14 : decode cX8_nextLoadOf 14 = .ok (.iconst 0, 1) := dk_3 (dk_at dksX8_nextLoadOf_0 14 rfl rfl)
theorem dX8_nextLoadOf_15 : decode cX8_nextLoadOf 15 = .ok (.invokevirtual 338, 3) := dk_182 1 82 (dk_at dksX8_nextLoadOf_0 15 rfl rfl)
theorem dX8_nextLoadOf_18 : decode cX8_nextLoadOf 18 = .ok (.pop, 1) := dk_87 (dk_at dksX8_nextLoadOf_0 18 rfl rfl)
theorem dX8_nextLoadOf_19 : decode cX8_nextLoadOf 19 = .ok (.aload_n 0, 1) := dk_42 (dk_at dksX8_nextLoadOf_0 19 rfl rfl)
theorem dX8_nextLoadOf_20 : decode cX8_nextLoadOf 20 = .ok (.aload_n 0, 1) := dk_42 (dk_at dksX8_nextLoadOf_0 20 rfl rfl)
theorem dX8_nextLoadOf_21 : decode cX8_nextLoadOf 21 = .ok (.getfield 322, 3) := dk_180 1 66 (dk_at dksX8_nextLoadOf_0 21 rfl rfl)
theorem dX8_nextLoadOf_24 : decode cX8_nextLoadOf 24 = .ok (.putfield 346, 3) := dk_181 1 90 (dk_at dksX8_nextLoadOf_1 0 rfl rfl)
theorem dX8_nextLoadOf_27 : decode cX8_nextLoadOf 27 = .ok (.return_, 1) := dk_177 (dk_at dksX8_nextLoadOf_1 3 rfl rfl)
abbrev cX8_reach : ByteArray := prog_21_method_91_code
def yX8_reach : MethodName := ⟨RX8, "reach", "(II)I"⟩
def dkwX8_reach_1 : List UInt8 := [182, 1, 27, 42, 27, 182, 1, 102, 172]
abbrev dktX8_reach_1 : List UInt8 := dkwX8_reach_1 ++ []
def dkwX8_reach_0 : List UInt8 := [42, 3, 181, 0, 77, 42, 27, 182, 0, 233, 153, 0, 10, 28, 184, 1, 50, 154, 0, 5, 2, 172, 42, 28]
abbrev dktX8_reach_0 : List UInt8 := dkwX8_reach_0 ++ dktX8_reach_1
theorem dksX8_reach_0 : cX8_reach.data.toList.drop 0 = dktX8_reach_0 := by decide +kernel
theorem dksX8_reach_1 : cX8_reach.data.toList.drop 24 = dktX8_reach_1 := dk_seg dksX8_reach_0 24 rfl rfl
theorem dX8_reach_0 : decode cX8_reach 0 = .ok (.aload_n 0, 1) := dk_42 (dk_at dksX8_reach_0 0 rfl rfl)
theorem dX8_reach_1 : decode cX8_reach 1 = .ok (.iconst 0, 1) := dk_3 (dk_at dksX8_reach_0 1 rfl rfl)
theorem dX8_reach_2 : decode cX8_reach 2 = .ok (.putfield 77, 3) := dk_181 0 77 (dk_at dksX8_reach_0 2 rfl rfl)
theorem dX8_reach_5 : decode cX8_reach 5 = .ok (.aload_n 0, 1) := dk_42 (dk_at dksX8_reach_0 5 rfl rfl)
theorem dX8_reach_6 : decode cX8_reach 6 = .ok (.iload_n 1, 1) := dk_27 (dk_at dksX8_reach_0 6 rfl rfl)
theorem dX8_reach_7 : decode cX8_reach 7 = .ok (.invokevirtual 233, 3) := dk_182 0 233 (dk_at dksX8_reach_0 7 rfl rfl)
theorem dX8_reach_10 : decode cX8_reach 10 = .ok (.ifCond .eq 10, 3) := dk_153 0 10 (dk_at dksX8_reach_0 10 rfl rfl)
theorem dX8_reach_13 : decode cX8_reach 13 = .ok (.iload_n 2, 1) := dk_28 (dk_at dksX8_reach_0 13 rfl rfl)
theorem dX8_reach_14 : decode cX8_reach 14 = .ok (.invokestatic 306, 3) := dk_184 1 50 (dk_at dksX8_reach_0 14 rfl rfl)
theorem dX8_reach_17 : decode cX8_reach 17 = .ok (.ifCond .ne 5, 3) := dk_154 0 5 (dk_at dksX8_reach_0 17 rfl rfl)
theorem dX8_reach_20 : decode cX8_reach 20 = .ok (.iconst (-1), 1) := dk_2 (dk_at dksX8_reach_0 20 rfl rfl)
theorem dX8_reach_21 : decode cX8_reach 21 = .ok (.ireturn, 1) := dk_172 (dk_at dksX8_reach_0 21 rfl rfl)
theorem dX8_reach_22 : decode cX8_reach 22 = .ok (.aload_n 0, 1) := dk_42 (dk_at dksX8_reach_0 22 rfl rfl)
theorem dX8_reach_23 : decode cX8_reach 23 = .ok (.iload_n 2, 1) := dk_28 (dk_at dksX8_reach_0 23 rfl rfl)
theorem dX8_reach_24 : decode cX8_reach 24 = .ok (.invokevirtual 283, 3) := dk_182 1 27 (dk_at dksX8_reach_1 0 rfl rfl)
theorem dX8_reach_27 : decode cX8_reach 27 = .ok (.aload_n 0, 1) := dk_42 (dk_at dksX8_reach_1 3 rfl rfl)
theorem dX8_reach_28 : decode cX8_reach 28 = .ok (.iload_n 1, 1) := dk_27 (dk_at dksX8_reach_1 4 rfl rfl)
theorem dX8_reach_29 : decode cX8_reach 29 = .ok (.invokevirtual 358, 3) := dk_182 1 102 (dk_at dksX8_reach_1 5 rfl rfl)
theorem dX8_reach_32 : decode cX8_reach 32 = .ok (.ireturn, 1) := dk_172 (dk_at dksX8_reach_1 8 rfl rfl)
abbrev cX8_aim : ByteArray := prog_21_method_92_code
def yX8_aim : MethodName := ⟨RX8, "aim", "(II)I"⟩
def dkwX8_aim_4 : List UInt8 := [181, 0, 81, 42, 22, 5, 182, 0, 180, 29, 172]
abbrev dktX8_aim_4 : List UInt8 := dkwX8_aim_4 ++ []
def dkwX8_aim_3 : List UInt8 := [21, 5, 54, 4, 167, 255, 215, 42, 29, 182, 1, 27, 42, 27, 182, 1, 99, 133, 55, 5, 42, 3]
abbrev dktX8_aim_3 : List UInt8 := dkwX8_aim_3 ++ dktX8_aim_4
def dkwX8_aim_2 : List UInt8 := [108, 54, 5, 42, 21, 5, 182, 1, 27, 42, 27, 182, 1, 99, 28, 161, 0, 9, 21, 5, 62, 167, 0, 7]
abbrev dktX8_aim_2 : List UInt8 := dkwX8_aim_2 ++ dktX8_aim_3
def dkwX8_aim_1 : List UInt8 := [154, 0, 5, 2, 172, 3, 62, 16, 121, 54, 4, 21, 4, 29, 4, 96, 164, 0, 39, 29, 21, 4, 96, 5]
abbrev dktX8_aim_1 : List UInt8 := dkwX8_aim_1 ++ dktX8_aim_2
def dkwX8_aim_0 : List UInt8 := [42, 3, 181, 0, 77, 42, 27, 182, 0, 233, 153, 0, 15, 28, 133, 10, 20, 1, 43, 184, 0, 87]
abbrev dktX8_aim_0 : List UInt8 := dkwX8_aim_0 ++ dktX8_aim_1
theorem dksX8_aim_0 : cX8_aim.data.toList.drop 0 = dktX8_aim_0 := by decide +kernel
theorem dksX8_aim_1 : cX8_aim.data.toList.drop 22 = dktX8_aim_1 := dk_seg dksX8_aim_0 22 rfl rfl
theorem dksX8_aim_2 : cX8_aim.data.toList.drop 46 = dktX8_aim_2 := dk_seg dksX8_aim_1 24 rfl rfl
theorem dksX8_aim_3 : cX8_aim.data.toList.drop 70 = dktX8_aim_3 := dk_seg dksX8_aim_2 24 rfl rfl
theorem dksX8_aim_4 : cX8_aim.data.toList.drop 92 = dktX8_aim_4 := dk_seg dksX8_aim_3 22 rfl rfl
theorem dX8_aim_0 : decode cX8_aim 0 = .ok (.aload_n 0, 1) := dk_42 (dk_at dksX8_aim_0 0 rfl rfl)
theorem dX8_aim_1 : decode cX8_aim 1 = .ok (.iconst 0, 1) := dk_3 (dk_at dksX8_aim_0 1 rfl rfl)
theorem dX8_aim_2 : decode cX8_aim 2 = .ok (.putfield 77, 3) := dk_181 0 77 (dk_at dksX8_aim_0 2 rfl rfl)
theorem dX8_aim_5 : decode cX8_aim 5 = .ok (.aload_n 0, 1) := dk_42 (dk_at dksX8_aim_0 5 rfl rfl)
theorem dX8_aim_6 : decode cX8_aim 6 = .ok (.iload_n 1, 1) := dk_27 (dk_at dksX8_aim_0 6 rfl rfl)
theorem dX8_aim_7 : decode cX8_aim 7 = .ok (.invokevirtual 233, 3) := dk_182 0 233 (dk_at dksX8_aim_0 7 rfl rfl)
theorem dX8_aim_10 : decode cX8_aim 10 = .ok (.ifCond .eq 15, 3) := dk_153 0 15 (dk_at dksX8_aim_0 10 rfl rfl)
theorem dX8_aim_13 : decode cX8_aim 13 = .ok (.iload_n 2, 1) := dk_28 (dk_at dksX8_aim_0 13 rfl rfl)
theorem dX8_aim_14 : decode cX8_aim 14 = .ok (.i2l, 1) := dk_133 (dk_at dksX8_aim_0 14 rfl rfl)
theorem dX8_aim_15 : decode cX8_aim 15 = .ok (.lconst 1, 1) := dk_10 (dk_at dksX8_aim_0 15 rfl rfl)
theorem dX8_aim_16 : decode cX8_aim 16 = .ok (.ldc2_w 299, 3) := dk_20 1 43 (dk_at dksX8_aim_0 16 rfl rfl)
theorem dX8_aim_19 : decode cX8_aim 19 = .ok (.invokestatic 87, 3) := dk_184 0 87 (dk_at dksX8_aim_0 19 rfl rfl)
theorem dX8_aim_22 : decode cX8_aim 22 = .ok (.ifCond .ne 5, 3) := dk_154 0 5 (dk_at dksX8_aim_1 0 rfl rfl)
theorem dX8_aim_25 : decode cX8_aim 25 = .ok (.iconst (-1), 1) := dk_2 (dk_at dksX8_aim_1 3 rfl rfl)
theorem dX8_aim_26 : decode cX8_aim 26 = .ok (.ireturn, 1) := dk_172 (dk_at dksX8_aim_1 4 rfl rfl)
theorem dX8_aim_27 : decode cX8_aim 27 = .ok (.iconst 0, 1) := dk_3 (dk_at dksX8_aim_1 5 rfl rfl)
theorem dX8_aim_28 : decode cX8_aim 28 = .ok (.istore_n 3, 1) := dk_62 (dk_at dksX8_aim_1 6 rfl rfl)
theorem dX8_aim_29 : decode cX8_aim 29 = .ok (.bipush 121, 2) := dk_16 121 (dk_at dksX8_aim_1 7 rfl rfl)
theorem dX8_aim_31 : decode cX8_aim 31 = .ok (.istore 4, 2) := dk_54 4 (dk_at dksX8_aim_1 9 rfl rfl)
theorem dX8_aim_33 : decode cX8_aim 33 = .ok (.iload 4, 2) := dk_21 4 (dk_at dksX8_aim_1 11 rfl rfl)
theorem dX8_aim_35 : decode cX8_aim 35 = .ok (.iload_n 3, 1) := dk_29 (dk_at dksX8_aim_1 13 rfl rfl)
theorem dX8_aim_36 : decode cX8_aim 36 = .ok (.iconst 1, 1) := dk_4 (dk_at dksX8_aim_1 14 rfl rfl)
theorem dX8_aim_37 : decode cX8_aim 37 = .ok (.iadd, 1) := dk_96 (dk_at dksX8_aim_1 15 rfl rfl)
theorem dX8_aim_38 : decode cX8_aim 38 = .ok (.if_icmp .le 39, 3) := dk_164 0 39 (dk_at dksX8_aim_1 16 rfl rfl)
theorem dX8_aim_41 : decode cX8_aim 41 = .ok (.iload_n 3, 1) := dk_29 (dk_at dksX8_aim_1 19 rfl rfl)
theorem dX8_aim_42 : decode cX8_aim 42 = .ok (.iload 4, 2) := dk_21 4 (dk_at dksX8_aim_1 20 rfl rfl)
theorem dX8_aim_44 : decode cX8_aim 44 = .ok (.iadd, 1) := dk_96 (dk_at dksX8_aim_1 22 rfl rfl)
theorem dX8_aim_45 : decode cX8_aim 45 = .ok (.iconst 2, 1) := dk_5 (dk_at dksX8_aim_1 23 rfl rfl)
theorem dX8_aim_46 : decode cX8_aim 46 = .ok (.idiv, 1) := dk_108 (dk_at dksX8_aim_2 0 rfl rfl)
theorem dX8_aim_47 : decode cX8_aim 47 = .ok (.istore 5, 2) := dk_54 5 (dk_at dksX8_aim_2 1 rfl rfl)
theorem dX8_aim_49 : decode cX8_aim 49 = .ok (.aload_n 0, 1) := dk_42 (dk_at dksX8_aim_2 3 rfl rfl)
theorem dX8_aim_50 : decode cX8_aim 50 = .ok (.iload 5, 2) := dk_21 5 (dk_at dksX8_aim_2 4 rfl rfl)
theorem dX8_aim_52 : decode cX8_aim 52 = .ok (.invokevirtual 283, 3) := dk_182 1 27 (dk_at dksX8_aim_2 6 rfl rfl)
theorem dX8_aim_55 : decode cX8_aim 55 = .ok (.aload_n 0, 1) := dk_42 (dk_at dksX8_aim_2 9 rfl rfl)
theorem dX8_aim_56 : decode cX8_aim 56 = .ok (.iload_n 1, 1) := dk_27 (dk_at dksX8_aim_2 10 rfl rfl)
theorem dX8_aim_57 : decode cX8_aim 57 = .ok (.invokevirtual 355, 3) := dk_182 1 99 (dk_at dksX8_aim_2 11 rfl rfl)
theorem dX8_aim_60 : decode cX8_aim 60 = .ok (.iload_n 2, 1) := dk_28 (dk_at dksX8_aim_2 14 rfl rfl)
theorem dX8_aim_61 : decode cX8_aim 61 = .ok (.if_icmp .lt 9, 3) := dk_161 0 9 (dk_at dksX8_aim_2 15 rfl rfl)
theorem dX8_aim_64 : decode cX8_aim 64 = .ok (.iload 5, 2) := dk_21 5 (dk_at dksX8_aim_2 18 rfl rfl)
theorem dX8_aim_66 : decode cX8_aim 66 = .ok (.istore_n 3, 1) := dk_62 (dk_at dksX8_aim_2 20 rfl rfl)
theorem dX8_aim_67 : decode cX8_aim 67 = .ok (.goto 7, 3) := dk_167 0 7 (dk_at dksX8_aim_2 21 rfl rfl)
theorem dX8_aim_70 : decode cX8_aim 70 = .ok (.iload 5, 2) := dk_21 5 (dk_at dksX8_aim_3 0 rfl rfl)
theorem dX8_aim_72 : decode cX8_aim 72 = .ok (.istore 4, 2) := dk_54 4 (dk_at dksX8_aim_3 2 rfl rfl)
theorem dX8_aim_74 : decode cX8_aim 74 = .ok (.goto (-41), 3) := dk_167 255 215 (dk_at dksX8_aim_3 4 rfl rfl)
theorem dX8_aim_77 : decode cX8_aim 77 = .ok (.aload_n 0, 1) := dk_42 (dk_at dksX8_aim_3 7 rfl rfl)
theorem dX8_aim_78 : decode cX8_aim 78 = .ok (.iload_n 3, 1) := dk_29 (dk_at dksX8_aim_3 8 rfl rfl)
theorem dX8_aim_79 : decode cX8_aim 79 = .ok (.invokevirtual 283, 3) := dk_182 1 27 (dk_at dksX8_aim_3 9 rfl rfl)
theorem dX8_aim_82 : decode cX8_aim 82 = .ok (.aload_n 0, 1) := dk_42 (dk_at dksX8_aim_3 12 rfl rfl)
theorem dX8_aim_83 : decode cX8_aim 83 = .ok (.iload_n 1, 1) := dk_27 (dk_at dksX8_aim_3 13 rfl rfl)
theorem dX8_aim_84 : decode cX8_aim 84 = .ok (.invokevirtual 355, 3) := dk_182 1 99 (dk_at dksX8_aim_3 14 rfl rfl)
theorem dX8_aim_87 : decode cX8_aim 87 = .ok (.i2l, 1) := dk_133 (dk_at dksX8_aim_3 17 rfl rfl)
theorem dX8_aim_88 : decode cX8_aim 88 = .ok (.lstore 5, 2) := dk_55 5 (dk_at dksX8_aim_3 18 rfl rfl)
theorem dX8_aim_90 : decode cX8_aim 90 = .ok (.aload_n 0, 1) := dk_42 (dk_at dksX8_aim_3 20 rfl rfl)
theorem dX8_aim_91 : decode cX8_aim 91 = .ok (.iconst 0, 1) := dk_3 (dk_at dksX8_aim_3 21 rfl rfl)
theorem dX8_aim_92 : decode cX8_aim 92 = .ok (.putfield 81, 3) := dk_181 0 81 (dk_at dksX8_aim_4 0 rfl rfl)
theorem dX8_aim_95 : decode cX8_aim 95 = .ok (.aload_n 0, 1) := dk_42 (dk_at dksX8_aim_4 3 rfl rfl)
theorem dX8_aim_96 : decode cX8_aim 96 = .ok (.lload 5, 2) := dk_22 5 (dk_at dksX8_aim_4 4 rfl rfl)
theorem dX8_aim_98 : decode cX8_aim 98 = .ok (.invokevirtual 180, 3) := dk_182 0 180 (dk_at dksX8_aim_4 6 rfl rfl)
theorem dX8_aim_101 : decode cX8_aim 101 = .ok (.iload_n 3, 1) := dk_29 (dk_at dksX8_aim_4 9 rfl rfl)
theorem dX8_aim_102 : decode cX8_aim 102 = .ok (.ireturn, 1) := dk_172 (dk_at dksX8_aim_4 10 rfl rfl)
abbrev cX8_against : ByteArray := prog_21_method_93_code
def yX8_against : MethodName := ⟨RX8, "against", "(II)I"⟩
def dkwX8_against_1 : List UInt8 := [160, 0, 5, 2, 172, 42, 27, 28, 182, 1, 53, 42, 27, 182, 1, 102, 172]
abbrev dktX8_against_1 : List UInt8 := dkwX8_against_1 ++ []
def dkwX8_against_0 : List UInt8 := [42, 3, 181, 0, 77, 42, 27, 182, 0, 233, 153, 0, 16, 42, 28, 182, 0, 233, 153, 0, 8, 27, 28]
abbrev dktX8_against_0 : List UInt8 := dkwX8_against_0 ++ dktX8_against_1
theorem dksX8_against_0 : cX8_against.data.toList.drop 0 = dktX8_against_0 := by decide +kernel
theorem dksX8_against_1 : cX8_against.data.toList.drop 23 = dktX8_against_1 := dk_seg dksX8_against_0 23 rfl rfl
theorem dX8_against_0 : decode cX8_against 0 = .ok (.aload_n 0, 1) := dk_42 (dk_at dksX8_against_0 0 rfl rfl)
theorem dX8_against_1 : decode cX8_against 1 = .ok (.iconst 0, 1) := dk_3 (dk_at dksX8_against_0 1 rfl rfl)
theorem dX8_against_2 : decode cX8_against 2 = .ok (.putfield 77, 3) := dk_181 0 77 (dk_at dksX8_against_0 2 rfl rfl)
theorem dX8_against_5 : decode cX8_against 5 = .ok (.aload_n 0, 1) := dk_42 (dk_at dksX8_against_0 5 rfl rfl)
theorem dX8_against_6 : decode cX8_against 6 = .ok (.iload_n 1, 1) := dk_27 (dk_at dksX8_against_0 6 rfl rfl)
theorem dX8_against_7 : decode cX8_against 7 = .ok (.invokevirtual 233, 3) := dk_182 0 233 (dk_at dksX8_against_0 7 rfl rfl)
theorem dX8_against_10 : decode cX8_against 10 = .ok (.ifCond .eq 16, 3) := dk_153 0 16 (dk_at dksX8_against_0 10 rfl rfl)
theorem dX8_against_13 : decode cX8_against 13 = .ok (.aload_n 0, 1) := dk_42 (dk_at dksX8_against_0 13 rfl rfl)
theorem dX8_against_14 : decode cX8_against 14 = .ok (.iload_n 2, 1) := dk_28 (dk_at dksX8_against_0 14 rfl rfl)
theorem dX8_against_15 : decode cX8_against 15 = .ok (.invokevirtual 233, 3) := dk_182 0 233 (dk_at dksX8_against_0 15 rfl rfl)
theorem dX8_against_18 : decode cX8_against 18 = .ok (.ifCond .eq 8, 3) := dk_153 0 8 (dk_at dksX8_against_0 18 rfl rfl)
theorem dX8_against_21 : decode cX8_against 21 = .ok (.iload_n 1, 1) := dk_27 (dk_at dksX8_against_0 21 rfl rfl)
theorem dX8_against_22 : decode cX8_against 22 = .ok (.iload_n 2, 1) := dk_28 (dk_at dksX8_against_0 22 rfl rfl)
theorem dX8_against_23 : decode cX8_against 23 = .ok (.if_icmp .ne 5, 3) := dk_160 0 5 (dk_at dksX8_against_1 0 rfl rfl)
theorem dX8_against_26 : decode cX8_against 26 = .ok (.iconst (-1), 1) := dk_2 (dk_at dksX8_against_1 3 rfl rfl)
theorem dX8_against_27 : decode cX8_against 27 = .ok (.ireturn, 1) := dk_172 (dk_at dksX8_against_1 4 rfl rfl)
theorem dX8_against_28 : decode cX8_against 28 = .ok (.aload_n 0, 1) := dk_42 (dk_at dksX8_against_1 5 rfl rfl)
theorem dX8_against_29 : decode cX8_against 29 = .ok (.iload_n 1, 1) := dk_27 (dk_at dksX8_against_1 6 rfl rfl)
theorem dX8_against_30 : decode cX8_against 30 = .ok (.iload_n 2, 1) := dk_28 (dk_at dksX8_against_1 7 rfl rfl)
theorem dX8_against_31 : decode cX8_against 31 = .ok (.invokevirtual 309, 3) := dk_182 1 53 (dk_at dksX8_against_1 8 rfl rfl)
theorem dX8_against_34 : decode cX8_against 34 = .ok (.aload_n 0, 1) := dk_42 (dk_at dksX8_against_1 11 rfl rfl)
theorem dX8_against_35 : decode cX8_against 35 = .ok (.iload_n 1, 1) := dk_27 (dk_at dksX8_against_1 12 rfl rfl)
theorem dX8_against_36 : decode cX8_against 36 = .ok (.invokevirtual 358, 3) := dk_182 1 102 (dk_at dksX8_against_1 13 rfl rfl)
theorem dX8_against_39 : decode cX8_against 39 = .ok (.ireturn, 1) := dk_172 (dk_at dksX8_against_1 16 rfl rfl)
abbrev cX8_gold : ByteArray := prog_21_method_94_code
def yX8_gold : MethodName := ⟨RX8, "gold", "(I)I"⟩
def dkwX8_gold_1 : List UInt8 := [182, 1, 102, 172]
abbrev dktX8_gold_1 : List UInt8 := dkwX8_gold_1 ++ []
def dkwX8_gold_0 : List UInt8 := [42, 3, 181, 0, 77, 42, 27, 182, 0, 233, 154, 0, 5, 2, 172, 42, 27, 182, 1, 57, 42, 27]
abbrev dktX8_gold_0 : List UInt8 := dkwX8_gold_0 ++ dktX8_gold_1
theorem dksX8_gold_0 : cX8_gold.data.toList.drop 0 = dktX8_gold_0 := by decide +kernel
theorem dksX8_gold_1 : cX8_gold.data.toList.drop 22 = dktX8_gold_1 := dk_seg dksX8_gold_0 22 rfl rfl
theorem dX8_gold_0 : decode cX8_gold 0 = .ok (.aload_n 0, 1) := dk_42 (dk_at dksX8_gold_0 0 rfl rfl)
theorem dX8_gold_1 : decode cX8_gold 1 = .ok (.iconst 0, 1) := dk_3 (dk_at dksX8_gold_0 1 rfl rfl)
theorem dX8_gold_2 : decode cX8_gold 2 = .ok (.putfield 77, 3) := dk_181 0 77 (dk_at dksX8_gold_0 2 rfl rfl)
theorem dX8_gold_5 : decode cX8_gold 5 = .ok (.aload_n 0, 1) := dk_42 (dk_at dksX8_gold_0 5 rfl rfl)
theorem dX8_gold_6 : decode cX8_gold 6 = .ok (.iload_n 1, 1) := dk_27 (dk_at dksX8_gold_0 6 rfl rfl)
theorem dX8_gold_7 : decode cX8_gold 7 = .ok (.invokevirtual 233, 3) := dk_182 0 233 (dk_at dksX8_gold_0 7 rfl rfl)
theorem dX8_gold_10 : decode cX8_gold 10 = .ok (.ifCond .ne 5, 3) := dk_154 0 5 (dk_at dksX8_gold_0 10 rfl rfl)
theorem dX8_gold_13 : decode cX8_gold 13 = .ok (.iconst (-1), 1) := dk_2 (dk_at dksX8_gold_0 13 rfl rfl)
theorem dX8_gold_14 : decode cX8_gold 14 = .ok (.ireturn, 1) := dk_172 (dk_at dksX8_gold_0 14 rfl rfl)
theorem dX8_gold_15 : decode cX8_gold 15 = .ok (.aload_n 0, 1) := dk_42 (dk_at dksX8_gold_0 15 rfl rfl)
theorem dX8_gold_16 : decode cX8_gold 16 = .ok (.iload_n 1, 1) := dk_27 (dk_at dksX8_gold_0 16 rfl rfl)
theorem dX8_gold_17 : decode cX8_gold 17 = .ok (.invokevirtual 313, 3) := dk_182 1 57 (dk_at dksX8_gold_0 17 rfl rfl)
theorem dX8_gold_20 : decode cX8_gold 20 = .ok (.aload_n 0, 1) := dk_42 (dk_at dksX8_gold_0 20 rfl rfl)
theorem dX8_gold_21 : decode cX8_gold 21 = .ok (.iload_n 1, 1) := dk_27 (dk_at dksX8_gold_0 21 rfl rfl)
theorem dX8_gold_22 : decode cX8_gold 22 = .ok (.invokevirtual 358, 3) := dk_182 1 102 (dk_at dksX8_gold_1 0 rfl rfl)
theorem dX8_gold_25 : decode cX8_gold 25 = .ok (.ireturn, 1) := dk_172 (dk_at dksX8_gold_1 3 rfl rfl)
abbrev cX8_line : ByteArray := prog_21_method_96_code
def yX8_line : MethodName := ⟨RX8, "line", "(IIZ)I"⟩
def dkwX8_line_8 : List UInt8 := [180, 0, 81, 172, 21, 5, 21, 8, 96, 54, 5, 132, 6, 1, 167, 255, 135, 42, 180, 0, 81, 172]
abbrev dktX8_line_8 : List UInt8 := dkwX8_line_8 ++ []
def dkwX8_line_7 : List UInt8 := [96, 182, 0, 106, 167, 0, 4, 3, 21, 5, 29, 182, 1, 105, 54, 8, 21, 8, 154, 0, 8, 42]
abbrev dktX8_line_7 : List UInt8 := dkwX8_line_7 ++ dktX8_line_8
def dkwX8_line_6 : List UInt8 := [153, 0, 12, 42, 27, 7, 182, 0, 106, 167, 0, 4, 3, 21, 7, 153, 0, 16, 42, 27, 16, 7, 21, 6]
abbrev dktX8_line_6 : List UInt8 := dkwX8_line_6 ++ dktX8_line_7
def dkwX8_line_5 : List UInt8 := [27, 182, 1, 21, 167, 0, 4, 3, 21, 7, 153, 0, 11, 42, 27, 182, 0, 249, 167, 0, 4, 4, 21, 7]
abbrev dktX8_line_5 : List UInt8 := dkwX8_line_5 ++ dktX8_line_6
def dkwX8_line_4 : List UInt8 := [21, 6, 21, 4, 160, 0, 7, 4, 167, 0, 4, 3, 54, 7, 42, 27, 21, 6, 21, 7, 153, 0, 11, 42]
abbrev dktX8_line_4 : List UInt8 := dkwX8_line_4 ++ dktX8_line_5
def dkwX8_line_3 : List UInt8 := [27, 182, 1, 24, 54, 5, 21, 4, 54, 6, 21, 6, 6, 162, 0, 121, 42, 27, 21, 6, 182, 1, 93]
abbrev dktX8_line_3 : List UInt8 := dkwX8_line_3 ++ dktX8_line_4
def dkwX8_line_2 : List UInt8 := [182, 0, 121, 154, 0, 10, 42, 182, 0, 113, 153, 0, 5, 3, 172, 42, 180, 0, 32, 3, 46, 54, 4, 42]
abbrev dktX8_line_2 : List UInt8 := dkwX8_line_2 ++ dktX8_line_3
def dkwX8_line_1 : List UInt8 := [172, 28, 154, 0, 10, 42, 182, 1, 45, 167, 0, 8, 42, 27, 182, 1, 57, 42, 3, 181, 0, 81, 42, 27]
abbrev dktX8_line_1 : List UInt8 := dkwX8_line_1 ++ dktX8_line_2
def dkwX8_line_0 : List UInt8 := [42, 3, 181, 0, 77, 42, 27, 182, 0, 233, 153, 0, 13, 28, 133, 9, 10, 184, 0, 87, 154, 0, 5, 2]
abbrev dktX8_line_0 : List UInt8 := dkwX8_line_0 ++ dktX8_line_1
theorem dksX8_line_0 : cX8_line.data.toList.drop 0 = dktX8_line_0 := by decide +kernel
theorem dksX8_line_1 : cX8_line.data.toList.drop 24 = dktX8_line_1 := dk_seg dksX8_line_0 24 rfl rfl
theorem dksX8_line_2 : cX8_line.data.toList.drop 48 = dktX8_line_2 := dk_seg dksX8_line_1 24 rfl rfl
theorem dksX8_line_3 : cX8_line.data.toList.drop 72 = dktX8_line_3 := dk_seg dksX8_line_2 24 rfl rfl
theorem dksX8_line_4 : cX8_line.data.toList.drop 95 = dktX8_line_4 := dk_seg dksX8_line_3 23 rfl rfl
theorem dksX8_line_5 : cX8_line.data.toList.drop 119 = dktX8_line_5 := dk_seg dksX8_line_4 24 rfl rfl
theorem dksX8_line_6 : cX8_line.data.toList.drop 143 = dktX8_line_6 := dk_seg dksX8_line_5 24 rfl rfl
theorem dksX8_line_7 : cX8_line.data.toList.drop 167 = dktX8_line_7 := dk_seg dksX8_line_6 24 rfl rfl
theorem dksX8_line_8 : cX8_line.data.toList.drop 189 = dktX8_line_8 := dk_seg dksX8_line_7 22 rfl rfl
theorem dX8_line_0 : decode cX8_line 0 = .ok (.aload_n 0, 1) := dk_42 (dk_at dksX8_line_0 0 rfl rfl)
theorem dX8_line_1 : decode cX8_line 1 = .ok (.iconst 0, 1) := dk_3 (dk_at dksX8_line_0 1 rfl rfl)
theorem dX8_line_2 : decode cX8_line 2 = .ok (.putfield 77, 3) := dk_181 0 77 (dk_at dksX8_line_0 2 rfl rfl)
theorem dX8_line_5 : decode cX8_line 5 = .ok (.aload_n 0, 1) := dk_42 (dk_at dksX8_line_0 5 rfl rfl)
theorem dX8_line_6 : decode cX8_line 6 = .ok (.iload_n 1, 1) := dk_27 (dk_at dksX8_line_0 6 rfl rfl)
theorem dX8_line_7 : decode cX8_line 7 = .ok (.invokevirtual 233, 3) := dk_182 0 233 (dk_at dksX8_line_0 7 rfl rfl)
theorem dX8_line_10 : decode cX8_line 10 = .ok (.ifCond .eq 13, 3) := dk_153 0 13 (dk_at dksX8_line_0 10 rfl rfl)
theorem dX8_line_13 : decode cX8_line 13 = .ok (.iload_n 2, 1) := dk_28 (dk_at dksX8_line_0 13 rfl rfl)
theorem dX8_line_14 : decode cX8_line 14 = .ok (.i2l, 1) := dk_133 (dk_at dksX8_line_0 14 rfl rfl)
theorem dX8_line_15 : decode cX8_line 15 = .ok (.lconst 0, 1) := dk_9 (dk_at dksX8_line_0 15 rfl rfl)
theorem dX8_line_16 : decode cX8_line 16 = .ok (.lconst 1, 1) := dk_10 (dk_at dksX8_line_0 16 rfl rfl)
theorem dX8_line_17 : decode cX8_line 17 = .ok (.invokestatic 87, 3) := dk_184 0 87 (dk_at dksX8_line_0 17 rfl rfl)
theorem dX8_line_20 : decode cX8_line 20 = .ok (.ifCond .ne 5, 3) := dk_154 0 5 (dk_at dksX8_line_0 20 rfl rfl)
theorem dX8_line_23 : decode cX8_line 23 = .ok (.iconst (-1), 1) := dk_2 (dk_at dksX8_line_0 23 rfl rfl)
theorem dX8_line_24 : decode cX8_line 24 = .ok (.ireturn, 1) := dk_172 (dk_at dksX8_line_1 0 rfl rfl)
theorem dX8_line_25 : decode cX8_line 25 = .ok (.iload_n 2, 1) := dk_28 (dk_at dksX8_line_1 1 rfl rfl)
theorem dX8_line_26 : decode cX8_line 26 = .ok (.ifCond .ne 10, 3) := dk_154 0 10 (dk_at dksX8_line_1 2 rfl rfl)
theorem dX8_line_29 : decode cX8_line 29 = .ok (.aload_n 0, 1) := dk_42 (dk_at dksX8_line_1 5 rfl rfl)
theorem dX8_line_30 : decode cX8_line 30 = .ok (.invokevirtual 301, 3) := dk_182 1 45 (dk_at dksX8_line_1 6 rfl rfl)
theorem dX8_line_33 : decode cX8_line 33 = .ok (.goto 8, 3) := dk_167 0 8 (dk_at dksX8_line_1 9 rfl rfl)
theorem dX8_line_36 : decode cX8_line 36 = .ok (.aload_n 0, 1) := dk_42 (dk_at dksX8_line_1 12 rfl rfl)
theorem dX8_line_37 : decode cX8_line 37 = .ok (.iload_n 1, 1) := dk_27 (dk_at dksX8_line_1 13 rfl rfl)
theorem dX8_line_38 : decode cX8_line 38 = .ok (.invokevirtual 313, 3) := dk_182 1 57 (dk_at dksX8_line_1 14 rfl rfl)
theorem dX8_line_41 : decode cX8_line 41 = .ok (.aload_n 0, 1) := dk_42 (dk_at dksX8_line_1 17 rfl rfl)
theorem dX8_line_42 : decode cX8_line 42 = .ok (.iconst 0, 1) := dk_3 (dk_at dksX8_line_1 18 rfl rfl)
theorem dX8_line_43 : decode cX8_line 43 = .ok (.putfield 81, 3) := dk_181 0 81 (dk_at dksX8_line_1 19 rfl rfl)
theorem dX8_line_46 : decode cX8_line 46 = .ok (.aload_n 0, 1) := dk_42 (dk_at dksX8_line_1 22 rfl rfl)
theorem dX8_line_47 : decode cX8_line 47 = .ok (.iload_n 1, 1) := dk_27 (dk_at dksX8_line_1 23 rfl rfl)
theorem dX8_line_48 : decode cX8_line 48 = .ok (.invokevirtual 121, 3) := dk_182 0 121 (dk_at dksX8_line_2 0 rfl rfl)
theorem dX8_line_51 : decode cX8_line 51 = .ok (.ifCond .ne 10, 3) := dk_154 0 10 (dk_at dksX8_line_2 3 rfl rfl)
theorem dX8_line_54 : decode cX8_line 54 = .ok (.aload_n 0, 1) := dk_42 (dk_at dksX8_line_2 6 rfl rfl)
theorem dX8_line_55 : decode cX8_line 55 = .ok (.invokevirtual 113, 3) := dk_182 0 113 (dk_at dksX8_line_2 7 rfl rfl)
theorem dX8_line_58 : decode cX8_line 58 = .ok (.ifCond .eq 5, 3) := dk_153 0 5 (dk_at dksX8_line_2 10 rfl rfl)
theorem dX8_line_61 : decode cX8_line 61 = .ok (.iconst 0, 1) := dk_3 (dk_at dksX8_line_2 13 rfl rfl)
theorem dX8_line_62 : decode cX8_line 62 = .ok (.ireturn, 1) := dk_172 (dk_at dksX8_line_2 14 rfl rfl)
theorem dX8_line_63 : decode cX8_line 63 = .ok (.aload_n 0, 1) := dk_42 (dk_at dksX8_line_2 15 rfl rfl)
theorem dX8_line_64 : decode cX8_line 64 = .ok (.getfield 32, 3) := dk_180 0 32 (dk_at dksX8_line_2 16 rfl rfl)
theorem dX8_line_67 : decode cX8_line 67 = .ok (.iconst 0, 1) := dk_3 (dk_at dksX8_line_2 19 rfl rfl)
theorem dX8_line_68 : decode cX8_line 68 = .ok (.iaload, 1) := dk_46 (dk_at dksX8_line_2 20 rfl rfl)
theorem dX8_line_69 : decode cX8_line 69 = .ok (.istore 4, 2) := dk_54 4 (dk_at dksX8_line_2 21 rfl rfl)
theorem dX8_line_71 : decode cX8_line 71 = .ok (.aload_n 0, 1) := dk_42 (dk_at dksX8_line_2 23 rfl rfl)
theorem dX8_line_72 : decode cX8_line 72 = .ok (.iload_n 1, 1) := dk_27 (dk_at dksX8_line_3 0 rfl rfl)
theorem dX8_line_73 : decode cX8_line 73 = .ok (.invokevirtual 280, 3) := dk_182 1 24 (dk_at dksX8_line_3 1 rfl rfl)
theorem dX8_line_76 : decode cX8_line 76 = .ok (.istore 5, 2) := dk_54 5 (dk_at dksX8_line_3 4 rfl rfl)
theorem dX8_line_78 : decode cX8_line 78 = .ok (.iload 4, 2) := dk_21 4 (dk_at dksX8_line_3 6 rfl rfl)
theorem dX8_line_80 : decode cX8_line 80 = .ok (.istore 6, 2) := dk_54 6 (dk_at dksX8_line_3 8 rfl rfl)
theorem dX8_line_82 : decode cX8_line 82 = .ok (.iload 6, 2) := dk_21 6 (dk_at dksX8_line_3 10 rfl rfl)
theorem dX8_line_84 : decode cX8_line 84 = .ok (.iconst 3, 1) := dk_6 (dk_at dksX8_line_3 12 rfl rfl)
theorem dX8_line_85 : decode cX8_line 85 = .ok (.if_icmp .ge 121, 3) := dk_162 0 121 (dk_at dksX8_line_3 13 rfl rfl)
theorem dX8_line_88 : decode cX8_line 88 = .ok (.aload_n 0, 1) := dk_42 (dk_at dksX8_line_3 16 rfl rfl)
theorem dX8_line_89 : decode cX8_line 89 = .ok (.iload_n 1, 1) := dk_27 (dk_at dksX8_line_3 17 rfl rfl)
theorem dX8_line_90 : decode cX8_line 90 = .ok (.iload 6, 2) := dk_21 6 (dk_at dksX8_line_3 18 rfl rfl)
theorem dX8_line_92 : decode cX8_line 92 = .ok (.invokevirtual 349, 3) := dk_182 1 93 (dk_at dksX8_line_3 20 rfl rfl)
theorem dX8_line_95 : decode cX8_line 95 = .ok (.iload 6, 2) := dk_21 6 (dk_at dksX8_line_4 0 rfl rfl)
theorem dX8_line_97 : decode cX8_line 97 = .ok (.iload 4, 2) := dk_21 4 (dk_at dksX8_line_4 2 rfl rfl)
theorem dX8_line_99 : decode cX8_line 99 = .ok (.if_icmp .ne 7, 3) := dk_160 0 7 (dk_at dksX8_line_4 4 rfl rfl)
theorem dX8_line_102 : decode cX8_line 102 = .ok (.iconst 1, 1) := dk_4 (dk_at dksX8_line_4 7 rfl rfl)
theorem dX8_line_103 : decode cX8_line 103 = .ok (.goto 4, 3) := dk_167 0 4 (dk_at dksX8_line_4 8 rfl rfl)
theorem dX8_line_106 : decode cX8_line 106 = .ok (.iconst 0, 1) := dk_3 (dk_at dksX8_line_4 11 rfl rfl)
theorem dX8_line_107 : decode cX8_line 107 = .ok (.istore 7, 2) := dk_54 7 (dk_at dksX8_line_4 12 rfl rfl)
theorem dX8_line_109 : decode cX8_line 109 = .ok (.aload_n 0, 1) := dk_42 (dk_at dksX8_line_4 14 rfl rfl)
theorem dX8_line_110 : decode cX8_line 110 = .ok (.iload_n 1, 1) := dk_27 (dk_at dksX8_line_4 15 rfl rfl)
theorem dX8_line_111 : decode cX8_line 111 = .ok (.iload 6, 2) := dk_21 6 (dk_at dksX8_line_4 16 rfl rfl)
theorem dX8_line_113 : decode cX8_line 113 = .ok (.iload 7, 2) := dk_21 7 (dk_at dksX8_line_4 18 rfl rfl)
theorem dX8_line_115 : decode cX8_line 115 = .ok (.ifCond .eq 11, 3) := dk_153 0 11 (dk_at dksX8_line_4 20 rfl rfl)
theorem dX8_line_118 : decode cX8_line 118 = .ok (.aload_n 0, 1) := dk_42 (dk_at dksX8_line_4 23 rfl rfl)
theorem dX8_line_119 : decode cX8_line 119 = .ok (.iload_n 1, 1) := dk_27 (dk_at dksX8_line_5 0 rfl rfl)
theorem dX8_line_120 : decode cX8_line 120 = .ok (.invokevirtual 277, 3) := dk_182 1 21 (dk_at dksX8_line_5 1 rfl rfl)
theorem dX8_line_123 : decode cX8_line 123 = .ok (.goto 4, 3) := dk_167 0 4 (dk_at dksX8_line_5 4 rfl rfl)
theorem dX8_line_126 : decode cX8_line 126 = .ok (.iconst 0, 1) := dk_3 (dk_at dksX8_line_5 7 rfl rfl)
theorem dX8_line_127 : decode cX8_line 127 = .ok (.iload 7, 2) := dk_21 7 (dk_at dksX8_line_5 8 rfl rfl)
theorem dX8_line_129 : decode cX8_line 129 = .ok (.ifCond .eq 11, 3) := dk_153 0 11 (dk_at dksX8_line_5 10 rfl rfl)
theorem dX8_line_132 : decode cX8_line 132 = .ok (.aload_n 0, 1) := dk_42 (dk_at dksX8_line_5 13 rfl rfl)
theorem dX8_line_133 : decode cX8_line 133 = .ok (.iload_n 1, 1) := dk_27 (dk_at dksX8_line_5 14 rfl rfl)
theorem dX8_line_134 : decode cX8_line 134 = .ok (.invokevirtual 249, 3) := dk_182 0 249 (dk_at dksX8_line_5 15 rfl rfl)
theorem dX8_line_137 : decode cX8_line 137 = .ok (.goto 4, 3) := dk_167 0 4 (dk_at dksX8_line_5 18 rfl rfl)
theorem dX8_line_140 : decode cX8_line 140 = .ok (.iconst 1, 1) := dk_4 (dk_at dksX8_line_5 21 rfl rfl)
theorem dX8_line_141 : decode cX8_line 141 = .ok (.iload 7, 2) := dk_21 7 (dk_at dksX8_line_5 22 rfl rfl)
theorem dX8_line_143 : decode cX8_line 143 = .ok (.ifCond .eq 12, 3) := dk_153 0 12 (dk_at dksX8_line_6 0 rfl rfl)
theorem dX8_line_146 : decode cX8_line 146 = .ok (.aload_n 0, 1) := dk_42 (dk_at dksX8_line_6 3 rfl rfl)
theorem dX8_line_147 : decode cX8_line 147 = .ok (.iload_n 1, 1) := dk_27 (dk_at dksX8_line_6 4 rfl rfl)
theorem dX8_line_148 : decode cX8_line 148 = .ok (.iconst 4, 1) := dk_7 (dk_at dksX8_line_6 5 rfl rfl)
theorem dX8_line_149 : decode cX8_line 149 = .ok (.invokevirtual 106, 3) := dk_182 0 106 (dk_at dksX8_line_6 6 rfl rfl)
theorem dX8_line_152 : decode cX8_line 152 = .ok (.goto 4, 3) := dk_167 0 4 (dk_at dksX8_line_6 9 rfl rfl)
theorem dX8_line_155 : decode cX8_line 155 = .ok (.iconst 0, 1) := dk_3 (dk_at dksX8_line_6 12 rfl rfl)
theorem dX8_line_156 : decode cX8_line 156 = .ok (.iload 7, 2) := dk_21 7 (dk_at dksX8_line_6 13 rfl rfl)
theorem dX8_line_158 : decode cX8_line 158 = .ok (.ifCond .eq 16, 3) := dk_153 0 16 (dk_at dksX8_line_6 15 rfl rfl)
theorem dX8_line_161 : decode cX8_line 161 = .ok (.aload_n 0, 1) := dk_42 (dk_at dksX8_line_6 18 rfl rfl)
theorem dX8_line_162 : decode cX8_line 162 = .ok (.iload_n 1, 1) := dk_27 (dk_at dksX8_line_6 19 rfl rfl)
theorem dX8_line_163 : decode cX8_line 163 = .ok (.bipush 7, 2) := dk_16 7 (dk_at dksX8_line_6 20 rfl rfl)
theorem dX8_line_165 : decode cX8_line 165 = .ok (.iload 6, 2) := dk_21 6 (dk_at dksX8_line_6 22 rfl rfl)
theorem dX8_line_167 : decode cX8_line 167 = .ok (.iadd, 1) := dk_96 (dk_at dksX8_line_7 0 rfl rfl)
theorem dX8_line_168 : decode cX8_line 168 = .ok (.invokevirtual 106, 3) := dk_182 0 106 (dk_at dksX8_line_7 1 rfl rfl)
theorem dX8_line_171 : decode cX8_line 171 = .ok (.goto 4, 3) := dk_167 0 4 (dk_at dksX8_line_7 4 rfl rfl)
theorem dX8_line_174 : decode cX8_line 174 = .ok (.iconst 0, 1) := dk_3 (dk_at dksX8_line_7 7 rfl rfl)
theorem dX8_line_175 : decode cX8_line 175 = .ok (.iload 5, 2) := dk_21 5 (dk_at dksX8_line_7 8 rfl rfl)
theorem dX8_line_177 : decode cX8_line 177 = .ok (.iload_n 3, 1) := dk_29 (dk_at dksX8_line_7 10 rfl rfl)
theorem dX8_line_178 : decode cX8_line 178 = .ok (.invokevirtual 361, 3) := dk_182 1 105 (dk_at dksX8_line_7 11 rfl rfl)
theorem dX8_line_181 : decode cX8_line 181 = .ok (.istore 8, 2) := dk_54 8 (dk_at dksX8_line_7 14 rfl rfl)
theorem dX8_line_183 : decode cX8_line 183 = .ok (.iload 8, 2) := dk_21 8 (dk_at dksX8_line_7 16 rfl rfl)
theorem dX8_line_185 : decode cX8_line 185 = .ok (.ifCond .ne 8, 3) := dk_154 0 8 (dk_at dksX8_line_7 18 rfl rfl)
theorem dX8_line_188 : decode cX8_line 188 = .ok (.aload_n 0, 1) := dk_42 (dk_at dksX8_line_7 21 rfl rfl)
theorem dX8_line_189 : decode cX8_line 189 = .ok (.getfield 81, 3) := dk_180 0 81 (dk_at dksX8_line_8 0 rfl rfl)
theorem dX8_line_192 : decode cX8_line 192 = .ok (.ireturn, 1) := dk_172 (dk_at dksX8_line_8 3 rfl rfl)
theorem dX8_line_193 : decode cX8_line 193 = .ok (.iload 5, 2) := dk_21 5 (dk_at dksX8_line_8 4 rfl rfl)
theorem dX8_line_195 : decode cX8_line 195 = .ok (.iload 8, 2) := dk_21 8 (dk_at dksX8_line_8 6 rfl rfl)
theorem dX8_line_197 : decode cX8_line 197 = .ok (.iadd, 1) := dk_96 (dk_at dksX8_line_8 8 rfl rfl)
theorem dX8_line_198 : decode cX8_line 198 = .ok (.istore 5, 2) := dk_54 5 (dk_at dksX8_line_8 9 rfl rfl)
theorem dX8_line_200 : decode cX8_line 200 = .ok (.iinc 6 1, 3) := dk_132 6 1 (dk_at dksX8_line_8 11 rfl rfl)
theorem dX8_line_203 : decode cX8_line 203 = .ok (.goto (-121), 3) := dk_167 255 135 (dk_at dksX8_line_8 14 rfl rfl)
theorem dX8_line_206 : decode cX8_line 206 = .ok (.aload_n 0, 1) := dk_42 (dk_at dksX8_line_8 17 rfl rfl)
theorem dX8_line_207 : decode cX8_line 207 = .ok (.getfield 81, 3) := dk_180 0 81 (dk_at dksX8_line_8 18 rfl rfl)
theorem dX8_line_210 : decode cX8_line 210 = .ok (.ireturn, 1) := dk_172 (dk_at dksX8_line_8 21 rfl rfl)
abbrev cX8_follows : ByteArray := prog_21_method_95_code
def yX8_follows : MethodName := ⟨RX8, "follows", "(IIIIIIIZ)I"⟩
def dkwX8_follows_5 : List UInt8 := [132, 12, 1, 167, 255, 154, 21, 11, 172]
abbrev dktX8_follows_5 : List UInt8 := dkwX8_follows_5 ++ []
def dkwX8_follows_4 : List UInt8 := [21, 11, 54, 11, 21, 10, 21, 8, 154, 0, 7, 4, 167, 0, 4, 3, 184, 0, 160, 96, 54, 10]
abbrev dktX8_follows_4 : List UInt8 := dkwX8_follows_4 ++ dktX8_follows_5
def dkwX8_follows_3 : List UInt8 := [180, 1, 66, 21, 8, 184, 0, 160, 96, 54, 9, 21, 8, 153, 0, 10, 42, 180, 1, 66, 167, 0, 5]
abbrev dktX8_follows_3 : List UInt8 := dkwX8_follows_3 ++ dktX8_follows_4
def dkwX8_follows_2 : List UInt8 := [21, 12, 21, 10, 21, 9, 21, 11, 182, 1, 82, 87, 42, 42, 180, 1, 66, 133, 182, 0, 180, 42]
abbrev dktX8_follows_2 : List UInt8 := dkwX8_follows_2 ++ dktX8_follows_3
def dkwX8_follows_1 : List UInt8 := [10, 20, 0, 239, 184, 0, 87, 153, 0, 89, 42, 27, 28, 21, 12, 21, 7, 182, 1, 86, 42, 27, 28]
abbrev dktX8_follows_1 : List UInt8 := dkwX8_follows_1 ++ dktX8_follows_2
def dkwX8_follows_0 : List UInt8 := [21, 4, 54, 9, 21, 5, 54, 10, 21, 6, 54, 11, 29, 54, 12, 21, 12, 6, 162, 0, 102, 21, 9, 133]
abbrev dktX8_follows_0 : List UInt8 := dkwX8_follows_0 ++ dktX8_follows_1
theorem dksX8_follows_0 : cX8_follows.data.toList.drop 0 = dktX8_follows_0 := by decide +kernel
theorem dksX8_follows_1 : cX8_follows.data.toList.drop 24 = dktX8_follows_1 := dk_seg dksX8_follows_0 24 rfl rfl
theorem dksX8_follows_2 : cX8_follows.data.toList.drop 47 = dktX8_follows_2 := dk_seg dksX8_follows_1 23 rfl rfl
theorem dksX8_follows_3 : cX8_follows.data.toList.drop 69 = dktX8_follows_3 := dk_seg dksX8_follows_2 22 rfl rfl
theorem dksX8_follows_4 : cX8_follows.data.toList.drop 92 = dktX8_follows_4 := dk_seg dksX8_follows_3 23 rfl rfl
theorem dksX8_follows_5 : cX8_follows.data.toList.drop 114 = dktX8_follows_5 := dk_seg dksX8_follows_4 22 rfl rfl
theorem dX8_follows_0 : decode cX8_follows 0 = .ok (.iload 4, 2) := dk_21 4 (dk_at dksX8_follows_0 0 rfl rfl)
theorem dX8_follows_2 : decode cX8_follows 2 = .ok (.istore 9, 2) := dk_54 9 (dk_at dksX8_follows_0 2 rfl rfl)
theorem dX8_follows_4 : decode cX8_follows 4 = .ok (.iload 5, 2) := dk_21 5 (dk_at dksX8_follows_0 4 rfl rfl)
theorem dX8_follows_6 : decode cX8_follows 6 = .ok (.istore 10, 2) := dk_54 10 (dk_at dksX8_follows_0 6 rfl rfl)
theorem dX8_follows_8 : decode cX8_follows 8 = .ok (.iload 6, 2) := dk_21 6 (dk_at dksX8_follows_0 8 rfl rfl)
theorem dX8_follows_10 : decode cX8_follows 10 = .ok (.istore 11, 2) := dk_54 11 (dk_at dksX8_follows_0 10 rfl rfl)
theorem dX8_follows_12 : decode cX8_follows 12 = .ok (.iload_n 3, 1) := dk_29 (dk_at dksX8_follows_0 12 rfl rfl)
theorem dX8_follows_13 : decode cX8_follows 13 = .ok (.istore 12, 2) := dk_54 12 (dk_at dksX8_follows_0 13 rfl rfl)
theorem dX8_follows_15 : decode cX8_follows 15 = .ok (.iload 12, 2) := dk_21 12 (dk_at dksX8_follows_0 15 rfl rfl)
theorem dX8_follows_17 : decode cX8_follows 17 = .ok (.iconst 3, 1) := dk_6 (dk_at dksX8_follows_0 17 rfl rfl)
theorem dX8_follows_18 : decode cX8_follows 18 = .ok (.if_icmp .ge 102, 3) := dk_162 0 102 (dk_at dksX8_follows_0 18 rfl rfl)
theorem dX8_follows_21 : decode cX8_follows 21 = .ok (.iload 9, 2) := dk_21 9 (dk_at dksX8_follows_0 21 rfl rfl)
theorem dX8_follows_23 : decode cX8_follows 23 = .ok (.i2l, 1) := dk_133 (dk_at dksX8_follows_0 23 rfl rfl)
theorem dX8_follows_24 : decode cX8_follows 24 = .ok (.lconst 1, 1) := dk_10 (dk_at dksX8_follows_1 0 rfl rfl)
theorem dX8_follows_25 : decode cX8_follows 25 = .ok (.ldc2_w 239, 3) := dk_20 0 239 (dk_at dksX8_follows_1 1 rfl rfl)
theorem dX8_follows_28 : decode cX8_follows 28 = .ok (.invokestatic 87, 3) := dk_184 0 87 (dk_at dksX8_follows_1 4 rfl rfl)
theorem dX8_follows_31 : decode cX8_follows 31 = .ok (.ifCond .eq 89, 3) := dk_153 0 89 (dk_at dksX8_follows_1 7 rfl rfl)
theorem dX8_follows_34 : decode cX8_follows 34 = .ok (.aload_n 0, 1) := dk_42 (dk_at dksX8_follows_1 10 rfl rfl)
theorem dX8_follows_35 : decode cX8_follows 35 = .ok (.iload_n 1, 1) := dk_27 (dk_at dksX8_follows_1 11 rfl rfl)
theorem dX8_follows_36 : decode cX8_follows 36 = .ok (.iload_n 2, 1) := dk_28 (dk_at dksX8_follows_1 12 rfl rfl)
theorem dX8_follows_37 : decode cX8_follows 37 = .ok (.iload 12, 2) := dk_21 12 (dk_at dksX8_follows_1 13 rfl rfl)
theorem dX8_follows_39 : decode cX8_follows 39 = .ok (.iload 7, 2) := dk_21 7 (dk_at dksX8_follows_1 15 rfl rfl)
theorem dX8_follows_41 : decode cX8_follows 41 = .ok (.invokevirtual 342, 3) := dk_182 1 86 (dk_at dksX8_follows_1 17 rfl rfl)
theorem dX8_follows_44 : decode cX8_follows 44 = .ok (.aload_n 0, 1) := dk_42 (dk_at dksX8_follows_1 20 rfl rfl)
theorem dX8_follows_45 : decode cX8_follows 45 = .ok (.iload_n 1, 1) := dk_27 (dk_at dksX8_follows_1 21 rfl rfl)
theorem dX8_follows_46 : decode cX8_follows 46 = .ok (.iload_n 2, 1) := dk_28 (dk_at dksX8_follows_1 22 rfl rfl)
theorem dX8_follows_47 : decode cX8_follows 47 = .ok (.iload 12, 2) := dk_21 12 (dk_at dksX8_follows_2 0 rfl rfl)
theorem dX8_follows_49 : decode cX8_follows 49 = .ok (.iload 10, 2) := dk_21 10 (dk_at dksX8_follows_2 2 rfl rfl)
theorem dX8_follows_51 : decode cX8_follows 51 = .ok (.iload 9, 2) := dk_21 9 (dk_at dksX8_follows_2 4 rfl rfl)
theorem dX8_follows_53 : decode cX8_follows 53 = .ok (.iload 11, 2) := dk_21 11 (dk_at dksX8_follows_2 6 rfl rfl)
theorem dX8_follows_55 : decode cX8_follows 55 = .ok (.invokevirtual 338, 3) := dk_182 1 82 (dk_at dksX8_follows_2 8 rfl rfl)
theorem dX8_follows_58 : decode cX8_follows 58 = .ok (.pop, 1) := dk_87 (dk_at dksX8_follows_2 11 rfl rfl)
theorem dX8_follows_59 : decode cX8_follows 59 = .ok (.aload_n 0, 1) := dk_42 (dk_at dksX8_follows_2 12 rfl rfl)
theorem dX8_follows_60 : decode cX8_follows 60 = .ok (.aload_n 0, 1) := dk_42 (dk_at dksX8_follows_2 13 rfl rfl)
theorem dX8_follows_61 : decode cX8_follows 61 = .ok (.getfield 322, 3) := dk_180 1 66 (dk_at dksX8_follows_2 14 rfl rfl)
theorem dX8_follows_64 : decode cX8_follows 64 = .ok (.i2l, 1) := dk_133 (dk_at dksX8_follows_2 17 rfl rfl)
theorem dX8_follows_65 : decode cX8_follows 65 = .ok (.invokevirtual 180, 3) := dk_182 0 180 (dk_at dksX8_follows_2 18 rfl rfl)
theorem dX8_follows_68 : decode cX8_follows 68 = .ok (.aload_n 0, 1) := dk_42 (dk_at dksX8_follows_2 21 rfl rfl)
theorem dX8_follows_69 : decode cX8_follows 69 = .ok (.getfield 322, 3) := dk_180 1 66 (dk_at dksX8_follows_3 0 rfl rfl)
theorem dX8_follows_72 : decode cX8_follows 72 = .ok (.iload 8, 2) := dk_21 8 (dk_at dksX8_follows_3 3 rfl rfl)
theorem dX8_follows_74 : decode cX8_follows 74 = .ok (.invokestatic 160, 3) := dk_184 0 160 (dk_at dksX8_follows_3 5 rfl rfl)
theorem dX8_follows_77 : decode cX8_follows 77 = .ok (.iadd, 1) := dk_96 (dk_at dksX8_follows_3 8 rfl rfl)
theorem dX8_follows_78 : decode cX8_follows 78 = .ok (.istore 9, 2) := dk_54 9 (dk_at dksX8_follows_3 9 rfl rfl)
theorem dX8_follows_80 : decode cX8_follows 80 = .ok (.iload 8, 2) := dk_21 8 (dk_at dksX8_follows_3 11 rfl rfl)
theorem dX8_follows_82 : decode cX8_follows 82 = .ok (.ifCond .eq 10, 3) := dk_153 0 10 (dk_at dksX8_follows_3 13 rfl rfl)
theorem dX8_follows_85 : decode cX8_follows 85 = .ok (.aload_n 0, 1) := dk_42 (dk_at dksX8_follows_3 16 rfl rfl)
theorem dX8_follows_86 : decode cX8_follows 86 = .ok (.getfield 322, 3) := dk_180 1 66 (dk_at dksX8_follows_3 17 rfl rfl)
theorem dX8_follows_89 : decode cX8_follows 89 = .ok (.goto 5, 3) := dk_167 0 5 (dk_at dksX8_follows_3 20 rfl rfl)
theorem dX8_follows_92 : decode cX8_follows 92 = .ok (.iload 11, 2) := dk_21 11 (dk_at dksX8_follows_4 0 rfl rfl)
theorem dX8_follows_94 : decode cX8_follows 94 = .ok (.istore 11, 2) := dk_54 11 (dk_at dksX8_follows_4 2 rfl rfl)
theorem dX8_follows_96 : decode cX8_follows 96 = .ok (.iload 10, 2) := dk_21 10 (dk_at dksX8_follows_4 4 rfl rfl)
theorem dX8_follows_98 : decode cX8_follows 98 = .ok (.iload 8, 2) := dk_21 8 (dk_at dksX8_follows_4 6 rfl rfl)
theorem dX8_follows_100 : decode cX8_follows 100 = .ok (.ifCond .ne 7, 3) := dk_154 0 7 (dk_at dksX8_follows_4 8 rfl rfl)
theorem dX8_follows_103 : decode cX8_follows 103 = .ok (.iconst 1, 1) := dk_4 (dk_at dksX8_follows_4 11 rfl rfl)
theorem dX8_follows_104 : decode cX8_follows 104 = .ok (.goto 4, 3) := dk_167 0 4 (dk_at dksX8_follows_4 12 rfl rfl)
theorem dX8_follows_107 : decode cX8_follows 107 = .ok (.iconst 0, 1) := dk_3 (dk_at dksX8_follows_4 15 rfl rfl)
theorem dX8_follows_108 : decode cX8_follows 108 = .ok (.invokestatic 160, 3) := dk_184 0 160 (dk_at dksX8_follows_4 16 rfl rfl)
theorem dX8_follows_111 : decode cX8_follows 111 = .ok (.iadd, 1) := dk_96 (dk_at dksX8_follows_4 19 rfl rfl)
theorem dX8_follows_112 : decode cX8_follows 112 = .ok (.istore 10, 2) := dk_54 10 (dk_at dksX8_follows_4 20 rfl rfl)
theorem dX8_follows_114 : decode cX8_follows 114 = .ok (.iinc 12 1, 3) := dk_132 12 1 (dk_at dksX8_follows_5 0 rfl rfl)
theorem dX8_follows_117 : decode cX8_follows 117 = .ok (.goto (-102), 3) := dk_167 255 154 (dk_at dksX8_follows_5 3 rfl rfl)
theorem dX8_follows_120 : decode cX8_follows 120 = .ok (.iload 11, 2) := dk_21 11 (dk_at dksX8_follows_5 6 rfl rfl)
theorem dX8_follows_122 : decode cX8_follows 122 = .ok (.ireturn, 1) := dk_172 (dk_at dksX8_follows_5 8 rfl rfl)
abbrev cX8_duel : ByteArray := prog_21_method_109_code
def yX8_duel : MethodName := ⟨RX8, "duel", "(II)I"⟩
def dkwX8_duel_4 : List UInt8 := [42, 21, 4, 133, 182, 0, 180, 21, 5, 172]
abbrev dktX8_duel_4 : List UInt8 := dkwX8_duel_4 ++ []
def dkwX8_duel_3 : List UInt8 := [182, 0, 106, 182, 1, 147, 54, 5, 42, 42, 27, 8, 182, 0, 106, 42, 28, 8, 182, 0, 106, 182, 1, 150]
abbrev dktX8_duel_3 : List UInt8 := dkwX8_duel_3 ++ dktX8_duel_4
def dkwX8_duel_2 : List UInt8 := [28, 181, 1, 112, 42, 3, 3, 182, 1, 147, 54, 4, 42, 42, 27, 8, 182, 0, 106, 42, 28, 8]
abbrev dktX8_duel_2 : List UInt8 := dkwX8_duel_2 ++ dktX8_duel_3
def dkwX8_duel_1 : List UInt8 := [160, 0, 5, 2, 172, 42, 27, 28, 182, 1, 144, 62, 29, 153, 0, 5, 29, 172, 42, 27, 181, 1, 109, 42]
abbrev dktX8_duel_1 : List UInt8 := dkwX8_duel_1 ++ dktX8_duel_2
def dkwX8_duel_0 : List UInt8 := [42, 3, 181, 0, 77, 42, 27, 182, 0, 233, 153, 0, 16, 42, 28, 182, 0, 233, 153, 0, 8, 27, 28]
abbrev dktX8_duel_0 : List UInt8 := dkwX8_duel_0 ++ dktX8_duel_1
theorem dksX8_duel_0 : cX8_duel.data.toList.drop 0 = dktX8_duel_0 := by decide +kernel
theorem dksX8_duel_1 : cX8_duel.data.toList.drop 23 = dktX8_duel_1 := dk_seg dksX8_duel_0 23 rfl rfl
theorem dksX8_duel_2 : cX8_duel.data.toList.drop 47 = dktX8_duel_2 := dk_seg dksX8_duel_1 24 rfl rfl
theorem dksX8_duel_3 : cX8_duel.data.toList.drop 69 = dktX8_duel_3 := dk_seg dksX8_duel_2 22 rfl rfl
theorem dksX8_duel_4 : cX8_duel.data.toList.drop 93 = dktX8_duel_4 := dk_seg dksX8_duel_3 24 rfl rfl
theorem dX8_duel_0 : decode cX8_duel 0 = .ok (.aload_n 0, 1) := dk_42 (dk_at dksX8_duel_0 0 rfl rfl)
theorem dX8_duel_1 : decode cX8_duel 1 = .ok (.iconst 0, 1) := dk_3 (dk_at dksX8_duel_0 1 rfl rfl)
theorem dX8_duel_2 : decode cX8_duel 2 = .ok (.putfield 77, 3) := dk_181 0 77 (dk_at dksX8_duel_0 2 rfl rfl)
theorem dX8_duel_5 : decode cX8_duel 5 = .ok (.aload_n 0, 1) := dk_42 (dk_at dksX8_duel_0 5 rfl rfl)
theorem dX8_duel_6 : decode cX8_duel 6 = .ok (.iload_n 1, 1) := dk_27 (dk_at dksX8_duel_0 6 rfl rfl)
theorem dX8_duel_7 : decode cX8_duel 7 = .ok (.invokevirtual 233, 3) := dk_182 0 233 (dk_at dksX8_duel_0 7 rfl rfl)
theorem dX8_duel_10 : decode cX8_duel 10 = .ok (.ifCond .eq 16, 3) := dk_153 0 16 (dk_at dksX8_duel_0 10 rfl rfl)
theorem dX8_duel_13 : decode cX8_duel 13 = .ok (.aload_n 0, 1) := dk_42 (dk_at dksX8_duel_0 13 rfl rfl)
theorem dX8_duel_14 : decode cX8_duel 14 = .ok (.iload_n 2, 1) := dk_28 (dk_at dksX8_duel_0 14 rfl rfl)
theorem dX8_duel_15 : decode cX8_duel 15 = .ok (.invokevirtual 233, 3) := dk_182 0 233 (dk_at dksX8_duel_0 15 rfl rfl)
theorem dX8_duel_18 : decode cX8_duel 18 = .ok (.ifCond .eq 8, 3) := dk_153 0 8 (dk_at dksX8_duel_0 18 rfl rfl)
theorem dX8_duel_21 : decode cX8_duel 21 = .ok (.iload_n 1, 1) := dk_27 (dk_at dksX8_duel_0 21 rfl rfl)
theorem dX8_duel_22 : decode cX8_duel 22 = .ok (.iload_n 2, 1) := dk_28 (dk_at dksX8_duel_0 22 rfl rfl)
theorem dX8_duel_23 : decode cX8_duel 23 = .ok (.if_icmp .ne 5, 3) := dk_160 0 5 (dk_at dksX8_duel_1 0 rfl rfl)
theorem dX8_duel_26 : decode cX8_duel 26 = .ok (.iconst (-1), 1) := dk_2 (dk_at dksX8_duel_1 3 rfl rfl)
theorem dX8_duel_27 : decode cX8_duel 27 = .ok (.ireturn, 1) := dk_172 (dk_at dksX8_duel_1 4 rfl rfl)
theorem dX8_duel_28 : decode cX8_duel 28 = .ok (.aload_n 0, 1) := dk_42 (dk_at dksX8_duel_1 5 rfl rfl)
theorem dX8_duel_29 : decode cX8_duel 29 = .ok (.iload_n 1, 1) := dk_27 (dk_at dksX8_duel_1 6 rfl rfl)
theorem dX8_duel_30 : decode cX8_duel 30 = .ok (.iload_n 2, 1) := dk_28 (dk_at dksX8_duel_1 7 rfl rfl)
theorem dX8_duel_31 : decode cX8_duel 31 = .ok (.invokevirtual 400, 3) := dk_182 1 144 (dk_at dksX8_duel_1 8 rfl rfl)
theorem dX8_duel_34 : decode cX8_duel 34 = .ok (.istore_n 3, 1) := dk_62 (dk_at dksX8_duel_1 11 rfl rfl)
theorem dX8_duel_35 : decode cX8_duel 35 = .ok (.iload_n 3, 1) := dk_29 (dk_at dksX8_duel_1 12 rfl rfl)
theorem dX8_duel_36 : decode cX8_duel 36 = .ok (.ifCond .eq 5, 3) := dk_153 0 5 (dk_at dksX8_duel_1 13 rfl rfl)
theorem dX8_duel_39 : decode cX8_duel 39 = .ok (.iload_n 3, 1) := dk_29 (dk_at dksX8_duel_1 16 rfl rfl)
theorem dX8_duel_40 : decode cX8_duel 40 = .ok (.ireturn, 1) := dk_172 (dk_at dksX8_duel_1 17 rfl rfl)
theorem dX8_duel_41 : decode cX8_duel 41 = .ok (.aload_n 0, 1) := dk_42 (dk_at dksX8_duel_1 18 rfl rfl)
theorem dX8_duel_42 : decode cX8_duel 42 = .ok (.iload_n 1, 1) := dk_27 (dk_at dksX8_duel_1 19 rfl rfl)
theorem dX8_duel_43 : decode cX8_duel 43 = .ok (.putfield 365, 3) := dk_181 1 109 (dk_at dksX8_duel_1 20 rfl rfl)
theorem dX8_duel_46 : decode cX8_duel 46 = .ok (.aload_n 0, 1) := dk_42 (dk_at dksX8_duel_1 23 rfl rfl)
theorem dX8_duel_47 : decode cX8_duel 47 = .ok (.iload_n 2, 1) := dk_28 (dk_at dksX8_duel_2 0 rfl rfl)
theorem dX8_duel_48 : decode cX8_duel 48 = .ok (.putfield 368, 3) := dk_181 1 112 (dk_at dksX8_duel_2 1 rfl rfl)
theorem dX8_duel_51 : decode cX8_duel 51 = .ok (.aload_n 0, 1) := dk_42 (dk_at dksX8_duel_2 4 rfl rfl)
theorem dX8_duel_52 : decode cX8_duel 52 = .ok (.iconst 0, 1) := dk_3 (dk_at dksX8_duel_2 5 rfl rfl)
theorem dX8_duel_53 : decode cX8_duel 53 = .ok (.iconst 0, 1) := dk_3 (dk_at dksX8_duel_2 6 rfl rfl)
theorem dX8_duel_54 : decode cX8_duel 54 = .ok (.invokevirtual 403, 3) := dk_182 1 147 (dk_at dksX8_duel_2 7 rfl rfl)
theorem dX8_duel_57 : decode cX8_duel 57 = .ok (.istore 4, 2) := dk_54 4 (dk_at dksX8_duel_2 10 rfl rfl)
theorem dX8_duel_59 : decode cX8_duel 59 = .ok (.aload_n 0, 1) := dk_42 (dk_at dksX8_duel_2 12 rfl rfl)
theorem dX8_duel_60 : decode cX8_duel 60 = .ok (.aload_n 0, 1) := dk_42 (dk_at dksX8_duel_2 13 rfl rfl)
theorem dX8_duel_61 : decode cX8_duel 61 = .ok (.iload_n 1, 1) := dk_27 (dk_at dksX8_duel_2 14 rfl rfl)
theorem dX8_duel_62 : decode cX8_duel 62 = .ok (.iconst 5, 1) := dk_8 (dk_at dksX8_duel_2 15 rfl rfl)
theorem dX8_duel_63 : decode cX8_duel 63 = .ok (.invokevirtual 106, 3) := dk_182 0 106 (dk_at dksX8_duel_2 16 rfl rfl)
theorem dX8_duel_66 : decode cX8_duel 66 = .ok (.aload_n 0, 1) := dk_42 (dk_at dksX8_duel_2 19 rfl rfl)
theorem dX8_duel_67 : decode cX8_duel 67 = .ok (.iload_n 2, 1) := dk_28 (dk_at dksX8_duel_2 20 rfl rfl)
theorem dX8_duel_68 : decode cX8_duel 68 = .ok (.iconst 5, 1) := dk_8 (dk_at dksX8_duel_2 21 rfl rfl)
theorem dX8_duel_69 : decode cX8_duel 69 = .ok (.invokevirtual 106, 3) := dk_182 0 106 (dk_at dksX8_duel_3 0 rfl rfl)
theorem dX8_duel_72 : decode cX8_duel 72 = .ok (.invokevirtual 403, 3) := dk_182 1 147 (dk_at dksX8_duel_3 3 rfl rfl)
theorem dX8_duel_75 : decode cX8_duel 75 = .ok (.istore 5, 2) := dk_54 5 (dk_at dksX8_duel_3 6 rfl rfl)
theorem dX8_duel_77 : decode cX8_duel 77 = .ok (.aload_n 0, 1) := dk_42 (dk_at dksX8_duel_3 8 rfl rfl)
theorem dX8_duel_78 : decode cX8_duel 78 = .ok (.aload_n 0, 1) := dk_42 (dk_at dksX8_duel_3 9 rfl rfl)
theorem dX8_duel_79 : decode cX8_duel 79 = .ok (.iload_n 1, 1) := dk_27 (dk_at dksX8_duel_3 10 rfl rfl)
theorem dX8_duel_80 : decode cX8_duel 80 = .ok (.iconst 5, 1) := dk_8 (dk_at dksX8_duel_3 11 rfl rfl)
theorem dX8_duel_81 : decode cX8_duel 81 = .ok (.invokevirtual 106, 3) := dk_182 0 106 (dk_at dksX8_duel_3 12 rfl rfl)
theorem dX8_duel_84 : decode cX8_duel 84 = .ok (.aload_n 0, 1) := dk_42 (dk_at dksX8_duel_3 15 rfl rfl)
theorem dX8_duel_85 : decode cX8_duel 85 = .ok (.iload_n 2, 1) := dk_28 (dk_at dksX8_duel_3 16 rfl rfl)
theorem dX8_duel_86 : decode cX8_duel 86 = .ok (.iconst 5, 1) := dk_8 (dk_at dksX8_duel_3 17 rfl rfl)
theorem dX8_duel_87 : decode cX8_duel 87 = .ok (.invokevirtual 106, 3) := dk_182 0 106 (dk_at dksX8_duel_3 18 rfl rfl)
theorem dX8_duel_90 : decode cX8_duel 90 = .ok (.invokevirtual 406, 3) := dk_182 1 150 (dk_at dksX8_duel_3 21 rfl rfl)
theorem dX8_duel_93 : decode cX8_duel 93 = .ok (.aload_n 0, 1) := dk_42 (dk_at dksX8_duel_4 0 rfl rfl)
theorem dX8_duel_94 : decode cX8_duel 94 = .ok (.iload 4, 2) := dk_21 4 (dk_at dksX8_duel_4 1 rfl rfl)
theorem dX8_duel_96 : decode cX8_duel 96 = .ok (.i2l, 1) := dk_133 (dk_at dksX8_duel_4 3 rfl rfl)
theorem dX8_duel_97 : decode cX8_duel 97 = .ok (.invokevirtual 180, 3) := dk_182 0 180 (dk_at dksX8_duel_4 4 rfl rfl)
theorem dX8_duel_100 : decode cX8_duel 100 = .ok (.iload 5, 2) := dk_21 5 (dk_at dksX8_duel_4 7 rfl rfl)
theorem dX8_duel_102 : decode cX8_duel 102 = .ok (.ireturn, 1) := dk_172 (dk_at dksX8_duel_4 9 rfl rfl)
abbrev cX8_whyNoDuel : ByteArray := prog_21_method_107_code
def yX8_whyNoDuel : MethodName := ⟨RX8, "whyNoDuel", "(II)I"⟩
def dkwX8_whyNoDuel_1 : List UInt8 := [27, 182, 0, 140, 153, 0, 15, 42, 28, 182, 0, 140, 153, 0, 7, 3, 167, 0, 5, 16, 253, 172]
abbrev dktX8_whyNoDuel_1 : List UInt8 := dkwX8_whyNoDuel_1 ++ []
def dkwX8_whyNoDuel_0 : List UInt8 := [42, 180, 0, 32, 3, 46, 5, 160, 0, 13, 42, 180, 0, 32, 4, 46, 5, 159, 0, 6, 16, 254, 172, 42]
abbrev dktX8_whyNoDuel_0 : List UInt8 := dkwX8_whyNoDuel_0 ++ dktX8_whyNoDuel_1
theorem dksX8_whyNoDuel_0 : cX8_whyNoDuel.data.toList.drop 0 = dktX8_whyNoDuel_0 := by decide +kernel
theorem dksX8_whyNoDuel_1 : cX8_whyNoDuel.data.toList.drop 24 = dktX8_whyNoDuel_1 := dk_seg dksX8_whyNoDuel_0 24 rfl rfl
theorem dX8_whyNoDuel_0 : decode cX8_whyNoDuel 0 = .ok (.aload_n 0, 1) := dk_42 (dk_at dksX8_whyNoDuel_0 0 rfl rfl)
theorem dX8_whyNoDuel_1 : decode cX8_whyNoDuel 1 = .ok (.getfield 32, 3) := dk_180 0 32 (dk_at dksX8_whyNoDuel_0 1 rfl rfl)
theorem dX8_whyNoDuel_4 : decode cX8_whyNoDuel 4 = .ok (.iconst 0, 1) := dk_3 (dk_at dksX8_whyNoDuel_0 4 rfl rfl)
theorem dX8_whyNoDuel_5 : decode cX8_whyNoDuel 5 = .ok (.iaload, 1) := dk_46 (dk_at dksX8_whyNoDuel_0 5 rfl rfl)
theorem dX8_whyNoDuel_6 : decode cX8_whyNoDuel 6 = .ok (.iconst 2, 1) := dk_5 (dk_at dksX8_whyNoDuel_0 6 rfl rfl)
theorem dX8_whyNoDuel_7 : decode cX8_whyNoDuel 7 = .ok (.if_icmp .ne 13, 3) := dk_160 0 13 (dk_at dksX8_whyNoDuel_0 7 rfl rfl)
theorem dX8_whyNoDuel_10 : decode cX8_whyNoDuel 10 = .ok (.aload_n 0, 1) := dk_42 (dk_at dksX8_whyNoDuel_0 10 rfl rfl)
theorem dX8_whyNoDuel_11 : decode cX8_whyNoDuel 11 = .ok (.getfield 32, 3) := dk_180 0 32 (dk_at dksX8_whyNoDuel_0 11 rfl rfl)
theorem dX8_whyNoDuel_14 : decode cX8_whyNoDuel 14 = .ok (.iconst 1, 1) := dk_4 (dk_at dksX8_whyNoDuel_0 14 rfl rfl)
theorem dX8_whyNoDuel_15 : decode cX8_whyNoDuel 15 = .ok (.iaload, 1) := dk_46 (dk_at dksX8_whyNoDuel_0 15 rfl rfl)
theorem dX8_whyNoDuel_16 : decode cX8_whyNoDuel 16 = .ok (.iconst 2, 1) := dk_5 (dk_at dksX8_whyNoDuel_0 16 rfl rfl)
theorem dX8_whyNoDuel_17 : decode cX8_whyNoDuel 17 = .ok (.if_icmp .eq 6, 3) := dk_159 0 6 (dk_at dksX8_whyNoDuel_0 17 rfl rfl)
theorem dX8_whyNoDuel_20 : decode cX8_whyNoDuel 20 = .ok (.bipush (-2), 2) := dk_16 254 (dk_at dksX8_whyNoDuel_0 20 rfl rfl)
theorem dX8_whyNoDuel_22 : decode cX8_whyNoDuel 22 = .ok (.ireturn, 1) := dk_172 (dk_at dksX8_whyNoDuel_0 22 rfl rfl)
theorem dX8_whyNoDuel_23 : decode cX8_whyNoDuel 23 = .ok (.aload_n 0, 1) := dk_42 (dk_at dksX8_whyNoDuel_0 23 rfl rfl)
theorem dX8_whyNoDuel_24 : decode cX8_whyNoDuel 24 = .ok (.iload_n 1, 1) := dk_27 (dk_at dksX8_whyNoDuel_1 0 rfl rfl)
theorem dX8_whyNoDuel_25 : decode cX8_whyNoDuel 25 = .ok (.invokevirtual 140, 3) := dk_182 0 140 (dk_at dksX8_whyNoDuel_1 1 rfl rfl)
theorem dX8_whyNoDuel_28 : decode cX8_whyNoDuel 28 = .ok (.ifCond .eq 15, 3) := dk_153 0 15 (dk_at dksX8_whyNoDuel_1 4 rfl rfl)
theorem dX8_whyNoDuel_31 : decode cX8_whyNoDuel 31 = .ok (.aload_n 0, 1) := dk_42 (dk_at dksX8_whyNoDuel_1 7 rfl rfl)
theorem dX8_whyNoDuel_32 : decode cX8_whyNoDuel 32 = .ok (.iload_n 2, 1) := dk_28 (dk_at dksX8_whyNoDuel_1 8 rfl rfl)
theorem dX8_whyNoDuel_33 : decode cX8_whyNoDuel 33 = .ok (.invokevirtual 140, 3) := dk_182 0 140 (dk_at dksX8_whyNoDuel_1 9 rfl rfl)
theorem dX8_whyNoDuel_36 : decode cX8_whyNoDuel 36 = .ok (.ifCond .eq 7, 3) := dk_153 0 7 (dk_at dksX8_whyNoDuel_1 12 rfl rfl)
theorem dX8_whyNoDuel_39 : decode cX8_whyNoDuel 39 = .ok (.iconst 0, 1) := dk_3 (dk_at dksX8_whyNoDuel_1 15 rfl rfl)
theorem dX8_whyNoDuel_40 : decode cX8_whyNoDuel 40 = .ok (.goto 5, 3) := dk_167 0 5 (dk_at dksX8_whyNoDuel_1 16 rfl rfl)
theorem dX8_whyNoDuel_43 : decode cX8_whyNoDuel 43 = .ok (.bipush (-3), 2) := dk_16 253 (dk_at dksX8_whyNoDuel_1 19 rfl rfl)
theorem dX8_whyNoDuel_45 : decode cX8_whyNoDuel 45 = .ok (.ireturn, 1) := dk_172 (dk_at dksX8_whyNoDuel_1 21 rfl rfl)