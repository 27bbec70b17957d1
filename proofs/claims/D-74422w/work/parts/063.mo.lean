set_option maxRecDepth 100000
abbrev cX8_duelAt : ByteArray := prog_21_method_106_code
def yX8_duelAt : MethodName := ⟨RX8, "duelAt", "(II)I"⟩
def dkwX8_duelAt_5 : List UInt8 := [167, 255, 163, 42, 180, 0, 71, 29, 21, 4, 27, 28, 184, 1, 138, 46, 172]
abbrev dktX8_duelAt_5 : List UInt8 := dkwX8_duelAt_5 ++ []
def dkwX8_duelAt_4 : List UInt8 := [182, 1, 141, 132, 9, 1, 167, 255, 234, 132, 8, 1, 167, 255, 217, 132, 6, 1, 167, 255, 180, 132, 5, 1]
abbrev dktX8_duelAt_4 : List UInt8 := dkwX8_duelAt_4 ++ dktX8_duelAt_5
def dkwX8_duelAt_3 : List UInt8 := [163, 0, 38, 21, 4, 54, 9, 21, 9, 16, 40, 163, 0, 21, 42, 21, 8, 21, 9, 21, 6, 21, 7]
abbrev dktX8_duelAt_3 : List UInt8 := dkwX8_duelAt_3 ++ dktX8_duelAt_4
def dkwX8_duelAt_2 : List UInt8 := [21, 7, 133, 9, 28, 133, 184, 0, 87, 154, 0, 6, 167, 0, 48, 29, 54, 8, 21, 8, 16, 40]
abbrev dktX8_duelAt_2 : List UInt8 := dkwX8_duelAt_2 ++ dktX8_duelAt_3
def dkwX8_duelAt_1 : List UInt8 := [21, 5, 27, 28, 96, 163, 0, 91, 3, 54, 6, 21, 6, 27, 163, 0, 76, 21, 5, 21, 6, 100, 54, 7]
abbrev dktX8_duelAt_1 : List UInt8 := dkwX8_duelAt_1 ++ dktX8_duelAt_2
def dkwX8_duelAt_0 : List UInt8 := [42, 42, 180, 1, 109, 3, 182, 0, 106, 62, 42, 42, 180, 1, 112, 3, 182, 0, 106, 54, 4, 3, 54, 5]
abbrev dktX8_duelAt_0 : List UInt8 := dkwX8_duelAt_0 ++ dktX8_duelAt_1
theorem dksX8_duelAt_0 : cX8_duelAt.data.toList.drop 0 = dktX8_duelAt_0 := by decide +kernel
theorem dksX8_duelAt_1 : cX8_duelAt.data.toList.drop 24 = dktX8_duelAt_1 := dk_seg dksX8_duelAt_0 24 rfl rfl
theorem dksX8_duelAt_2 : cX8_duelAt.data.toList.drop 48 = dktX8_duelAt_2 := dk_seg dksX8_duelAt_1 24 rfl rfl
theorem dksX8_duelAt_3 : cX8_duelAt.data.toList.drop 70 = dktX8_duelAt_3 := dk_seg dksX8_duelAt_2 22 rfl rfl
theorem dksX8_duelAt_4 : cX8_duelAt.data.toList.drop 93 = dktX8_duelAt_4 := dk_seg dksX8_duelAt_3 23 rfl rfl
theorem dksX8_duelAt_5 : cX8_duelAt.data.toList.drop 117 = dktX8_duelAt_5 := dk_seg dksX8_duelAt_4 24 rfl rfl
theorem dX8_duelAt_0 : decode cX8_duelAt 0 = .ok (.aload_n 0, 1) := dk_42 (dk_at dksX8_duelAt_0 0 rfl rfl)
theorem dX8_duelAt_1 : decode cX8_duelAt 1 = .ok (.aload_n 0, 1) := dk_42 (dk_at dksX8_duelAt_0 1 rfl rfl)
theorem dX8_duelAt_2 : decode cX8_duelAt 2 = .ok (.getfield 365, 3) := dk_180 1 109 (dk_at dksX8_duelAt_0 2 rfl rfl)
theorem dX8_duelAt_5 : decode cX8_duelAt 5 = .ok (.iconst 0, 1) := dk_3 (dk_at dksX8_duelAt_0 5 rfl rfl)
theorem dX8_duelAt_6 : decode cX8_duelAt 6 = .ok (.invokevirtual 106, 3) := dk_182 0 106 (dk_at dksX8_duelAt_0 6 rfl rfl)
theorem dX8_duelAt_9 : decode cX8_duelAt 9 = .ok (.istore_n 3, 1) := dk_62 (dk_at dksX8_duelAt_0 9 rfl rfl)
theorem dX8_duelAt_10 : decode cX8_duelAt 10 = .ok (.aload_n 0, 1) := dk_42 (dk_at dksX8_duelAt_0 10 rfl rfl)
theorem dX8_duelAt_11 : decode cX8_duelAt 11 = .ok (.aload_n 0, 1) := dk_42 (dk_at dksX8_duelAt_0 11 rfl rfl)
theorem dX8_duelAt_12 : decode cX8_duelAt 12 = .ok (.getfield 368, 3) := dk_180 1 112 (dk_at dksX8_duelAt_0 12 rfl rfl)
theorem dX8_duelAt_15 : decode cX8_duelAt 15 = .ok (.iconst 0, 1) := dk_3 (dk_at dksX8_duelAt_0 15 rfl rfl)
theorem dX8_duelAt_16 : decode cX8_duelAt 16 = .ok (.invokevirtual 106, 3) := dk_182 0 106 (dk_at dksX8_duelAt_0 16 rfl rfl)
theorem dX8_duelAt_19 : decode cX8_duelAt 19 = .ok (.istore 4, 2) := dk_54 4 (dk_at dksX8_duelAt_0 19 rfl rfl)
theorem dX8_duelAt_21 : decode cX8_duelAt 21 = .ok (.iconst 0, 1) := dk_3 (dk_at dksX8_duelAt_0 21 rfl rfl)
theorem dX8_duelAt_22 : decode cX8_duelAt 22 = .ok (.istore 5, 2) := dk_54 5 (dk_at dksX8_duelAt_0 22 rfl rfl)
theorem dX8_duelAt_24 : decode cX8_duelAt 24 = .ok (.iload 5, 2) := dk_21 5 (dk_at dksX8_duelAt_1 0 rfl rfl)
theorem dX8_duelAt_26 : decode cX8_duelAt 26 = .ok (.iload_n 1, 1) := dk_27 (dk_at dksX8_duelAt_1 2 rfl rfl)
theorem dX8_duelAt_27 : decode cX8_duelAt 27 = .ok (.iload_n 2, 1) := dk_28 (dk_at dksX8_duelAt_1 3 rfl rfl)
theorem dX8_duelAt_28 : decode cX8_duelAt 28 = .ok (.iadd, 1) := dk_96 (dk_at dksX8_duelAt_1 4 rfl rfl)
theorem dX8_duelAt_29 : decode cX8_duelAt 29 = .ok (.if_icmp .gt 91, 3) := dk_163 0 91 (dk_at dksX8_duelAt_1 5 rfl rfl)
theorem dX8_duelAt_32 : decode cX8_duelAt 32 = .ok (.iconst 0, 1) := dk_3 (dk_at dksX8_duelAt_1 8 rfl rfl)
theorem dX8_duelAt_33 : decode cX8_duelAt 33 = .ok (.istore 6, 2) := dk_54 6 (dk_at dksX8_duelAt_1 9 rfl rfl)
theorem dX8_duelAt_35 : decode cX8_duelAt 35 = .ok (.iload 6, 2) := dk_21 6 (dk_at dksX8_duelAt_1 11 rfl rfl)
theorem dX8_duelAt_37 : decode cX8_duelAt 37 = .ok (.iload_n 1, 1) := dk_27 (dk_at dksX8_duelAt_1 13 rfl rfl)
theorem dX8_duelAt_38 : decode cX8_duelAt 38 = .ok (.if_icmp .gt 76, 3) := dk_163 0 76 (dk_at dksX8_duelAt_1 14 rfl rfl)
theorem dX8_duelAt_41 : decode cX8_duelAt 41 = .ok (.iload 5, 2) := dk_21 5 (dk_at dksX8_duelAt_1 17 rfl rfl)
theorem dX8_duelAt_43 : decode cX8_duelAt 43 = .ok (.iload 6, 2) := dk_21 6 (dk_at dksX8_duelAt_1 19 rfl rfl)
theorem dX8_duelAt_45 : decode cX8_duelAt 45 = .ok (.isub, 1) := dk_100 (dk_at dksX8_duelAt_1 21 rfl rfl)
theorem dX8_duelAt_46 : decode cX8_duelAt 46 = .ok (.istore 7, 2) := dk_54 7 (dk_at dksX8_duelAt_1 22 rfl rfl)
theorem dX8_duelAt_48 : decode cX8_duelAt 48 = .ok (.iload 7, 2) := dk_21 7 (dk_at dksX8_duelAt_2 0 rfl rfl)
theorem dX8_duelAt_50 : decode cX8_duelAt 50 = .ok (.i2l, 1) := dk_133 (dk_at dksX8_duelAt_2 2 rfl rfl)
theorem dX8_duelAt_51 : decode cX8_duelAt 51 = .ok (.lconst 0, 1) := dk_9 (dk_at dksX8_duelAt_2 3 rfl rfl)
theorem dX8_duelAt_52 : decode cX8_duelAt 52 = .ok (.iload_n 2, 1) := dk_28 (dk_at dksX8_duelAt_2 4 rfl rfl)
theorem dX8_duelAt_53 : decode cX8_duelAt 53 = .ok (.i2l, 1) := dk_133 (dk_at dksX8_duelAt_2 5 rfl rfl)
theorem dX8_duelAt_54 : decode cX8_duelAt 54 = .ok (.invokestatic 87, 3) := dk_184 0 87 (dk_at dksX8_duelAt_2 6 rfl rfl)
theorem dX8_duelAt_57 : decode cX8_duelAt 57 = .ok (.ifCond .ne 6, 3) := dk_154 0 6 (dk_at dksX8_duelAt_2 9 rfl rfl)
theorem dX8_duelAt_60 : decode cX8_duelAt 60 = .ok (.goto 48, 3) := dk_167 0 48 (dk_at dksX8_duelAt_2 12 rfl rfl)
theorem dX8_duelAt_63 : decode cX8_duelAt 63 = .ok (.iload_n 3, 1) := dk_29 (dk_at dksX8_duelAt_2 15 rfl rfl)
theorem dX8_duelAt_64 : decode cX8_duelAt 64 = .ok (.istore 8, 2) := dk_54 8 (dk_at dksX8_duelAt_2 16 rfl rfl)
theorem dX8_duelAt_66 : decode cX8_duelAt 66 = .ok (.iload 8, 2) := dk_21 8 (dk_at dksX8_duelAt_2 18 rfl rfl)
theorem dX8_duelAt_68 : decode cX8_duelAt 68 = .ok (.bipush 40, 2) := dk_16 40 (dk_at dksX8_duelAt_2 20 rfl rfl)
theorem dX8_duelAt_70 : decode cX8_duelAt 70 = .ok (.if_icmp .gt 38, 3) := dk_163 0 38 (dk_at dksX8_duelAt_3 0 rfl rfl)
theorem dX8_duelAt_73 : decode cX8_duelAt 73 = .ok (.iload 4, 2) := dk_21 4 (dk_at dksX8_duelAt_3 3 rfl rfl)
theorem dX8_duelAt_75 : decode cX8_duelAt 75 = .ok (.istore 9, 2) := dk_54 9 (dk_at dksX8_duelAt_3 5 rfl rfl)
theorem dX8_duelAt_77 : decode cX8_duelAt 77 = .ok (.iload 9, 2) := dk_21 9 (dk_at dksX8_duelAt_3 7 rfl rfl)
theorem dX8_duelAt_79 : decode cX8_duelAt 79 = .ok (.bipush 40, 2) := dk_16 40 (dk_at dksX8_duelAt_3 9 rfl rfl)
theorem dX8_duelAt_81 : decode cX8_duelAt 81 = .ok (.if_icmp .gt 21, 3) := dk_163 0 21 (dk_at dksX8_duelAt_3 11 rfl rfl)
theorem dX8_duelAt_84 : decode cX8_duelAt 84 = .ok (.aload_n 0, 1) := dk_42 (dk_at dksX8_duelAt_3 14 rfl rfl)
theorem dX8_duelAt_85 : decode cX8_duelAt 85 = .ok (.iload 8, 2) := dk_21 8 (dk_at dksX8_duelAt_3 15 rfl rfl)
theorem dX8_duelAt_87 : decode cX8_duelAt 87 = .ok (.iload 9, 2) := dk_21 9 (dk_at dksX8_duelAt_3 17 rfl rfl)
theorem dX8_duelAt_89 : decode cX8_duelAt 89 = .ok (.iload 6, 2) := dk_21 6 (dk_at dksX8_duelAt_3 19 rfl rfl)
theorem dX8_duelAt_91 : decode cX8_duelAt 91 = .ok (.iload 7, 2) := dk_21 7 (dk_at dksX8_duelAt_3 21 rfl rfl)
theorem dX8_duelAt_93 : decode cX8_duelAt 93 = .ok (.invokevirtual 397, 3) := dk_182 1 141 (dk_at dksX8_duelAt_4 0 rfl rfl)
theorem dX8_duelAt_96 : decode cX8_duelAt 96 = .ok (.iinc 9 1, 3) := dk_132 9 1 (dk_at dksX8_duelAt_4 3 rfl rfl)
theorem dX8_duelAt_99 : decode cX8_duelAt 99 = .ok (.goto (-22), 3) := dk_167 255 234 (dk_at dksX8_duelAt_4 6 rfl rfl)
theorem dX8_duelAt_102 : decode cX8_duelAt 102 = .ok (.iinc 8 1, 3) := dk_132 8 1 (dk_at dksX8_duelAt_4 9 rfl rfl)
theorem dX8_duelAt_105 : decode cX8_duelAt 105 = .ok (.goto (-39), 3) := dk_167 255 217 (dk_at dksX8_duelAt_4 12 rfl rfl)
theorem dX8_duelAt_108 : decode cX8_duelAt 108 = .ok (.iinc 6 1, 3) := dk_132 6 1 (dk_at dksX8_duelAt_4 15 rfl rfl)
theorem dX8_duelAt_111 : decode cX8_duelAt 111 = .ok (.goto (-76), 3) := dk_167 255 180 (dk_at dksX8_duelAt_4 18 rfl rfl)
theorem dX8_duelAt_114 : decode cX8_duelAt 114 = .ok (.iinc 5 1, 3) := dk_132 5 1 (dk_at dksX8_duelAt_4 21 rfl rfl)
theorem dX8_duelAt_117 : decode cX8_duelAt 117 = .ok (.goto (-93), 3) := dk_167 255 163 (dk_at dksX8_duelAt_5 0 rfl rfl)
theorem dX8_duelAt_120 : decode cX8_duelAt 120 = .ok (.aload_n 0, 1) := dk_42 (dk_at dksX8_duelAt_5 3 rfl rfl)
theorem dX8_duelAt_121 : decode cX8_duelAt 121 = .ok (.getfield 71, 3) := dk_180 0 71 (dk_at dksX8_duelAt_5 4 rfl rfl)
theorem dX8_duelAt_124 : decode cX8_duelAt 124 = .ok (.iload_n 3, 1) := dk_29 (dk_at dksX8_duelAt_5 7 rfl rfl)
theorem dX8_duelAt_125 : decode cX8_duelAt 125 = .ok (.iload 4, 2) := dk_21 4 (dk_at dksX8_duelAt_5 8 rfl rfl)
theorem dX8_duelAt_127 : decode cX8_duelAt 127 = .ok (.iload_n 1, 1) := dk_27 (dk_at dksX8_duelAt_5 10 rfl rfl)
theorem dX8_duelAt_128 : decode cX8_duelAt 128 = .ok (.iload_n 2, 1) := dk_28 (dk_at dksX8_duelAt_5 11 rfl rfl)
theorem dX8_duelAt_129 : decode cX8_duelAt 129 = .ok (.invokestatic 394, 3) := dk_184 1 138 (dk_at dksX8_duelAt_5 12 rfl rfl)
theorem dX8_duelAt_132 : decode cX8_duelAt 132 = .ok (.iaload, 1) := dk_46 (dk_at dksX8_duelAt_5 15 rfl rfl)
theorem dX8_duelAt_133 : decode cX8_duelAt 133 = .ok (.ireturn, 1) := dk_172 (dk_at dksX8_duelAt_5 16 rfl rfl)
abbrev cX8_duelLays : ByteArray := prog_21_method_105_code
def yX8_duelLays : MethodName := ⟨RX8, "duelLays", "(IIII)V"⟩
def dkwX8_duelLays_11 : List UInt8 := [21, 4, 184, 1, 138, 21, 12, 79, 42, 180, 0, 74, 27, 28, 29, 21, 4, 184, 1, 138, 21, 13, 79, 177]
abbrev dktX8_duelLays_11 : List UInt8 := dkwX8_duelLays_11 ++ []
def dkwX8_duelLays_10 : List UInt8 := [167, 0, 11, 21, 15, 54, 12, 21, 14, 54, 13, 132, 14, 1, 167, 255, 167, 42, 180, 0, 71, 27, 28, 29]
abbrev dktX8_duelLays_10 : List UInt8 := dkwX8_duelLays_10 ++ dktX8_duelLays_11
def dkwX8_duelLays_9 : List UInt8 := [21, 4, 4, 100, 184, 1, 138, 46, 54, 15, 21, 5, 21, 15, 21, 12, 184, 1, 128, 154, 0, 6]
abbrev dktX8_duelLays_9 : List UInt8 := dkwX8_duelLays_9 ++ dktX8_duelLays_10
def dkwX8_duelLays_8 : List UInt8 := [21, 14, 28, 29, 4, 100, 21, 4, 184, 1, 138, 46, 167, 0, 19, 42, 180, 0, 71, 27, 21, 14, 29]
abbrev dktX8_duelLays_8 : List UInt8 := dkwX8_duelLays_8 ++ dktX8_duelLays_9
def dkwX8_duelLays_7 : List UInt8 := [21, 5, 153, 0, 7, 29, 167, 0, 5, 21, 4, 158, 0, 74, 21, 5, 153, 0, 22, 42, 180, 0, 71]
abbrev dktX8_duelLays_7 : List UInt8 := dkwX8_duelLays_7 ++ dktX8_duelLays_8
def dkwX8_duelLays_6 : List UInt8 := [21, 11, 182, 1, 122, 54, 12, 3, 54, 13, 21, 7, 4, 96, 54, 14, 21, 14, 16, 40, 163, 0, 88]
abbrev dktX8_duelLays_6 : List UInt8 := dkwX8_duelLays_6 ++ dktX8_duelLays_7
def dkwX8_duelLays_5 : List UInt8 := [21, 8, 42, 21, 6, 21, 7, 3, 182, 1, 115, 182, 1, 135, 54, 11, 42, 21, 6, 21, 7, 21, 10]
abbrev dktX8_duelLays_5 : List UInt8 := dkwX8_duelLays_5 ++ dktX8_duelLays_6
def dkwX8_duelLays_4 : List UInt8 := [182, 1, 135, 54, 10, 42, 21, 5, 153, 0, 10, 42, 180, 1, 112, 167, 0, 7, 42, 180, 1, 109, 21, 9]
abbrev dktX8_duelLays_4 : List UInt8 := dkwX8_duelLays_4 ++ dktX8_duelLays_5
def dkwX8_duelLays_3 : List UInt8 := [180, 1, 112, 167, 0, 7, 42, 180, 1, 109, 21, 9, 21, 8, 42, 21, 6, 21, 7, 4, 182, 1, 115]
abbrev dktX8_duelLays_3 : List UInt8 := dkwX8_duelLays_3 ++ dktX8_duelLays_4
def dkwX8_duelLays_2 : List UInt8 := [29, 54, 8, 21, 5, 153, 0, 7, 28, 167, 0, 4, 27, 54, 9, 42, 21, 5, 153, 0, 10, 42]
abbrev dktX8_duelLays_2 : List UInt8 := dkwX8_duelLays_2 ++ dktX8_duelLays_3
def dkwX8_duelLays_1 : List UInt8 := [54, 6, 21, 5, 153, 0, 7, 27, 167, 0, 4, 28, 54, 7, 21, 5, 153, 0, 8, 21, 4, 167, 0, 4]
abbrev dktX8_duelLays_1 : List UInt8 := dkwX8_duelLays_1 ++ dktX8_duelLays_2
def dkwX8_duelLays_0 : List UInt8 := [42, 27, 28, 182, 1, 132, 54, 5, 21, 5, 153, 0, 10, 42, 180, 1, 109, 167, 0, 7, 42, 180, 1, 112]
abbrev dktX8_duelLays_0 : List UInt8 := dkwX8_duelLays_0 ++ dktX8_duelLays_1
theorem dksX8_duelLays_0 : cX8_duelLays.data.toList.drop 0 = dktX8_duelLays_0 := by decide +kernel
theorem dksX8_duelLays_1 : cX8_duelLays.data.toList.drop 24 = dktX8_duelLays_1 := dk_seg dksX8_duelLays_0 24 rfl rfl
theorem dksX8_duelLays_2 : cX8_duelLays.data.toList.drop 48 = dktX8_duelLays_2 := dk_seg dksX8_duelLays_1 24 rfl rfl
theorem dksX8_duelLays_3 : cX8_duelLays.data.toList.drop 70 = dktX8_duelLays_3 := dk_seg dksX8_duelLays_2 22 rfl rfl
theorem dksX8_duelLays_4 : cX8_duelLays.data.toList.drop 93 = dktX8_duelLays_4 := dk_seg dksX8_duelLays_3 23 rfl rfl
theorem dksX8_duelLays_5 : cX8_duelLays.data.toList.drop 117 = dktX8_duelLays_5 := dk_seg dksX8_duelLays_4 24 rfl rfl
theorem dksX8_duelLays_6 : cX8_duelLays.data.toList.drop 140 = dktX8_duelLays_6 := dk_seg dksX8_duelLays_5 23 rfl rfl
theorem dksX8_duelLays_7 : cX8_duelLays.data.toList.drop 163 = dktX8_duelLays_7 := dk_seg dksX8_duelLays_6 23 rfl rfl
theorem dksX8_duelLays_8 : cX8_duelLays.data.toList.drop 186 = dktX8_duelLays_8 := dk_seg dksX8_duelLays_7 23 rfl rfl
theorem dksX8_duelLays_9 : cX8_duelLays.data.toList.drop 209 = dktX8_duelLays_9 := dk_seg dksX8_duelLays_8 23 rfl rfl
theorem dksX8_duelLays_10 : cX8_duelLays.data.toList.drop 231 = dktX8_duelLays_10 := dk_seg dksX8_duelLays_9 22 rfl rfl
theorem dksX8_duelLays_11 : cX8_duelLays.data.toList.drop 255 = dktX8_duelLays_11 := dk_seg dksX8_duelLays_10 24 rfl rfl
theorem dX8_duelLays_0 : decode cX8_duelLays 0 = .ok (.aload_n 0, 1) := dk_42 (dk_at dksX8_duelLays_0 0 rfl rfl)
theorem dX8_duelLays_1 : decode cX8_duelLays 1 = .ok (.iload_n 1, 1) := dk_27 (dk_at dksX8_duelLays_0 1 rfl rfl)
theorem dX8_duelLays_2 : decode cX8_duelLays 2 = .ok (.iload_n 2, 1) := dk_28 (dk_at dksX8_duelLays_0 2 rfl rfl)
theorem dX8_duelLays_3 : decode cX8_duelLays 3 = .ok (.invokevirtual 388, 3) := dk_182 1 132 (dk_at dksX8_duelLays_0 3 rfl rfl)
theorem dX8_duelLays_6 : decode cX8_duelLays 6 = .ok (.istore 5, 2) := dk_54 5 (dk_at dksX8_duelLays_0 6 rfl rfl)
theorem dX8_duelLays_8 : decode cX8_duelLays 8 = .ok (.iload 5, 2) := dk_21 5 (dk_at dksX8_duelLays_0 8 rfl rfl)
theorem dX8_duelLays_10 : decode cX8_duelLays 10 = .ok (.ifCond .eq 10, 3) := dk_153 0 10 (dk_at dksX8_duelLays_0 10 rfl rfl)
theorem dX8_duelLays_13 : decode cX8_duelLays 13 = .ok (.aload_n 0, 1) := dk_42 (dk_at dksX8_duelLays_0 13 rfl rfl)
theorem dX8_duelLays_14 : decode cX8_duelLays 14 = .ok (.getfield 365, 3) := dk_180 1 109 (dk_at dksX8_duelLays_0 14 rfl rfl)
theorem dX8_duelLays_17 : decode cX8_duelLays 17 = .ok (.goto 7, 3) := dk_167 0 7 (dk_at dksX8_duelLays_0 17 rfl rfl)
theorem dX8_duelLays_20 : decode cX8_duelLays 20 = .ok (.aload_n 0, 1) := dk_42 (dk_at dksX8_duelLays_0 20 rfl rfl)
theorem dX8_duelLays_21 : decode cX8_duelLays 21 = .ok (.getfield 368, 3) := dk_180 1 112 (dk_at dksX8_duelLays_0 21 rfl rfl)
theorem dX8_duelLays_24 : decode cX8_duelLays 24 = .ok (.istore 6, 2) := dk_54 6 (dk_at dksX8_duelLays_1 0 rfl rfl)
theorem dX8_duelLays_26 : decode cX8_duelLays 26 = .ok (.iload 5, 2) := dk_21 5 (dk_at dksX8_duelLays_1 2 rfl rfl)
theorem dX8_duelLays_28 : decode cX8_duelLays 28 = .ok (.ifCond .eq 7, 3) := dk_153 0 7 (dk_at dksX8_duelLays_1 4 rfl rfl)
theorem dX8_duelLays_31 : decode cX8_duelLays 31 = .ok (.iload_n 1, 1) := dk_27 (dk_at dksX8_duelLays_1 7 rfl rfl)
theorem dX8_duelLays_32 : decode cX8_duelLays 32 = .ok (.goto 4, 3) := dk_167 0 4 (dk_at dksX8_duelLays_1 8 rfl rfl)
theorem dX8_duelLays_35 : decode cX8_duelLays 35 = .ok (.iload_n 2, 1) := dk_28 (dk_at dksX8_duelLays_1 11 rfl rfl)
theorem dX8_duelLays_36 : decode cX8_duelLays 36 = .ok (.istore 7, 2) := dk_54 7 (dk_at dksX8_duelLays_1 12 rfl rfl)
theorem dX8_duelLays_38 : decode cX8_duelLays 38 = .ok (.iload 5, 2) := dk_21 5 (dk_at dksX8_duelLays_1 14 rfl rfl)
theorem dX8_duelLays_40 : decode cX8_duelLays 40 = .ok (.ifCond .eq 8, 3) := dk_153 0 8 (dk_at dksX8_duelLays_1 16 rfl rfl)
theorem dX8_duelLays_43 : decode cX8_duelLays 43 = .ok (.iload 4, 2) := dk_21 4 (dk_at dksX8_duelLays_1 19 rfl rfl)
theorem dX8_duelLays_45 : decode cX8_duelLays 45 = .ok (.goto 4, 3) := dk_167 0 4 (dk_at dksX8_duelLays_1 21 rfl rfl)
theorem dX8_duelLays_48 : decode cX8_duelLays 48 = .ok (.iload_n 3, 1) := dk_29 (dk_at dksX8_duelLays_2 0 rfl rfl)
theorem dX8_duelLays_49 : decode cX8_duelLays 49 = .ok (.istore 8, 2) := dk_54 8 (dk_at dksX8_duelLays_2 1 rfl rfl)
theorem dX8_duelLays_51 : decode cX8_duelLays 51 = .ok (.iload 5, 2) := dk_21 5 (dk_at dksX8_duelLays_2 3 rfl rfl)
theorem dX8_duelLays_53 : decode cX8_duelLays 53 = .ok (.ifCond .eq 7, 3) := dk_153 0 7 (dk_at dksX8_duelLays_2 5 rfl rfl)
theorem dX8_duelLays_56 : decode cX8_duelLays 56 = .ok (.iload_n 2, 1) := dk_28 (dk_at dksX8_duelLays_2 8 rfl rfl)
theorem dX8_duelLays_57 : decode cX8_duelLays 57 = .ok (.goto 4, 3) := dk_167 0 4 (dk_at dksX8_duelLays_2 9 rfl rfl)
theorem dX8_duelLays_60 : decode cX8_duelLays 60 = .ok (.iload_n 1, 1) := dk_27 (dk_at dksX8_duelLays_2 12 rfl rfl)
theorem dX8_duelLays_61 : decode cX8_duelLays 61 = .ok (.istore 9, 2) := dk_54 9 (dk_at dksX8_duelLays_2 13 rfl rfl)
theorem dX8_duelLays_63 : decode cX8_duelLays 63 = .ok (.aload_n 0, 1) := dk_42 (dk_at dksX8_duelLays_2 15 rfl rfl)
theorem dX8_duelLays_64 : decode cX8_duelLays 64 = .ok (.iload 5, 2) := dk_21 5 (dk_at dksX8_duelLays_2 16 rfl rfl)
theorem dX8_duelLays_66 : decode cX8_duelLays 66 = .ok (.ifCond .eq 10, 3) := dk_153 0 10 (dk_at dksX8_duelLays_2 18 rfl rfl)
theorem dX8_duelLays_69 : decode cX8_duelLays 69 = .ok (.aload_n 0, 1) := dk_42 (dk_at dksX8_duelLays_2 21 rfl rfl)
theorem dX8_duelLays_70 : decode cX8_duelLays 70 = .ok (.getfield 368, 3) := dk_180 1 112 (dk_at dksX8_duelLays_3 0 rfl rfl)
theorem dX8_duelLays_73 : decode cX8_duelLays 73 = .ok (.goto 7, 3) := dk_167 0 7 (dk_at dksX8_duelLays_3 3 rfl rfl)
theorem dX8_duelLays_76 : decode cX8_duelLays 76 = .ok (.aload_n 0, 1) := dk_42 (dk_at dksX8_duelLays_3 6 rfl rfl)
theorem dX8_duelLays_77 : decode cX8_duelLays 77 = .ok (.getfield 365, 3) := dk_180 1 109 (dk_at dksX8_duelLays_3 7 rfl rfl)
theorem dX8_duelLays_80 : decode cX8_duelLays 80 = .ok (.iload 9, 2) := dk_21 9 (dk_at dksX8_duelLays_3 10 rfl rfl)
theorem dX8_duelLays_82 : decode cX8_duelLays 82 = .ok (.iload 8, 2) := dk_21 8 (dk_at dksX8_duelLays_3 12 rfl rfl)
theorem dX8_duelLays_84 : decode cX8_duelLays 84 = .ok (.aload_n 0, 1) := dk_42 (dk_at dksX8_duelLays_3 14 rfl rfl)
theorem dX8_duelLays_85 : decode cX8_duelLays 85 = .ok (.iload 6, 2) := dk_21 6 (dk_at dksX8_duelLays_3 15 rfl rfl)
theorem dX8_duelLays_87 : decode cX8_duelLays 87 = .ok (.iload 7, 2) := dk_21 7 (dk_at dksX8_duelLays_3 17 rfl rfl)
theorem dX8_duelLays_89 : decode cX8_duelLays 89 = .ok (.iconst 1, 1) := dk_4 (dk_at dksX8_duelLays_3 19 rfl rfl)
theorem dX8_duelLays_90 : decode cX8_duelLays 90 = .ok (.invokevirtual 371, 3) := dk_182 1 115 (dk_at dksX8_duelLays_3 20 rfl rfl)
theorem dX8_duelLays_93 : decode cX8_duelLays 93 = .ok (.invokevirtual 391, 3) := dk_182 1 135 (dk_at dksX8_duelLays_4 0 rfl rfl)
theorem dX8_duelLays_96 : decode cX8_duelLays 96 = .ok (.istore 10, 2) := dk_54 10 (dk_at dksX8_duelLays_4 3 rfl rfl)
theorem dX8_duelLays_98 : decode cX8_duelLays 98 = .ok (.aload_n 0, 1) := dk_42 (dk_at dksX8_duelLays_4 5 rfl rfl)
theorem dX8_duelLays_99 : decode cX8_duelLays 99 = .ok (.iload 5, 2) := dk_21 5 (dk_at dksX8_duelLays_4 6 rfl rfl)
theorem dX8_duelLays_101 : decode cX8_duelLays 101 = .ok (.ifCond .eq 10, 3) := dk_153 0 10 (dk_at dksX8_duelLays_4 8 rfl rfl)
theorem dX8_duelLays_104 : decode cX8_duelLays 104 = .ok (.aload_n 0, 1) := dk_42 (dk_at dksX8_duelLays_4 11 rfl rfl)
theorem dX8_duelLays_105 : decode cX8_duelLays 105 = .ok (.getfield 368, 3) := dk_180 1 112 (dk_at dksX8_duelLays_4 12 rfl rfl)
theorem dX8_duelLays_108 : decode cX8_duelLays 108 = .ok (.goto 7, 3) := dk_167 0 7 (dk_at dksX8_duelLays_4 15 rfl rfl)
theorem dX8_duelLays_111 : decode cX8_duelLays 111 = .ok (.aload_n 0, 1) := dk_42 (dk_at dksX8_duelLays_4 18 rfl rfl)
theorem dX8_duelLays_112 : decode cX8_duelLays 112 = .ok (.getfield 365, 3) := dk_180 1 109 (dk_at dksX8_duelLays_4 19 rfl rfl)
theorem dX8_duelLays_115 : decode cX8_duelLays 115 = .ok (.iload 9, 2) := dk_21 9 (dk_at dksX8_duelLays_4 22 rfl rfl)
theorem dX8_duelLays_117 : decode cX8_duelLays 117 = .ok (.iload 8, 2) := dk_21 8 (dk_at dksX8_duelLays_5 0 rfl rfl)
theorem dX8_duelLays_119 : decode cX8_duelLays 119 = .ok (.aload_n 0, 1) := dk_42 (dk_at dksX8_duelLays_5 2 rfl rfl)
theorem dX8_duelLays_120 : decode cX8_duelLays 120 = .ok (.iload 6, 2) := dk_21 6 (dk_at dksX8_duelLays_5 3 rfl rfl)
theorem dX8_duelLays_122 : decode cX8_duelLays 122 = .ok (.iload 7, 2) := dk_21 7 (dk_at dksX8_duelLays_5 5 rfl rfl)
theorem dX8_duelLays_124 : decode cX8_duelLays 124 = .ok (.iconst 0, 1) := dk_3 (dk_at dksX8_duelLays_5 7 rfl rfl)
theorem dX8_duelLays_125 : decode cX8_duelLays 125 = .ok (.invokevirtual 371, 3) := dk_182 1 115 (dk_at dksX8_duelLays_5 8 rfl rfl)
theorem dX8_duelLays_128 : decode cX8_duelLays 128 = .ok (.invokevirtual 391, 3) := dk_182 1 135 (dk_at dksX8_duelLays_5 11 rfl rfl)
theorem dX8_duelLays_131 : decode cX8_duelLays 131 = .ok (.istore 11, 2) := dk_54 11 (dk_at dksX8_duelLays_5 14 rfl rfl)
theorem dX8_duelLays_133 : decode cX8_duelLays 133 = .ok (.aload_n 0, 1) := dk_42 (dk_at dksX8_duelLays_5 16 rfl rfl)
theorem dX8_duelLays_134 : decode cX8_duelLays 134 = .ok (.iload 6, 2) := dk_21 6 (dk_at dksX8_duelLays_5 17 rfl rfl)
theorem dX8_duelLays_136 : decode cX8_duelLays 136 = .ok (.iload 7, 2) := dk_21 7 (dk_at dksX8_duelLays_5 19 rfl rfl)
theorem dX8_duelLays_138 : decode cX8_duelLays 138 = .ok (.iload 10, 2) := dk_21 10 (dk_at dksX8_duelLays_5 21 rfl rfl)
theorem dX8_duelLays_140 : decode cX8_duelLays 140 = .ok (.iload 11, 2) := dk_21 11 (dk_at dksX8_duelLays_6 0 rfl rfl)
theorem dX8_duelLays_142 : decode cX8_duelLays 142 = .ok (.invokevirtual 378, 3) := dk_182 1 122 (dk_at dksX8_duelLays_6 2 rfl rfl)
theorem dX8_duelLays_145 : decode cX8_duelLays 145 = .ok (.istore 12, 2) := dk_54 12 (dk_at dksX8_duelLays_6 5 rfl rfl)
theorem dX8_duelLays_147 : decode cX8_duelLays 147 = .ok (.iconst 0, 1) := dk_3 (dk_at dksX8_duelLays_6 7 rfl rfl)
theorem dX8_duelLays_148 : decode cX8_duelLays 148 = .ok (.istore 13, 2) := dk_54 13 (dk_at dksX8_duelLays_6 8 rfl rfl)
theorem dX8_duelLays_150 : decode cX8_duelLays 150 = .ok (.iload 7, 2) := dk_21 7 (dk_at dksX8_duelLays_6 10 rfl rfl)
theorem dX8_duelLays_152 : decode cX8_duelLays 152 = .ok (.iconst 1, 1) := dk_4 (dk_at dksX8_duelLays_6 12 rfl rfl)
theorem dX8_duelLays_153 : decode cX8_duelLays 153 = .ok (.iadd, 1) := dk_96 (dk_at dksX8_duelLays_6 13 rfl rfl)
theorem dX8_duelLays_154 : decode cX8_duelLays 154 = .ok (.istore 14, 2) := dk_54 14 (dk_at dksX8_duelLays_6 14 rfl rfl)
theorem dX8_duelLays_156 : decode cX8_duelLays 156 = .ok (.iload 14, 2) := dk_21 14 (dk_at dksX8_duelLays_6 16 rfl rfl)
theorem dX8_duelLays_158 : decode cX8_duelLays 158 = .ok (.bipush 40, 2) := dk_16 40 (dk_at dksX8_duelLays_6 18 rfl rfl)
theorem dX8_duelLays_160 : decode cX8_duelLays 160 = .ok (.if_icmp .gt 88, 3) := dk_163 0 88 (dk_at dksX8_duelLays_6 20 rfl rfl)
theorem dX8_duelLays_163 : decode cX8_duelLays 163 = .ok (.iload 5, 2) := dk_21 5 (dk_at dksX8_duelLays_7 0 rfl rfl)
theorem dX8_duelLays_165 : decode cX8_duelLays 165 = .ok (.ifCond .eq 7, 3) := dk_153 0 7 (dk_at dksX8_duelLays_7 2 rfl rfl)
theorem dX8_duelLays_168 : decode cX8_duelLays 168 = .ok (.iload_n 3, 1) := dk_29 (dk_at dksX8_duelLays_7 5 rfl rfl)
theorem dX8_duelLays_169 : decode cX8_duelLays 169 = .ok (.goto 5, 3) := dk_167 0 5 (dk_at dksX8_duelLays_7 6 rfl rfl)
theorem dX8_duelLays_172 : decode cX8_duelLays 172 = .ok (.iload 4, 2) := dk_21 4 (dk_at dksX8_duelLays_7 9 rfl rfl)
theorem dX8_duelLays_174 : decode cX8_duelLays 174 = .ok (.ifCond .le 74, 3) := dk_158 0 74 (dk_at dksX8_duelLays_7 11 rfl rfl)
theorem dX8_duelLays_177 : decode cX8_duelLays 177 = .ok (.iload 5, 2) := dk_21 5 (dk_at dksX8_duelLays_7 14 rfl rfl)
theorem dX8_duelLays_179 : decode cX8_duelLays 179 = .ok (.ifCond .eq 22, 3) := dk_153 0 22 (dk_at dksX8_duelLays_7 16 rfl rfl)
theorem dX8_duelLays_182 : decode cX8_duelLays 182 = .ok (.aload_n 0, 1) := dk_42 (dk_at dksX8_duelLays_7 19 rfl rfl)
theorem dX8_duelLays_183 : decode cX8_duelLays 183 = .ok (.getfield 71, 3) := dk_180 0 71 (dk_at dksX8_duelLays_7 20 rfl rfl)
theorem dX8_duelLays_186 : decode cX8_duelLays 186 = .ok (.iload 14, 2) := dk_21 14 (dk_at dksX8_duelLays_8 0 rfl rfl)
theorem dX8_duelLays_188 : decode cX8_duelLays 188 = .ok (.iload_n 2, 1) := dk_28 (dk_at dksX8_duelLays_8 2 rfl rfl)
theorem dX8_duelLays_189 : decode cX8_duelLays 189 = .ok (.iload_n 3, 1) := dk_29 (dk_at dksX8_duelLays_8 3 rfl rfl)
theorem dX8_duelLays_190 : decode cX8_duelLays 190 = .ok (.iconst 1, 1) := dk_4 (dk_at dksX8_duelLays_8 4 rfl rfl)
theorem dX8_duelLays_191 : decode cX8_duelLays 191 = .ok (.isub, 1) := dk_100 (dk_at dksX8_duelLays_8 5 rfl rfl)
theorem dX8_duelLays_192 : decode cX8_duelLays 192 = .ok (.iload 4, 2) := dk_21 4 (dk_at dksX8_duelLays_8 6 rfl rfl)
theorem dX8_duelLays_194 : decode cX8_duelLays 194 = .ok (.invokestatic 394, 3) := dk_184 1 138 (dk_at dksX8_duelLays_8 8 rfl rfl)
theorem dX8_duelLays_197 : decode cX8_duelLays 197 = .ok (.iaload, 1) := dk_46 (dk_at dksX8_duelLays_8 11 rfl rfl)
theorem dX8_duelLays_198 : decode cX8_duelLays 198 = .ok (.goto 19, 3) := dk_167 0 19 (dk_at dksX8_duelLays_8 12 rfl rfl)
theorem dX8_duelLays_201 : decode cX8_duelLays 201 = .ok (.aload_n 0, 1) := dk_42 (dk_at dksX8_duelLays_8 15 rfl rfl)
theorem dX8_duelLays_202 : decode cX8_duelLays 202 = .ok (.getfield 71, 3) := dk_180 0 71 (dk_at dksX8_duelLays_8 16 rfl rfl)
theorem dX8_duelLays_205 : decode cX8_duelLays 205 = .ok (.iload_n 1, 1) := dk_27 (dk_at dksX8_duelLays_8 19 rfl rfl)
theorem dX8_duelLays_206 : decode cX8_duelLays 206 = .ok (.iload 14, 2) := dk_21 14 (dk_at dksX8_duelLays_8 20 rfl rfl)
theorem dX8_duelLays_208 : decode cX8_duelLays 208 = .ok (.iload_n 3, 1) := dk_29 (dk_at dksX8_duelLays_8 22 rfl rfl)
theorem dX8_duelLays_209 : decode cX8_duelLays 209 = .ok (.iload 4, 2) := dk_21 4 (dk_at dksX8_duelLays_9 0 rfl rfl)
theorem dX8_duelLays_211 : decode cX8_duelLays 211 = .ok (.iconst 1, 1) := dk_4 (dk_at dksX8_duelLays_9 2 rfl rfl)
theorem dX8_duelLays_212 : decode cX8_duelLays 212 = .ok (.isub, 1) := dk_100 (dk_at dksX8_duelLays_9 3 rfl rfl)
theorem dX8_duelLays_213 : decode cX8_duelLays 213 = .ok (.invokestatic 394, 3) := dk_184 1 138 (dk_at dksX8_duelLays_9 4 rfl rfl)
theorem dX8_duelLays_216 : decode cX8_duelLays 216 = .ok (.iaload, 1) := dk_46 (dk_at dksX8_duelLays_9 7 rfl rfl)
theorem dX8_duelLays_217 : decode cX8_duelLays 217 = .ok (.istore 15, 2) := dk_54 15 (dk_at dksX8_duelLays_9 8 rfl rfl)
theorem dX8_duelLays_219 : decode cX8_duelLays 219 = .ok (.iload 5, 2) := dk_21 5 (dk_at dksX8_duelLays_9 10 rfl rfl)
theorem dX8_duelLays_221 : decode cX8_duelLays 221 = .ok (.iload 15, 2) := dk_21 15 (dk_at dksX8_duelLays_9 12 rfl rfl)
theorem dX8_duelLays_223 : decode cX8_duelLays 223 = .ok (.iload 12, 2) := dk_21 12 (dk_at dksX8_duelLays_9 14 rfl rfl)
theorem dX8_duelLays_225 : decode cX8_duelLays 225 = .ok (.invokestatic 384, 3) := dk_184 1 128 (dk_at dksX8_duelLays_9 16 rfl rfl)
theorem dX8_duelLays_228 : decode cX8_duelLays 228 = .ok (.ifCond .ne 6, 3) := dk_154 0 6 (dk_at dksX8_duelLays_9 19 rfl rfl)
theorem dX8_duelLays_231 : decode cX8_duelLays 231 = .ok (.goto 11, 3) := dk_167 0 11 (dk_at dksX8_duelLays_10 0 rfl rfl)
theorem dX8_duelLays_234 : decode cX8_duelLays 234 = .ok (.iload 15, 2) := dk_21 15 (dk_at dksX8_duelLays_10 3 rfl rfl)
theorem dX8_duelLays_236 : decode cX8_duelLays 236 = .ok (.istore 12, 2) := dk_54 12 (dk_at dksX8_duelLays_10 5 rfl rfl)
theorem dX8_duelLays_238 : decode cX8_duelLays 238 = .ok (.iload 14, 2) := dk_21 14 (dk_at dksX8_duelLays_10 7 rfl rfl)
theorem dX8_duelLays_240 : decode cX8_duelLays 240 = .ok (.istore 13, 2) := dk_54 13 (dk_at dksX8_duelLays_10 9 rfl rfl)
theorem dX8_duelLays_242 : decode cX8_duelLays 242 = .ok (.iinc 14 1, 3) := dk_132 14 1 (dk_at dksX8_duelLays_10 11 rfl rfl)
theorem dX8_duelLays_245 : decode cX8_duelLays 245 = .ok (.goto (-89), 3) := dk_167 255 167 (dk_at dksX8_duelLays_10 14 rfl rfl)
theorem dX8_duelLays_248 : decode cX8_duelLays 248 = .ok (.aload_n 0, 1) := dk_42 (dk_at dksX8_duelLays_10 17 rfl rfl)
theorem dX8_duelLays_249 : decode cX8_duelLays 249 = .ok (.getfield 71, 3) := dk_180 0 71 (dk_at dksX8_duelLays_10 18 rfl rfl)
theorem dX8_duelLays_252 : decode cX8_duelLays 252 = .ok (.iload_n 1, 1) := dk_27 (dk_at dksX8_duelLays_10 21 rfl rfl)
theorem dX8_duelLays_253 : decode cX8_duelLays 253 = .ok (.iload_n 2, 1) := dk_28 (dk_at dksX8_duelLays_10 22 rfl rfl)
theorem dX8_duelLays_254 : decode cX8_duelLays 254 = .ok (.iload_n 3, 1) := dk_29 (dk_at dksX8_duelLays_10 23 rfl rfl)
theorem dX8_duelLays_255 : decode cX8_duelLays 255 = .ok (.iload 4, 2) := dk_21 4 (dk_at dksX8_duelLays_11 0 rfl rfl)
theorem dX8_duelLays_257 : decode cX8_duelLays 257 = .ok (.invokestatic 394, 3) := dk_184 1 138 (dk_at dksX8_duelLays_11 2 rfl rfl)
theorem dX8_duelLays_260 : decode cX8_duelLays 260 = .ok (.iload 12, 2) := dk_21 12 (dk_at dksX8_duelLays_11 5 rfl rfl)
theorem dX8_duelLays_262 : decode cX8_duelLays 262 = .ok (.iastore, 1) := dk_79 (dk_at dksX8_duelLays_11 7 rfl rfl)
theorem dX8_duelLays_263 : decode cX8_duelLays 263 = .ok (.aload_n 0, 1) := dk_42 (dk_at dksX8_duelLays_11 8 rfl rfl)
theorem dX8_duelLays_264 : decode cX8_duelLays 264 = .ok (.getfield 74, 3) := dk_180 0 74 (dk_at dksX8_duelLays_11 9 rfl rfl)
theorem dX8_duelLays_267 : decode cX8_duelLays 267 = .ok (.iload_n 1, 1) := dk_27 (dk_at dksX8_duelLays_11 12 rfl rfl)
theorem dX8_duelLays_268 : decode cX8_duelLays 268 = .ok (.iload_n 2, 1) := dk_28 (dk_at dksX8_duelLays_11 13 rfl rfl)
theorem dX8_duelLays_269 : decode cX8_duelLays 269 = .ok (.iload_n 3, 1) := dk_29 (dk_at dksX8_duelLays_11 14 rfl rfl)
theorem dX8_duelLays_270 : decode cX8_duelLays 270 = .ok (.iload 4, 2) := dk_21 4 (dk_at dksX8_duelLays_11 15 rfl rfl)
theorem dX8_duelLays_272 : decode cX8_duelLays 272 = .ok (.invokestatic 394, 3) := dk_184 1 138 (dk_at dksX8_duelLays_11 17 rfl rfl)
theorem dX8_duelLays_275 : decode cX8_duelLays 275 = .ok (.iload 13, 2) := dk_21 13 (dk_at dksX8_duelLays_11 20 rfl rfl)
theorem dX8_duelLays_277 : decode cX8_duelLays 277 = .ok (.iastore, 1) := dk_79 (dk_at dksX8_duelLays_11 22 rfl rfl)
theorem dX8_duelLays_278 : decode cX8_duelLays 278 = .ok (.return_, 1) := dk_177 (dk_at dksX8_duelLays_11 23 rfl rfl)
abbrev cX8_isOneCalled : ByteArray := prog_21_method_104_code
def yX8_isOneCalled : MethodName := ⟨RX8, "isOneCalled", "(II)Z"⟩
def dkwX8_isOneCalled_1 : List UInt8 := [180, 1, 112, 46, 162, 0, 7, 4, 167, 0, 4, 3, 172]
abbrev dktX8_isOneCalled_1 : List UInt8 := dkwX8_isOneCalled_1 ++ []
def dkwX8_isOneCalled_0 : List UInt8 := [27, 28, 161, 0, 29, 27, 28, 160, 0, 28, 42, 180, 0, 17, 42, 180, 1, 109, 46, 42, 180, 0, 17, 42]
abbrev dktX8_isOneCalled_0 : List UInt8 := dkwX8_isOneCalled_0 ++ dktX8_isOneCalled_1
theorem dksX8_isOneCalled_0 : cX8_isOneCalled.data.toList.drop 0 = dktX8_isOneCalled_0 := by decide +kernel
theorem dksX8_isOneCalled_1 : cX8_isOneCalled.data.toList.drop 24 = dktX8_isOneCalled_1 := dk_seg dksX8_isOneCalled_0 24 rfl rfl
theorem dX8_isOneCalled_0 : decode cX8_isOneCalled 0 = .ok (.iload_n 1, 1) := dk_27 (dk_at dksX8_isOneCalled_0 0 rfl rfl)
theorem dX8_isOneCalled_1 : decode cX8_isOneCalled 1 = .ok (.iload_n 2, 1) := dk_28 (dk_at dksX8_isOneCalled_0 1 rfl rfl)
theorem dX8_isOneCalled_2 : decode cX8_isOneCalled 2 = .ok (.if_icmp .lt 29, 3) := dk_161 0 29 (dk_at dksX8_isOneCalled_0 2 rfl rfl)
theorem dX8_isOneCalled_5 : decode cX8_isOneCalled 5 = .ok (.iload_n 1, 1) := dk_27 (dk_at dksX8_isOneCalled_0 5 rfl rfl)
theorem dX8_isOneCalled_6 : decode cX8_isOneCalled 6 = .ok (.iload_n 2, 1) := dk_28 (dk_at dksX8_isOneCalled_0 6 rfl rfl)
theorem dX8_isOneCalled_7 : decode cX8_isOneCalled 7 = .ok (.if_icmp .ne 28, 3) := dk_160 0 28 (dk_at dksX8_isOneCalled_0 7 rfl rfl)
theorem dX8_isOneCalled_10 : decode cX8_isOneCalled 10 = .ok (.aload_n 0, 1) := dk_42 (dk_at dksX8_isOneCalled_0 10 rfl rfl)
theorem dX8_isOneCalled_11 : decode cX8_isOneCalled 11 = .ok (.getfield 17, 3) := dk_180 0 17 (dk_at dksX8_isOneCalled_0 11 rfl rfl)
theorem dX8_isOneCalled_14 : decode cX8_isOneCalled 14 = .ok (.aload_n 0, 1) := dk_42 (dk_at dksX8_isOneCalled_0 14 rfl rfl)
theorem dX8_isOneCalled_15 : decode cX8_isOneCalled 15 = .ok (.getfield 365, 3) := dk_180 1 109 (dk_at dksX8_isOneCalled_0 15 rfl rfl)
theorem dX8_isOneCalled_18 : decode cX8_isOneCalled 18 = .ok (.iaload, 1) := dk_46 (dk_at dksX8_isOneCalled_0 18 rfl rfl)
theorem dX8_isOneCalled_19 : decode cX8_isOneCalled 19 = .ok (.aload_n 0, 1) := dk_42 (dk_at dksX8_isOneCalled_0 19 rfl rfl)
theorem dX8_isOneCalled_20 : decode cX8_isOneCalled 20 = .ok (.getfield 17, 3) := dk_180 0 17 (dk_at dksX8_isOneCalled_0 20 rfl rfl)
theorem dX8_isOneCalled_23 : decode cX8_isOneCalled 23 = .ok (.aload_n 0, 1) := dk_42 (dk_at dksX8_isOneCalled_0 23 rfl rfl)
theorem dX8_isOneCalled_24 : decode cX8_isOneCalled 24 = .ok (.getfield 368, 3) := dk_180 1 112 (dk_at dksX8_isOneCalled_1 0 rfl rfl)
theorem dX8_isOneCalled_27 : decode cX8_isOneCalled 27 = .ok (.iaload, 1) := dk_46 (dk_at dksX8_isOneCalled_1 3 rfl rfl)
theorem dX8_isOneCalled_28 : decode cX8_isOneCalled 28 = .ok (.if_icmp .ge 7, 3) := dk_162 0 7 (dk_at dksX8_isOneCalled_1 4 rfl rfl)
theorem dX8_isOneCalled_31 : decode cX8_isOneCalled 31 = .ok (.iconst 1, 1) := dk_4 (dk_at dksX8_isOneCalled_1 7 rfl rfl)
theorem dX8_isOneCalled_32 : decode cX8_isOneCalled 32 = .ok (.goto 4, 3) := dk_167 0 4 (dk_at dksX8_isOneCalled_1 8 rfl rfl)
theorem dX8_isOneCalled_35 : decode cX8_isOneCalled 35 = .ok (.iconst 0, 1) := dk_3 (dk_at dksX8_isOneCalled_1 11 rfl rfl)
theorem dX8_isOneCalled_36 : decode cX8_isOneCalled 36 = .ok (.ireturn, 1) := dk_172 (dk_at dksX8_isOneCalled_1 12 rfl rfl)
abbrev cX8_duelBest : ByteArray := prog_21_method_98_code
def yX8_duelBest : MethodName := ⟨RX8, "duelBest", "(IIZ)I"⟩
def dkwX8_duelBest_1 : List UInt8 := [172]
abbrev dktX8_duelBest_1 : List UInt8 := dkwX8_duelBest_1 ++ []
def dkwX8_duelBest_0 : List UInt8 := [42, 27, 16, 9, 182, 0, 106, 54, 4, 29, 153, 0, 12, 21, 4, 28, 184, 0, 100, 167, 0, 5, 21, 4]
abbrev dktX8_duelBest_0 : List UInt8 := dkwX8_duelBest_0 ++ dktX8_duelBest_1
theorem dksX8_duelBest_0 : cX8_duelBest.data.toList.drop 0 = dktX8_duelBest_0 := by decide +kernel
theorem dksX8_duelBest_1 : cX8_duelBest.data.toList.drop 24 = dktX8_duelBest_1 := dk_seg dksX8_duelBest_0 24 rfl rfl
theorem dX8_duelBest_0 : decode cX8_duelBest 0 = .ok (.aload_n 0, 1) := dk_42 (dk_at dksX8_duelBest_0 0 rfl rfl)
theorem dX8_duelBest_1 : decode cX8_duelBest 1 = .ok (.iload_n 1, 1) := dk_27 (dk_at dksX8_duelBest_0 1 rfl rfl)
theorem dX8_duelBest_2 : decode cX8_duelBest 2 = .ok (.bipush 9, 2) := dk_16 9 (dk_at dksX8_duelBest_0 2 rfl rfl)
theorem dX8_duelBest_4 : decode cX8_duelBest 4 = .ok (.invokevirtual 106, 3) := dk_182 0 106 (dk_at dksX8_duelBest_0 4 rfl rfl)
theorem dX8_duelBest_7 : decode cX8_duelBest 7 = .ok (.istore 4, 2) := dk_54 4 (dk_at dksX8_duelBest_0 7 rfl rfl)
theorem dX8_duelBest_9 : decode cX8_duelBest 9 = .ok (.iload_n 3, 1) := dk_29 (dk_at dksX8_duelBest_0 9 rfl rfl)
theorem dX8_duelBest_10 : decode cX8_duelBest 10 = .ok (.ifCond .eq 12, 3) := dk_153 0 12 (dk_at dksX8_duelBest_0 10 rfl rfl)
theorem dX8_duelBest_13 : decode cX8_duelBest 13 = .ok (.iload 4, 2) := dk_21 4 (dk_at dksX8_duelBest_0 13 rfl rfl)
theorem dX8_duelBest_15 : decode cX8_duelBest 15 = .ok (.iload_n 2, 1) := dk_28 (dk_at dksX8_duelBest_0 15 rfl rfl)
theorem dX8_duelBest_16 : decode cX8_duelBest 16 = .ok (.invokestatic 100, 3) := dk_184 0 100 (dk_at dksX8_duelBest_0 16 rfl rfl)
theorem dX8_duelBest_19 : decode cX8_duelBest 19 = .ok (.goto 5, 3) := dk_167 0 5 (dk_at dksX8_duelBest_0 19 rfl rfl)
theorem dX8_duelBest_22 : decode cX8_duelBest 22 = .ok (.iload 4, 2) := dk_21 4 (dk_at dksX8_duelBest_0 22 rfl rfl)
theorem dX8_duelBest_24 : decode cX8_duelBest 24 = .ok (.ireturn, 1) := dk_172 (dk_at dksX8_duelBest_1 0 rfl rfl)
abbrev cX8_duelChoosesLast : ByteArray := prog_21_method_102_code
def yX8_duelChoosesLast : MethodName := ⟨RX8, "duelChoosesLast", "(IIII)I"⟩
def dkwX8_duelChoosesLast_3 : List UInt8 := [132, 6, 1, 167, 255, 199, 21, 5, 172]
abbrev dktX8_duelChoosesLast_3 : List UInt8 := dkwX8_duelChoosesLast_3 ++ []
def dkwX8_duelChoosesLast_2 : List UInt8 := [167, 0, 4, 3, 21, 7, 21, 5, 184, 1, 128, 153, 0, 8, 21, 7, 167, 0, 5, 21, 5, 54, 5]
abbrev dktX8_duelChoosesLast_2 : List UInt8 := dkwX8_duelChoosesLast_2 ++ dktX8_duelChoosesLast_3
def dkwX8_duelChoosesLast_1 : List UInt8 := [158, 0, 52, 42, 27, 21, 6, 21, 4, 182, 1, 125, 54, 7, 27, 42, 180, 1, 109, 160, 0, 7, 4]
abbrev dktX8_duelChoosesLast_1 : List UInt8 := dkwX8_duelChoosesLast_1 ++ dktX8_duelChoosesLast_2
def dkwX8_duelChoosesLast_0 : List UInt8 := [42, 27, 28, 21, 4, 182, 1, 125, 54, 5, 28, 4, 96, 54, 6, 21, 6, 16, 40, 163, 0, 56, 29]
abbrev dktX8_duelChoosesLast_0 : List UInt8 := dkwX8_duelChoosesLast_0 ++ dktX8_duelChoosesLast_1
theorem dksX8_duelChoosesLast_0 : cX8_duelChoosesLast.data.toList.drop 0 = dktX8_duelChoosesLast_0 := by decide +kernel
theorem dksX8_duelChoosesLast_1 : cX8_duelChoosesLast.data.toList.drop 23 = dktX8_duelChoosesLast_1 := dk_seg dksX8_duelChoosesLast_0 23 rfl rfl
theorem dksX8_duelChoosesLast_2 : cX8_duelChoosesLast.data.toList.drop 46 = dktX8_duelChoosesLast_2 := dk_seg dksX8_duelChoosesLast_1 23 rfl rfl
theorem dksX8_duelChoosesLast_3 : cX8_duelChoosesLast.data.toList.drop 69 = dktX8_duelChoosesLast_3 := dk_seg dksX8_duelChoosesLast_2 23 rfl rfl
theorem dX8_duelChoosesLast_0 : decode cX8_duelChoosesLast 0 = .ok (.aload_n 0, 1) := dk_42 (dk_at dksX8_duelChoosesLast_0 0 rfl rfl)
theorem dX8_duelChoosesLast_1 : decode cX8_duelChoosesLast 1 = .ok (.iload_n 1, 1) := dk_27 (dk_at dksX8_duelChoosesLast_0 1 rfl rfl)
theorem dX8_duelChoosesLast_2 : decode cX8_duelChoosesLast 2 = .ok (.iload_n 2, 1) := dk_28 (dk_at dksX8_duelChoosesLast_0 2 rfl rfl)
theorem dX8_duelChoosesLast_3 : decode cX8_duelChoosesLast 3 = .ok (.iload 4, 2) := dk_21 4 (dk_at dksX8_duelChoosesLast_0 3 rfl rfl)
theorem dX8_duelChoosesLast_5 : decode cX8_duelChoosesLast 5 = .ok (.invokevirtual 381, 3) := dk_182 1 125 (dk_at dksX8_duelChoosesLast_0 5 rfl rfl)
theorem dX8_duelChoosesLast_8 : decode cX8_duelChoosesLast 8 = .ok (.istore 5, 2) := dk_54 5 (dk_at dksX8_duelChoosesLast_0 8 rfl rfl)
theorem dX8_duelChoosesLast_10 : decode cX8_duelChoosesLast 10 = .ok (.iload_n 2, 1) := dk_28 (dk_at dksX8_duelChoosesLast_0 10 rfl rfl)
theorem dX8_duelChoosesLast_11 : decode cX8_duelChoosesLast 11 = .ok (.iconst 1, 1) := dk_4 (dk_at dksX8_duelChoosesLast_0 11 rfl rfl)
theorem dX8_duelChoosesLast_12 : decode cX8_duelChoosesLast 12 = .ok (.iadd, 1) := dk_96 (dk_at dksX8_duelChoosesLast_0 12 rfl rfl)
theorem dX8_duelChoosesLast_13 : decode cX8_duelChoosesLast 13 = .ok (.istore 6, 2) := dk_54 6 (dk_at dksX8_duelChoosesLast_0 13 rfl rfl)
theorem dX8_duelChoosesLast_15 : decode cX8_duelChoosesLast 15 = .ok (.iload 6, 2) := dk_21 6 (dk_at dksX8_duelChoosesLast_0 15 rfl rfl)
theorem dX8_duelChoosesLast_17 : decode cX8_duelChoosesLast 17 = .ok (.bipush 40, 2) := dk_16 40 (dk_at dksX8_duelChoosesLast_0 17 rfl rfl)
theorem dX8_duelChoosesLast_19 : decode cX8_duelChoosesLast 19 = .ok (.if_icmp .gt 56, 3) := dk_163 0 56 (dk_at dksX8_duelChoosesLast_0 19 rfl rfl)
theorem dX8_duelChoosesLast_22 : decode cX8_duelChoosesLast 22 = .ok (.iload_n 3, 1) := dk_29 (dk_at dksX8_duelChoosesLast_0 22 rfl rfl)
theorem dX8_duelChoosesLast_23 : decode cX8_duelChoosesLast 23 = .ok (.ifCond .le 52, 3) := dk_158 0 52 (dk_at dksX8_duelChoosesLast_1 0 rfl rfl)
theorem dX8_duelChoosesLast_26 : decode cX8_duelChoosesLast 26 = .ok (.aload_n 0, 1) := dk_42 (dk_at dksX8_duelChoosesLast_1 3 rfl rfl)
theorem dX8_duelChoosesLast_27 : decode cX8_duelChoosesLast 27 = .ok (.iload_n 1, 1) := dk_27 (dk_at dksX8_duelChoosesLast_1 4 rfl rfl)
theorem dX8_duelChoosesLast_28 : decode cX8_duelChoosesLast 28 = .ok (.iload 6, 2) := dk_21 6 (dk_at dksX8_duelChoosesLast_1 5 rfl rfl)
theorem dX8_duelChoosesLast_30 : decode cX8_duelChoosesLast 30 = .ok (.iload 4, 2) := dk_21 4 (dk_at dksX8_duelChoosesLast_1 7 rfl rfl)
theorem dX8_duelChoosesLast_32 : decode cX8_duelChoosesLast 32 = .ok (.invokevirtual 381, 3) := dk_182 1 125 (dk_at dksX8_duelChoosesLast_1 9 rfl rfl)
theorem dX8_duelChoosesLast_35 : decode cX8_duelChoosesLast 35 = .ok (.istore 7, 2) := dk_54 7 (dk_at dksX8_duelChoosesLast_1 12 rfl rfl)
theorem dX8_duelChoosesLast_37 : decode cX8_duelChoosesLast 37 = .ok (.iload_n 1, 1) := dk_27 (dk_at dksX8_duelChoosesLast_1 14 rfl rfl)
theorem dX8_duelChoosesLast_38 : decode cX8_duelChoosesLast 38 = .ok (.aload_n 0, 1) := dk_42 (dk_at dksX8_duelChoosesLast_1 15 rfl rfl)
theorem dX8_duelChoosesLast_39 : decode cX8_duelChoosesLast 39 = .ok (.getfield 365, 3) := dk_180 1 109 (dk_at dksX8_duelChoosesLast_1 16 rfl rfl)
theorem dX8_duelChoosesLast_42 : decode cX8_duelChoosesLast 42 = .ok (.if_icmp .ne 7, 3) := dk_160 0 7 (dk_at dksX8_duelChoosesLast_1 19 rfl rfl)
theorem dX8_duelChoosesLast_45 : decode cX8_duelChoosesLast 45 = .ok (.iconst 1, 1) := dk_4 (dk_at dksX8_duelChoosesLast_1 22 rfl rfl)
theorem dX8_duelChoosesLast_46 : decode cX8_duelChoosesLast 46 = .ok (.goto 4, 3) := dk_167 0 4 (dk_at dksX8_duelChoosesLast_2 0 rfl rfl)
theorem dX8_duelChoosesLast_49 : decode cX8_duelChoosesLast 49 = .ok (.iconst 0, 1) := dk_3 (dk_at dksX8_duelChoosesLast_2 3 rfl rfl)
theorem dX8_duelChoosesLast_50 : decode cX8_duelChoosesLast 50 = .ok (.iload 7, 2) := dk_21 7 (dk_at dksX8_duelChoosesLast_2 4 rfl rfl)
theorem dX8_duelChoosesLast_52 : decode cX8_duelChoosesLast 52 = .ok (.iload 5, 2) := dk_21 5 (dk_at dksX8_duelChoosesLast_2 6 rfl rfl)
theorem dX8_duelChoosesLast_54 : decode cX8_duelChoosesLast 54 = .ok (.invokestatic 384, 3) := dk_184 1 128 (dk_at dksX8_duelChoosesLast_2 8 rfl rfl)
theorem dX8_duelChoosesLast_57 : decode cX8_duelChoosesLast 57 = .ok (.ifCond .eq 8, 3) := dk_153 0 8 (dk_at dksX8_duelChoosesLast_2 11 rfl rfl)
theorem dX8_duelChoosesLast_60 : decode cX8_duelChoosesLast 60 = .ok (.iload 7, 2) := dk_21 7 (dk_at dksX8_duelChoosesLast_2 14 rfl rfl)
theorem dX8_duelChoosesLast_62 : decode cX8_duelChoosesLast 62 = .ok (.goto 5, 3) := dk_167 0 5 (dk_at dksX8_duelChoosesLast_2 16 rfl rfl)
theorem dX8_duelChoosesLast_65 : decode cX8_duelChoosesLast 65 = .ok (.iload 5, 2) := dk_21 5 (dk_at dksX8_duelChoosesLast_2 19 rfl rfl)
theorem dX8_duelChoosesLast_67 : decode cX8_duelChoosesLast 67 = .ok (.istore 5, 2) := dk_54 5 (dk_at dksX8_duelChoosesLast_2 21 rfl rfl)
theorem dX8_duelChoosesLast_69 : decode cX8_duelChoosesLast 69 = .ok (.iinc 6 1, 3) := dk_132 6 1 (dk_at dksX8_duelChoosesLast_3 0 rfl rfl)
theorem dX8_duelChoosesLast_72 : decode cX8_duelChoosesLast 72 = .ok (.goto (-57), 3) := dk_167 255 199 (dk_at dksX8_duelChoosesLast_3 3 rfl rfl)
theorem dX8_duelChoosesLast_75 : decode cX8_duelChoosesLast 75 = .ok (.iload 5, 2) := dk_21 5 (dk_at dksX8_duelChoosesLast_3 6 rfl rfl)
theorem dX8_duelChoosesLast_77 : decode cX8_duelChoosesLast 77 = .ok (.ireturn, 1) := dk_172 (dk_at dksX8_duelChoosesLast_3 8 rfl rfl)
abbrev cX8_duelLast : ByteArray := prog_21_method_100_code
def yX8_duelLast : MethodName := ⟨RX8, "duelLast", "(III)I"⟩
def dkwX8_duelLast_2 : List UInt8 := [167, 0, 23, 42, 27, 28, 42, 29, 21, 4, 182, 1, 119, 42, 29, 21, 5, 182, 1, 119, 182, 1, 122, 172]
abbrev dktX8_duelLast_2 : List UInt8 := dkwX8_duelLast_2 ++ []
def dkwX8_duelLast_1 : List UInt8 := [160, 0, 26, 42, 27, 28, 42, 21, 4, 29, 182, 1, 119, 42, 21, 5, 29, 182, 1, 119, 182, 1, 122]
abbrev dktX8_duelLast_1 : List UInt8 := dkwX8_duelLast_1 ++ dktX8_duelLast_2
def dkwX8_duelLast_0 : List UInt8 := [42, 27, 28, 4, 182, 1, 115, 54, 4, 42, 27, 28, 3, 182, 1, 115, 54, 5, 27, 42, 180, 1, 109]
abbrev dktX8_duelLast_0 : List UInt8 := dkwX8_duelLast_0 ++ dktX8_duelLast_1
theorem dksX8_duelLast_0 : cX8_duelLast.data.toList.drop 0 = dktX8_duelLast_0 := by decide +kernel
theorem dksX8_duelLast_1 : cX8_duelLast.data.toList.drop 23 = dktX8_duelLast_1 := dk_seg dksX8_duelLast_0 23 rfl rfl
theorem dksX8_duelLast_2 : cX8_duelLast.data.toList.drop 46 = dktX8_duelLast_2 := dk_seg dksX8_duelLast_1 23 rfl rfl
theorem dX8_duelLast_0 : decode cX8_duelLast 0 = .ok (.aload_n 0, 1) := dk_42 (dk_at dksX8_duelLast_0 0 rfl rfl)
theorem dX8_duelLast_1 : decode cX8_duelLast 1 = .ok (.iload_n 1, 1) := dk_27 (dk_at dksX8_duelLast_0 1 rfl rfl)
theorem dX8_duelLast_2 : decode cX8_duelLast 2 = .ok (.iload_n 2, 1) := dk_28 (dk_at dksX8_duelLast_0 2 rfl rfl)
theorem dX8_duelLast_3 : decode cX8_duelLast 3 = .ok (.iconst 1, 1) := dk_4 (dk_at dksX8_duelLast_0 3 rfl rfl)
theorem dX8_duelLast_4 : decode cX8_duelLast 4 = .ok (.invokevirtual 371, 3) := dk_182 1 115 (dk_at dksX8_duelLast_0 4 rfl rfl)
theorem dX8_duelLast_7 : decode cX8_duelLast 7 = .ok (.istore 4, 2) := dk_54 4 (dk_at dksX8_duelLast_0 7 rfl rfl)
theorem dX8_duelLast_9 : decode cX8_duelLast 9 = .ok (.aload_n 0, 1) := dk_42 (dk_at dksX8_duelLast_0 9 rfl rfl)
theorem dX8_duelLast_10 : decode cX8_duelLast 10 = .ok (.iload_n 1, 1) := dk_27 (dk_at dksX8_duelLast_0 10 rfl rfl)
theorem dX8_duelLast_11 : decode cX8_duelLast 11 = .ok (.iload_n 2, 1) := dk_28 (dk_at dksX8_duelLast_0 11 rfl rfl)
theorem dX8_duelLast_12 : decode cX8_duelLast 12 = .ok (.iconst 0, 1) := dk_3 (dk_at dksX8_duelLast_0 12 rfl rfl)
theorem dX8_duelLast_13 : decode cX8_duelLast 13 = .ok (.invokevirtual 371, 3) := dk_182 1 115 (dk_at dksX8_duelLast_0 13 rfl rfl)
theorem dX8_duelLast_16 : decode cX8_duelLast 16 = .ok (.istore 5, 2) := dk_54 5 (dk_at dksX8_duelLast_0 16 rfl rfl)
theorem dX8_duelLast_18 : decode cX8_duelLast 18 = .ok (.iload_n 1, 1) := dk_27 (dk_at dksX8_duelLast_0 18 rfl rfl)
theorem dX8_duelLast_19 : decode cX8_duelLast 19 = .ok (.aload_n 0, 1) := dk_42 (dk_at dksX8_duelLast_0 19 rfl rfl)
theorem dX8_duelLast_20 : decode cX8_duelLast 20 = .ok (.getfield 365, 3) := dk_180 1 109 (dk_at dksX8_duelLast_0 20 rfl rfl)
theorem dX8_duelLast_23 : decode cX8_duelLast 23 = .ok (.if_icmp .ne 26, 3) := dk_160 0 26 (dk_at dksX8_duelLast_1 0 rfl rfl)
theorem dX8_duelLast_26 : decode cX8_duelLast 26 = .ok (.aload_n 0, 1) := dk_42 (dk_at dksX8_duelLast_1 3 rfl rfl)
theorem dX8_duelLast_27 : decode cX8_duelLast 27 = .ok (.iload_n 1, 1) := dk_27 (dk_at dksX8_duelLast_1 4 rfl rfl)
theorem dX8_duelLast_28 : decode cX8_duelLast 28 = .ok (.iload_n 2, 1) := dk_28 (dk_at dksX8_duelLast_1 5 rfl rfl)
theorem dX8_duelLast_29 : decode cX8_duelLast 29 = .ok (.aload_n 0, 1) := dk_42 (dk_at dksX8_duelLast_1 6 rfl rfl)
theorem dX8_duelLast_30 : decode cX8_duelLast 30 = .ok (.iload 4, 2) := dk_21 4 (dk_at dksX8_duelLast_1 7 rfl rfl)
theorem dX8_duelLast_32 : decode cX8_duelLast 32 = .ok (.iload_n 3, 1) := dk_29 (dk_at dksX8_duelLast_1 9 rfl rfl)
theorem dX8_duelLast_33 : decode cX8_duelLast 33 = .ok (.invokevirtual 375, 3) := dk_182 1 119 (dk_at dksX8_duelLast_1 10 rfl rfl)
theorem dX8_duelLast_36 : decode cX8_duelLast 36 = .ok (.aload_n 0, 1) := dk_42 (dk_at dksX8_duelLast_1 13 rfl rfl)
theorem dX8_duelLast_37 : decode cX8_duelLast 37 = .ok (.iload 5, 2) := dk_21 5 (dk_at dksX8_duelLast_1 14 rfl rfl)
theorem dX8_duelLast_39 : decode cX8_duelLast 39 = .ok (.iload_n 3, 1) := dk_29 (dk_at dksX8_duelLast_1 16 rfl rfl)
theorem dX8_duelLast_40 : decode cX8_duelLast 40 = .ok (.invokevirtual 375, 3) := dk_182 1 119 (dk_at dksX8_duelLast_1 17 rfl rfl)
theorem dX8_duelLast_43 : decode cX8_duelLast 43 = .ok (.invokevirtual 378, 3) := dk_182 1 122 (dk_at dksX8_duelLast_1 20 rfl rfl)
theorem dX8_duelLast_46 : decode cX8_duelLast 46 = .ok (.goto 23, 3) := dk_167 0 23 (dk_at dksX8_duelLast_2 0 rfl rfl)
theorem dX8_duelLast_49 : decode cX8_duelLast 49 = .ok (.aload_n 0, 1) := dk_42 (dk_at dksX8_duelLast_2 3 rfl rfl)
theorem dX8_duelLast_50 : decode cX8_duelLast 50 = .ok (.iload_n 1, 1) := dk_27 (dk_at dksX8_duelLast_2 4 rfl rfl)
theorem dX8_duelLast_51 : decode cX8_duelLast 51 = .ok (.iload_n 2, 1) := dk_28 (dk_at dksX8_duelLast_2 5 rfl rfl)
theorem dX8_duelLast_52 : decode cX8_duelLast 52 = .ok (.aload_n 0, 1) := dk_42 (dk_at dksX8_duelLast_2 6 rfl rfl)
theorem dX8_duelLast_53 : decode cX8_duelLast 53 = .ok (.iload_n 3, 1) := dk_29 (dk_at dksX8_duelLast_2 7 rfl rfl)
theorem dX8_duelLast_54 : decode cX8_duelLast 54 = .ok (.iload 4, 2) := dk_21 4 (dk_at dksX8_duelLast_2 8 rfl rfl)
theorem dX8_duelLast_56 : decode cX8_duelLast 56 = .ok (.invokevirtual 375, 3) := dk_182 1 119 (dk_at dksX8_duelLast_2 10 rfl rfl)
theorem dX8_duelLast_59 : decode cX8_duelLast 59 = .ok (.aload_n 0, 1) := dk_42 (dk_at dksX8_duelLast_2 13 rfl rfl)
theorem dX8_duelLast_60 : decode cX8_duelLast 60 = .ok (.iload_n 3, 1) := dk_29 (dk_at dksX8_duelLast_2 14 rfl rfl)
theorem dX8_duelLast_61 : decode cX8_duelLast 61 = .ok (.iload 5, 2) := dk_21 5 (dk_at dksX8_duelLast_2 15 rfl rfl)
theorem dX8_duelLast_63 : decode cX8_duelLast 63 = .ok (.invokevirtual 375, 3) := dk_182 1 119 (dk_at dksX8_duelLast_2 17 rfl rfl)
theorem dX8_duelLast_66 : decode cX8_duelLast 66 = .ok (.invokevirtual 378, 3) := dk_182 1 122 (dk_at dksX8_duelLast_2 20 rfl rfl)
theorem dX8_duelLast_69 : decode cX8_duelLast 69 = .ok (.ireturn, 1) := dk_172 (dk_at dksX8_duelLast_2 23 rfl rfl)
abbrev cX8_duelEnds : ByteArray := prog_21_method_97_code
def yX8_duelEnds : MethodName := ⟨RX8, "duelEnds", "(II)I"⟩
def dkwX8_duelEnds_3 : List UInt8 := [19, 1, 8, 167, 0, 4, 3, 172]
abbrev dktX8_duelEnds_3 : List UInt8 := dkwX8_duelEnds_3 ++ []
def dkwX8_duelEnds_2 : List UInt8 := [163, 0, 24, 29, 21, 4, 160, 0, 24, 42, 42, 180, 1, 109, 42, 180, 1, 112, 182, 0, 171, 153, 0, 9]
abbrev dktX8_duelEnds_2 : List UInt8 := dkwX8_duelEnds_2 ++ dktX8_duelEnds_3
def dkwX8_duelEnds_1 : List UInt8 := [180, 1, 109, 182, 1, 24, 27, 96, 62, 42, 42, 180, 1, 112, 182, 1, 24, 28, 96, 54, 4, 29, 21, 4]
abbrev dktX8_duelEnds_1 : List UInt8 := dkwX8_duelEnds_1 ++ dktX8_duelEnds_2
def dkwX8_duelEnds_0 : List UInt8 := [27, 153, 0, 7, 28, 154, 0, 15, 27, 158, 0, 9, 19, 1, 8, 167, 0, 4, 3, 172, 42, 42]
abbrev dktX8_duelEnds_0 : List UInt8 := dkwX8_duelEnds_0 ++ dktX8_duelEnds_1
theorem dksX8_duelEnds_0 : cX8_duelEnds.data.toList.drop 0 = dktX8_duelEnds_0 := by decide +kernel
theorem dksX8_duelEnds_1 : cX8_duelEnds.data.toList.drop 22 = dktX8_duelEnds_1 := dk_seg dksX8_duelEnds_0 22 rfl rfl
theorem dksX8_duelEnds_2 : cX8_duelEnds.data.toList.drop 46 = dktX8_duelEnds_2 := dk_seg dksX8_duelEnds_1 24 rfl rfl
theorem dksX8_duelEnds_3 : cX8_duelEnds.data.toList.drop 70 = dktX8_duelEnds_3 := dk_seg dksX8_duelEnds_2 24 rfl rfl
theorem dX8_duelEnds_0 : decode cX8_duelEnds 0 = .ok (.iload_n 1, 1) := dk_27 (dk_at dksX8_duelEnds_0 0 rfl rfl)
theorem dX8_duelEnds_1 : decode cX8_duelEnds 1 = .ok (.ifCond .eq 7, 3) := dk_153 0 7 (dk_at dksX8_duelEnds_0 1 rfl rfl)
theorem dX8_duelEnds_4 : decode cX8_duelEnds 4 = .ok (.iload_n 2, 1) := dk_28 (dk_at dksX8_duelEnds_0 4 rfl rfl)
theorem dX8_duelEnds_5 : decode cX8_duelEnds 5 = .ok (.ifCond .ne 15, 3) := dk_154 0 15 (dk_at dksX8_duelEnds_0 5 rfl rfl)
theorem dX8_duelEnds_8 : decode cX8_duelEnds 8 = .ok (.iload_n 1, 1) := dk_27 (dk_at dksX8_duelEnds_0 8 rfl rfl)
theorem dX8_duelEnds_9 : decode cX8_duelEnds 9 = .ok (.ifCond .le 9, 3) := dk_158 0 9 (dk_at dksX8_duelEnds_0 9 rfl rfl)
theorem dX8_duelEnds_12 : decode cX8_duelEnds 12 = .ok (.ldc_w 264, 3) := dk_19 1 8 (dk_at dksX8_duelEnds_0 12 rfl rfl)
theorem dX8_duelEnds_15 : decode cX8_duelEnds 15 = .ok (.goto 4, 3) := dk_167 0 4 (dk_at dksX8_duelEnds_0 15 rfl rfl)
theorem dX8_duelEnds_18 : decode cX8_duelEnds 18 = .ok (.iconst 0, 1) := dk_3 (dk_at dksX8_duelEnds_0 18 rfl rfl)
theorem dX8_duelEnds_19 : decode cX8_duelEnds 19 = .ok (.ireturn, 1) := dk_172 (dk_at dksX8_duelEnds_0 19 rfl rfl)
theorem dX8_duelEnds_20 : decode cX8_duelEnds 20 = .ok (.aload_n 0, 1) := dk_42 (dk_at dksX8_duelEnds_0 20 rfl rfl)
theorem dX8_duelEnds_21 : decode cX8_duelEnds 21 = .ok (.aload_n 0, 1) := dk_42 (dk_at dksX8_duelEnds_0 21 rfl rfl)
theorem dX8_duelEnds_22 : decode cX8_duelEnds 22 = .ok (.getfield 365, 3) := dk_180 1 109 (dk_at dksX8_duelEnds_1 0 rfl rfl)
theorem dX8_duelEnds_25 : decode cX8_duelEnds 25 = .ok (.invokevirtual 280, 3) := dk_182 1 24 (dk_at dksX8_duelEnds_1 3 rfl rfl)
theorem dX8_duelEnds_28 : decode cX8_duelEnds 28 = .ok (.iload_n 1, 1) := dk_27 (dk_at dksX8_duelEnds_1 6 rfl rfl)
theorem dX8_duelEnds_29 : decode cX8_duelEnds 29 = .ok (.iadd, 1) := dk_96 (dk_at dksX8_duelEnds_1 7 rfl rfl)
theorem dX8_duelEnds_30 : decode cX8_duelEnds 30 = .ok (.istore_n 3, 1) := dk_62 (dk_at dksX8_duelEnds_1 8 rfl rfl)
theorem dX8_duelEnds_31 : decode cX8_duelEnds 31 = .ok (.aload_n 0, 1) := dk_42 (dk_at dksX8_duelEnds_1 9 rfl rfl)
theorem dX8_duelEnds_32 : decode cX8_duelEnds 32 = .ok (.aload_n 0, 1) := dk_42 (dk_at dksX8_duelEnds_1 10 rfl rfl)
theorem dX8_duelEnds_33 : decode cX8_duelEnds 33 = .ok (.getfield 368, 3) := dk_180 1 112 (dk_at dksX8_duelEnds_1 11 rfl rfl)
theorem dX8_duelEnds_36 : decode cX8_duelEnds 36 = .ok (.invokevirtual 280, 3) := dk_182 1 24 (dk_at dksX8_duelEnds_1 14 rfl rfl)
theorem dX8_duelEnds_39 : decode cX8_duelEnds 39 = .ok (.iload_n 2, 1) := dk_28 (dk_at dksX8_duelEnds_1 17 rfl rfl)
theorem dX8_duelEnds_40 : decode cX8_duelEnds 40 = .ok (.iadd, 1) := dk_96 (dk_at dksX8_duelEnds_1 18 rfl rfl)
theorem dX8_duelEnds_41 : decode cX8_duelEnds 41 = .ok (.istore 4, 2) := dk_54 4 (dk_at dksX8_duelEnds_1 19 rfl rfl)
theorem dX8_duelEnds_43 : decode cX8_duelEnds 43 = .ok (.iload_n 3, 1) := dk_29 (dk_at dksX8_duelEnds_1 21 rfl rfl)
theorem dX8_duelEnds_44 : decode cX8_duelEnds 44 = .ok (.iload 4, 2) := dk_21 4 (dk_at dksX8_duelEnds_1 22 rfl rfl)
theorem dX8_duelEnds_46 : decode cX8_duelEnds 46 = .ok (.if_icmp .gt 24, 3) := dk_163 0 24 (dk_at dksX8_duelEnds_2 0 rfl rfl)
theorem dX8_duelEnds_49 : decode cX8_duelEnds 49 = .ok (.iload_n 3, 1) := dk_29 (dk_at dksX8_duelEnds_2 3 rfl rfl)
theorem dX8_duelEnds_50 : decode cX8_duelEnds 50 = .ok (.iload 4, 2) := dk_21 4 (dk_at dksX8_duelEnds_2 4 rfl rfl)
theorem dX8_duelEnds_52 : decode cX8_duelEnds 52 = .ok (.if_icmp .ne 24, 3) := dk_160 0 24 (dk_at dksX8_duelEnds_2 6 rfl rfl)
theorem dX8_duelEnds_55 : decode cX8_duelEnds 55 = .ok (.aload_n 0, 1) := dk_42 (dk_at dksX8_duelEnds_2 9 rfl rfl)
theorem dX8_duelEnds_56 : decode cX8_duelEnds 56 = .ok (.aload_n 0, 1) := dk_42 (dk_at dksX8_duelEnds_2 10 rfl rfl)
theorem dX8_duelEnds_57 : decode cX8_duelEnds 57 = .ok (.getfield 365, 3) := dk_180 1 109 (dk_at dksX8_duelEnds_2 11 rfl rfl)
theorem dX8_duelEnds_60 : decode cX8_duelEnds 60 = .ok (.aload_n 0, 1) := dk_42 (dk_at dksX8_duelEnds_2 14 rfl rfl)
theorem dX8_duelEnds_61 : decode cX8_duelEnds 61 = .ok (.getfield 368, 3) := dk_180 1 112 (dk_at dksX8_duelEnds_2 15 rfl rfl)
theorem dX8_duelEnds_64 : decode cX8_duelEnds 64 = .ok (.invokevirtual 171, 3) := dk_182 0 171 (dk_at dksX8_duelEnds_2 18 rfl rfl)
theorem dX8_duelEnds_67 : decode cX8_duelEnds 67 = .ok (.ifCond .eq 9, 3) := dk_153 0 9 (dk_at dksX8_duelEnds_2 21 rfl rfl)
theorem dX8_duelEnds_70 : decode cX8_duelEnds 70 = .ok (.ldc_w 264, 3) := dk_19 1 8 (dk_at dksX8_duelEnds_3 0 rfl rfl)
theorem dX8_duelEnds_73 : decode cX8_duelEnds 73 = .ok (.goto 4, 3) := dk_167 0 4 (dk_at dksX8_duelEnds_3 3 rfl rfl)
theorem dX8_duelEnds_76 : decode cX8_duelEnds 76 = .ok (.iconst 0, 1) := dk_3 (dk_at dksX8_duelEnds_3 6 rfl rfl)
theorem dX8_duelEnds_77 : decode cX8_duelEnds 77 = .ok (.ireturn, 1) := dk_172 (dk_at dksX8_duelEnds_3 7 rfl rfl)
abbrev cX8_duelTry : ByteArray := prog_21_method_99_code
def yX8_duelTry : MethodName := ⟨RX8, "duelTry", "(IIII)I"⟩
def dkwX8_duelTry_0 : List UInt8 := [42, 27, 5, 28, 42, 27, 7, 182, 0, 106, 182, 0, 245, 29, 21, 4, 184, 1, 18, 172]
abbrev dktX8_duelTry_0 : List UInt8 := dkwX8_duelTry_0 ++ []
theorem dksX8_duelTry_0 : cX8_duelTry.data.toList.drop 0 = dktX8_duelTry_0 := by decide +kernel
theorem dX8_duelTry_0 : decode cX8_duelTry 0 = .ok (.aload_n 0, 1) := dk_42 (dk_at dksX8_duelTry_0 0 rfl rfl)
theorem dX8_duelTry_1 : decode cX8_duelTry 1 = .ok (.iload_n 1, 1) := dk_27 (dk_at dksX8_duelTry_0 1 rfl rfl)
theorem dX8_duelTry_2 : decode cX8_duelTry 2 = .ok (.iconst 2, 1) := dk_5 (dk_at dksX8_duelTry_0 2 rfl rfl)
theorem dX8_duelTry_3 : decode cX8_duelTry 3 = .ok (.iload_n 2, 1) := dk_28 (dk_at dksX8_duelTry_0 3 rfl rfl)
theorem dX8_duelTry_4 : decode cX8_duelTry 4 = .ok (.aload_n 0, 1) := dk_42 (dk_at dksX8_duelTry_0 4 rfl rfl)
theorem dX8_duelTry_5 : decode cX8_duelTry 5 = .ok (.iload_n 1, 1) := dk_27 (dk_at dksX8_duelTry_0 5 rfl rfl)
theorem dX8_duelTry_6 : decode cX8_duelTry 6 = .ok (.iconst 4, 1) := dk_7 (dk_at dksX8_duelTry_0 6 rfl rfl)
theorem dX8_duelTry_7 : decode cX8_duelTry 7 = .ok (.invokevirtual 106, 3) := dk_182 0 106 (dk_at dksX8_duelTry_0 7 rfl rfl)
theorem dX8_duelTry_10 : decode cX8_duelTry 10 = .ok (.invokevirtual 245, 3) := dk_182 0 245 (dk_at dksX8_duelTry_0 10 rfl rfl)
theorem dX8_duelTry_13 : decode cX8_duelTry 13 = .ok (.iload_n 3, 1) := dk_29 (dk_at dksX8_duelTry_0 13 rfl rfl)
theorem dX8_duelTry_14 : decode cX8_duelTry 14 = .ok (.iload 4, 2) := dk_21 4 (dk_at dksX8_duelTry_0 14 rfl rfl)
theorem dX8_duelTry_16 : decode cX8_duelTry 16 = .ok (.invokestatic 274, 3) := dk_184 1 18 (dk_at dksX8_duelTry_0 16 rfl rfl)
theorem dX8_duelTry_19 : decode cX8_duelTry 19 = .ok (.ireturn, 1) := dk_172 (dk_at dksX8_duelTry_0 19 rfl rfl)
abbrev cX8_isBetter : ByteArray := prog_21_method_101_code
def yX8_isBetter : MethodName := ⟨RX8, "isBetter", "(ZII)Z"⟩
def dkwX8_isBetter_1 : List UInt8 := [167, 0, 4, 3, 172]
abbrev dktX8_isBetter_1 : List UInt8 := dkwX8_isBetter_1 ++ []
def dkwX8_isBetter_0 : List UInt8 := [26, 153, 0, 16, 27, 28, 164, 0, 7, 4, 167, 0, 17, 3, 167, 0, 13, 27, 28, 162, 0, 7, 4]
abbrev dktX8_isBetter_0 : List UInt8 := dkwX8_isBetter_0 ++ dktX8_isBetter_1
theorem dksX8_isBetter_0 : cX8_isBetter.data.toList.drop 0 = dktX8_isBetter_0 := by decide +kernel
theorem dksX8_isBetter_1 : cX8_isBetter.data.toList.drop 23 = dktX8_isBetter_1 := dk_seg dksX8_isBetter_0 23 rfl rfl
theorem dX8_isBetter_0 : decode cX8_isBetter 0 = .ok (.iload_n 0, 1) := dk_26 (dk_at dksX8_isBetter_0 0 rfl rfl)
theorem dX8_isBetter_1 : decode cX8_isBetter 1 = .ok (.ifCond .eq 16, 3) := dk_153 0 16 (dk_at dksX8_isBetter_0 1 rfl rfl)
theorem dX8_isBetter_4 : decode cX8_isBetter 4 = .ok (.iload_n 1, 1) := dk_27 (dk_at dksX8_isBetter_0 4 rfl rfl)
theorem dX8_isBetter_5 : decode cX8_isBetter 5 = .ok (.iload_n 2, 1) := dk_28 (dk_at dksX8_isBetter_0 5 rfl rfl)
theorem dX8_isBetter_6 : decode cX8_isBetter 6 = .ok (.if_icmp .le 7, 3) := dk_164 0 7 (dk_at dksX8_isBetter_0 6 rfl rfl)
theorem dX8_isBetter_9 : decode cX8_isBetter 9 = .ok (.iconst 1, 1) := dk_4 (dk_at dksX8_isBetter_0 9 rfl rfl)
theorem dX8_isBetter_10 : decode cX8_isBetter 10 = .ok (.goto 17, 3) := dk_167 0 17 (dk_at dksX8_isBetter_0 10 rfl rfl)
theorem dX8_isBetter_13 : decode cX8_isBetter 13 = .ok (.iconst 0, 1) := dk_3 (dk_at dksX8_isBetter_0 13 rfl rfl)
theorem dX8_isBetter_14 : decode cX8_isBetter 14 = .ok (.goto 13, 3) := dk_167 0 13 (dk_at dksX8_isBetter_0 14 rfl rfl)
theorem dX8_isBetter_17 : decode cX8_isBetter 17 = .ok (.iload_n 1, 1) := dk_27 (dk_at dksX8_isBetter_0 17 rfl rfl)
theorem dX8_isBetter_18 : decode cX8_isBetter 18 = .ok (.iload_n 2, 1) := dk_28 (dk_at dksX8_isBetter_0 18 rfl rfl)
theorem dX8_isBetter_19 : decode cX8_isBetter 19 = .ok (.if_icmp .ge 7, 3) := dk_162 0 7 (dk_at dksX8_isBetter_0 19 rfl rfl)
theorem dX8_isBetter_22 : decode cX8_isBetter 22 = .ok (.iconst 1, 1) := dk_4 (dk_at dksX8_isBetter_0 22 rfl rfl)
theorem dX8_isBetter_23 : decode cX8_isBetter 23 = .ok (.goto 4, 3) := dk_167 0 4 (dk_at dksX8_isBetter_1 0 rfl rfl)
theorem dX8_isBetter_26 : decode cX8_isBetter 26 = .ok (.iconst 0, 1) := dk_3 (dk_at dksX8_isBetter_1 3 rfl rfl)
theorem dX8_isBetter_27 : decode cX8_isBetter 27 = .ok (.ireturn, 1) := dk_172 (dk_at dksX8_isBetter_1 4 rfl rfl)
abbrev cX8_duelCell : ByteArray := prog_21_method_103_code
def yX8_duelCell : MethodName := ⟨RX8, "duelCell", "(IIII)I"⟩
def dkwX8_duelCell_0 : List UInt8 := [16, 41, 16, 41, 6, 28, 104, 29, 96, 104, 26, 96, 104, 27, 96, 172]
abbrev dktX8_duelCell_0 : List UInt8 := dkwX8_duelCell_0 ++ []
theorem dksX8_duelCell_0 : cX8_duelCell.data.toList.drop 0 = dktX8_duelCell_0 := by decide +kernel
theorem dX8_duelCell_0 : decode cX8_duelCell 0 = .ok (.bipush 41, 2) := dk_16 41 (dk_at dksX8_duelCell_0 0 rfl rfl)
theorem dX8_duelCell_2 : decode cX8_duelCell 2 = .ok (.bipush 41, 2) := dk_16 41 (dk_at dksX8_duelCell_0 2 rfl rfl)
theorem dX8_duelCell_4 : decode cX8_duelCell 4 = .ok (.iconst 3, 1) := dk_6 (dk_at dksX8_duelCell_0 4 rfl rfl)
theorem dX8_duelCell_5 : decode cX8_duelCell 5 = .ok (.iload_n 2, 1) := dk_28 (dk_at dksX8_duelCell_0 5 rfl rfl)
theorem dX8_duelCell_6 : decode cX8_duelCell 6 = .ok (.imul, 1) := dk_104 (dk_at dksX8_duelCell_0 6 rfl rfl)
theorem dX8_duelCell_7 : decode cX8_duelCell 7 = .ok (.iload_n 3, 1) := dk_29 (dk_at dksX8_duelCell_0 7 rfl rfl)
theorem dX8_duelCell_8 : decode cX8_duelCell 8 = .ok (.iadd, 1) := dk_96 (dk_at dksX8_duelCell_0 8 rfl rfl)
theorem dX8_duelCell_9 : decode cX8_duelCell 9 = .ok (.imul, 1) := dk_104 (dk_at dksX8_duelCell_0 9 rfl rfl)
theorem dX8_duelCell_10 : decode cX8_duelCell 10 = .ok (.iload_n 0, 1) := dk_26 (dk_at dksX8_duelCell_0 10 rfl rfl)
theorem dX8_duelCell_11 : decode cX8_duelCell 11 = .ok (.iadd, 1) := dk_96 (dk_at dksX8_duelCell_0 11 rfl rfl)
theorem dX8_duelCell_12 : decode cX8_duelCell 12 = .ok (.imul, 1) := dk_104 (dk_at dksX8_duelCell_0 12 rfl rfl)
theorem dX8_duelCell_13 : decode cX8_duelCell 13 = .ok (.iload_n 1, 1) := dk_27 (dk_at dksX8_duelCell_0 13 rfl rfl)
theorem dX8_duelCell_14 : decode cX8_duelCell 14 = .ok (.iadd, 1) := dk_96 (dk_at dksX8_duelCell_0 14 rfl rfl)
theorem dX8_duelCell_15 : decode cX8_duelCell 15 = .ok (.ireturn, 1) := dk_172 (dk_at dksX8_duelCell_0 15 rfl rfl)
abbrev cX8_entersDuel : ByteArray := prog_21_method_108_code
def yX8_entersDuel : MethodName := ⟨RX8, "entersDuel", "(II)V"⟩
def dkwX8_entersDuel_3 : List UInt8 := [182, 0, 180, 177]
abbrev dktX8_entersDuel_3 : List UInt8 := dkwX8_entersDuel_3 ++ []
def dkwX8_entersDuel_2 : List UInt8 := [180, 1, 112, 133, 182, 0, 180, 42, 42, 180, 0, 74, 29, 21, 4, 27, 28, 184, 1, 138, 46, 133]
abbrev dktX8_entersDuel_2 : List UInt8 := dkwX8_entersDuel_2 ++ dktX8_entersDuel_3
def dkwX8_entersDuel_1 : List UInt8 := [181, 0, 81, 42, 42, 29, 21, 4, 182, 1, 132, 153, 0, 11, 42, 180, 1, 109, 133, 167, 0, 8, 42]
abbrev dktX8_entersDuel_1 : List UInt8 := dkwX8_entersDuel_1 ++ dktX8_entersDuel_2
def dkwX8_entersDuel_0 : List UInt8 := [42, 42, 180, 1, 109, 3, 182, 0, 106, 62, 42, 42, 180, 1, 112, 3, 182, 0, 106, 54, 4, 42, 3]
abbrev dktX8_entersDuel_0 : List UInt8 := dkwX8_entersDuel_0 ++ dktX8_entersDuel_1
theorem dksX8_entersDuel_0 : cX8_entersDuel.data.toList.drop 0 = dktX8_entersDuel_0 := by decide +kernel
theorem dksX8_entersDuel_1 : cX8_entersDuel.data.toList.drop 23 = dktX8_entersDuel_1 := dk_seg dksX8_entersDuel_0 23 rfl rfl
theorem dksX8_entersDuel_2 : cX8_entersDuel.data.toList.drop 46 = dktX8_entersDuel_2 := dk_seg dksX8_entersDuel_1 23 rfl rfl
theorem dksX8_entersDuel_3 : cX8_entersDuel.data.toList.drop 68 = dktX8_entersDuel_3 := dk_seg dksX8_entersDuel_2 22 rfl rfl
theorem dX8_entersDuel_0 : decode cX8_entersDuel 0 = .ok (.aload_n 0, 1) := dk_42 (dk_at dksX8_entersDuel_0 0 rfl rfl)
theorem dX8_entersDuel_1 : decode cX8_entersDuel 1 = .ok (.aload_n 0, 1) := dk_42 (dk_at dksX8_entersDuel_0 1 rfl rfl)
theorem dX8_entersDuel_2 : decode cX8_entersDuel 2 = .ok (.getfield 365, 3) := dk_180 1 109 (dk_at dksX8_entersDuel_0 2 rfl rfl)
theorem dX8_entersDuel_5 : decode cX8_entersDuel 5 = .ok (.iconst 0, 1) := dk_3 (dk_at dksX8_entersDuel_0 5 rfl rfl)
theorem dX8_entersDuel_6 : decode cX8_entersDuel 6 = .ok (.invokevirtual 106, 3) := dk_182 0 106 (dk_at dksX8_entersDuel_0 6 rfl rfl)
theorem dX8_entersDuel_9 : decode cX8_entersDuel 9 = .ok (.istore_n 3, 1) := dk_62 (dk_at dksX8_entersDuel_0 9 rfl rfl)
theorem dX8_entersDuel_10 : decode cX8_entersDuel 10 = .ok (.aload_n 0, 1) := dk_42 (dk_at dksX8_entersDuel_0 10 rfl rfl)
theorem dX8_entersDuel_11 : decode cX8_entersDuel 11 = .ok (.aload_n 0, 1) := dk_42 (dk_at dksX8_entersDuel_0 11 rfl rfl)
theorem dX8_entersDuel_12 : decode cX8_entersDuel 12 = .ok (.getfield 368, 3) := dk_180 1 112 (dk_at dksX8_entersDuel_0 12 rfl rfl)
theorem dX8_entersDuel_15 : decode cX8_entersDuel 15 = .ok (.iconst 0, 1) := dk_3 (dk_at dksX8_entersDuel_0 15 rfl rfl)
theorem dX8_entersDuel_16 : decode cX8_entersDuel 16 = .ok (.invokevirtual 106, 3) := dk_182 0 106 (dk_at dksX8_entersDuel_0 16 rfl rfl)
theorem dX8_entersDuel_19 : decode cX8_entersDuel 19 = .ok (.istore 4, 2) := dk_54 4 (dk_at dksX8_entersDuel_0 19 rfl rfl)
theorem dX8_entersDuel_21 : decode cX8_entersDuel 21 = .ok (.aload_n 0, 1) := dk_42 (dk_at dksX8_entersDuel_0 21 rfl rfl)
theorem dX8_entersDuel_22 : decode cX8_entersDuel 22 = .ok (.iconst 0, 1) := dk_3 (dk_at dksX8_entersDuel_0 22 rfl rfl)
theorem dX8_entersDuel_23 : decode cX8_entersDuel 23 = .ok (.putfield 81, 3) := dk_181 0 81 (dk_at dksX8_entersDuel_1 0 rfl rfl)
theorem dX8_entersDuel_26 : decode cX8_entersDuel 26 = .ok (.aload_n 0, 1) := dk_42 (dk_at dksX8_entersDuel_1 3 rfl rfl)
theorem dX8_entersDuel_27 : decode cX8_entersDuel 27 = .ok (.aload_n 0, 1) := dk_42 (dk_at dksX8_entersDuel_1 4 rfl rfl)
theorem dX8_entersDuel_28 : decode cX8_entersDuel 28 = .ok (.iload_n 3, 1) := dk_29 (dk_at dksX8_entersDuel_1 5 rfl rfl)
theorem dX8_entersDuel_29 : decode cX8_entersDuel 29 = .ok (.iload 4, 2) := dk_21 4 (dk_at dksX8_entersDuel_1 6 rfl rfl)
theorem dX8_entersDuel_31 : decode cX8_entersDuel 31 = .ok (.invokevirtual 388, 3) := dk_182 1 132 (dk_at dksX8_entersDuel_1 8 rfl rfl)
theorem dX8_entersDuel_34 : decode cX8_entersDuel 34 = .ok (.ifCond .eq 11, 3) := dk_153 0 11 (dk_at dksX8_entersDuel_1 11 rfl rfl)
theorem dX8_entersDuel_37 : decode cX8_entersDuel 37 = .ok (.aload_n 0, 1) := dk_42 (dk_at dksX8_entersDuel_1 14 rfl rfl)
theorem dX8_entersDuel_38 : decode cX8_entersDuel 38 = .ok (.getfield 365, 3) := dk_180 1 109 (dk_at dksX8_entersDuel_1 15 rfl rfl)
theorem dX8_entersDuel_41 : decode cX8_entersDuel 41 = .ok (.i2l, 1) := dk_133 (dk_at dksX8_entersDuel_1 18 rfl rfl)
theorem dX8_entersDuel_42 : decode cX8_entersDuel 42 = .ok (.goto 8, 3) := dk_167 0 8 (dk_at dksX8_entersDuel_1 19 rfl rfl)
theorem dX8_entersDuel_45 : decode cX8_entersDuel 45 = .ok (.aload_n 0, 1) := dk_42 (dk_at dksX8_entersDuel_1 22 rfl rfl)
theorem dX8_entersDuel_46 : decode cX8_entersDuel 46 = .ok (.getfield 368, 3) := dk_180 1 112 (dk_at dksX8_entersDuel_2 0 rfl rfl)
theorem dX8_entersDuel_49 : decode cX8_entersDuel 49 = .ok (.i2l, 1) := dk_133 (dk_at dksX8_entersDuel_2 3 rfl rfl)
theorem dX8_entersDuel_50 : decode cX8_entersDuel 50 = .ok (.invokevirtual 180, 3) := dk_182 0 180 (dk_at dksX8_entersDuel_2 4 rfl rfl)
theorem dX8_entersDuel_53 : decode cX8_entersDuel 53 = .ok (.aload_n 0, 1) := dk_42 (dk_at dksX8_entersDuel_2 7 rfl rfl)
theorem dX8_entersDuel_54 : decode cX8_entersDuel 54 = .ok (.aload_n 0, 1) := dk_42 (dk_at dksX8_entersDuel_2 8 rfl rfl)
theorem dX8_entersDuel_55 : decode cX8_entersDuel 55 = .ok (.getfield 74, 3) := dk_180 0 74 (dk_at dksX8_entersDuel_2 9 rfl rfl)
theorem dX8_entersDuel_58 : decode cX8_entersDuel 58 = .ok (.iload_n 3, 1) := dk_29 (dk_at dksX8_entersDuel_2 12 rfl rfl)
theorem dX8_entersDuel_59 : decode cX8_entersDuel 59 = .ok (.iload 4, 2) := dk_21 4 (dk_at dksX8_entersDuel_2 13 rfl rfl)
theorem dX8_entersDuel_61 : decode cX8_entersDuel 61 = .ok (.iload_n 1, 1) := dk_27 (dk_at dksX8_entersDuel_2 15 rfl rfl)
theorem dX8_entersDuel_62 : decode cX8_entersDuel 62 = .ok (.iload_n 2, 1) := dk_28 (dk_at dksX8_entersDuel_2 16 rfl rfl)
theorem dX8_entersDuel_63 : decode cX8_entersDuel 63 = .ok (.invokestatic 394, 3) := dk_184 1 138 (dk_at dksX8_entersDuel_2 17 rfl rfl)
theorem dX8_entersDuel_66 : decode cX8_entersDuel 66 = .ok (.iaload, 1) := dk_46 (dk_at dksX8_entersDuel_2 20 rfl rfl)
theorem dX8_entersDuel_67 : decode cX8_entersDuel 67 = .ok (.i2l, 1) := dk_133 (dk_at dksX8_entersDuel_2 21 rfl rfl)
theorem dX8_entersDuel_68 : decode cX8_entersDuel 68 = .ok (.invokevirtual 180, 3) := dk_182 0 180 (dk_at dksX8_entersDuel_3 0 rfl rfl)
theorem dX8_entersDuel_71 : decode cX8_entersDuel 71 = .ok (.return_, 1) := dk_177 (dk_at dksX8_entersDuel_3 3 rfl rfl)
abbrev cX8_bluff : ByteArray := prog_21_method_110_code
def yX8_bluff : MethodName := ⟨RX8, "bluff", "(IIII)I"⟩
def dkwX8_bluff_4 : List UInt8 := [182, 1, 150, 21, 6, 172]
abbrev dktX8_bluff_4 : List UInt8 := dkwX8_bluff_4 ++ []
def dkwX8_bluff_3 : List UInt8 := [42, 27, 181, 1, 109, 42, 28, 181, 1, 112, 42, 29, 21, 4, 182, 1, 147, 54, 6, 42, 29, 21, 4]
abbrev dktX8_bluff_3 : List UInt8 := dkwX8_bluff_3 ++ dktX8_bluff_4
def dkwX8_bluff_2 : List UInt8 := [184, 0, 87, 154, 0, 5, 2, 172, 42, 27, 28, 182, 1, 144, 54, 5, 21, 5, 153, 0, 6, 21, 5, 172]
abbrev dktX8_bluff_2 : List UInt8 := dkwX8_bluff_2 ++ dktX8_bluff_3
def dkwX8_bluff_1 : List UInt8 := [159, 0, 28, 29, 133, 9, 20, 0, 91, 184, 0, 87, 153, 0, 16, 21, 4, 133, 9, 20, 0, 91]
abbrev dktX8_bluff_1 : List UInt8 := dkwX8_bluff_1 ++ dktX8_bluff_2
def dkwX8_bluff_0 : List UInt8 := [42, 3, 181, 0, 77, 42, 27, 182, 0, 233, 153, 0, 41, 42, 28, 182, 0, 233, 153, 0, 33, 27, 28]
abbrev dktX8_bluff_0 : List UInt8 := dkwX8_bluff_0 ++ dktX8_bluff_1
theorem dksX8_bluff_0 : cX8_bluff.data.toList.drop 0 = dktX8_bluff_0 := by decide +kernel
theorem dksX8_bluff_1 : cX8_bluff.data.toList.drop 23 = dktX8_bluff_1 := dk_seg dksX8_bluff_0 23 rfl rfl
theorem dksX8_bluff_2 : cX8_bluff.data.toList.drop 45 = dktX8_bluff_2 := dk_seg dksX8_bluff_1 22 rfl rfl
theorem dksX8_bluff_3 : cX8_bluff.data.toList.drop 69 = dktX8_bluff_3 := dk_seg dksX8_bluff_2 24 rfl rfl
theorem dksX8_bluff_4 : cX8_bluff.data.toList.drop 92 = dktX8_bluff_4 := dk_seg dksX8_bluff_3 23 rfl rfl
theorem dX8_bluff_0 : decode cX8_bluff 0 = .ok (.aload_n 0, 1) := dk_42 (dk_at dksX8_bluff_0 0 rfl rfl)
theorem dX8_bluff_1 : decode cX8_bluff 1 = .ok (.iconst 0, 1) := dk_3 (dk_at dksX8_bluff_0 1 rfl rfl)
theorem dX8_bluff_2 : decode cX8_bluff 2 = .ok (.putfield 77, 3) := dk_181 0 77 (dk_at dksX8_bluff_0 2 rfl rfl)
theorem dX8_bluff_5 : decode cX8_bluff 5 = .ok (.aload_n 0, 1) := dk_42 (dk_at dksX8_bluff_0 5 rfl rfl)
theorem dX8_bluff_6 : decode cX8_bluff 6 = .ok (.iload_n 1, 1) := dk_27 (dk_at dksX8_bluff_0 6 rfl rfl)
theorem dX8_bluff_7 : decode cX8_bluff 7 = .ok (.invokevirtual 233, 3) := dk_182 0 233 (dk_at dksX8_bluff_0 7 rfl rfl)
theorem dX8_bluff_10 : decode cX8_bluff 10 = .ok (.ifCond .eq 41, 3) := dk_153 0 41 (dk_at dksX8_bluff_0 10 rfl rfl)
theorem dX8_bluff_13 : decode cX8_bluff 13 = .ok (.aload_n 0, 1) := dk_42 (dk_at dksX8_bluff_0 13 rfl rfl)
theorem dX8_bluff_14 : decode cX8_bluff 14 = .ok (.iload_n 2, 1) := dk_28 (dk_at dksX8_bluff_0 14 rfl rfl)
theorem dX8_bluff_15 : decode cX8_bluff 15 = .ok (.invokevirtual 233, 3) := dk_182 0 233 (dk_at dksX8_bluff_0 15 rfl rfl)
theorem dX8_bluff_18 : decode cX8_bluff 18 = .ok (.ifCond .eq 33, 3) := dk_153 0 33 (dk_at dksX8_bluff_0 18 rfl rfl)
theorem dX8_bluff_21 : decode cX8_bluff 21 = .ok (.iload_n 1, 1) := dk_27 (dk_at dksX8_bluff_0 21 rfl rfl)
theorem dX8_bluff_22 : decode cX8_bluff 22 = .ok (.iload_n 2, 1) := dk_28 (dk_at dksX8_bluff_0 22 rfl rfl)
theorem dX8_bluff_23 : decode cX8_bluff 23 = .ok (.if_icmp .eq 28, 3) := dk_159 0 28 (dk_at dksX8_bluff_1 0 rfl rfl)
theorem dX8_bluff_26 : decode cX8_bluff 26 = .ok (.iload_n 3, 1) := dk_29 (dk_at dksX8_bluff_1 3 rfl rfl)
theorem dX8_bluff_27 : decode cX8_bluff 27 = .ok (.i2l, 1) := dk_133 (dk_at dksX8_bluff_1 4 rfl rfl)
theorem dX8_bluff_28 : decode cX8_bluff 28 = .ok (.lconst 0, 1) := dk_9 (dk_at dksX8_bluff_1 5 rfl rfl)
theorem dX8_bluff_29 : decode cX8_bluff 29 = .ok (.ldc2_w 91, 3) := dk_20 0 91 (dk_at dksX8_bluff_1 6 rfl rfl)
theorem dX8_bluff_32 : decode cX8_bluff 32 = .ok (.invokestatic 87, 3) := dk_184 0 87 (dk_at dksX8_bluff_1 9 rfl rfl)
theorem dX8_bluff_35 : decode cX8_bluff 35 = .ok (.ifCond .eq 16, 3) := dk_153 0 16 (dk_at dksX8_bluff_1 12 rfl rfl)
theorem dX8_bluff_38 : decode cX8_bluff 38 = .ok (.iload 4, 2) := dk_21 4 (dk_at dksX8_bluff_1 15 rfl rfl)
theorem dX8_bluff_40 : decode cX8_bluff 40 = .ok (.i2l, 1) := dk_133 (dk_at dksX8_bluff_1 17 rfl rfl)
theorem dX8_bluff_41 : decode cX8_bluff 41 = .ok (.lconst 0, 1) := dk_9 (dk_at dksX8_bluff_1 18 rfl rfl)
theorem dX8_bluff_42 : decode cX8_bluff 42 = .ok (.ldc2_w 91, 3) := dk_20 0 91 (dk_at dksX8_bluff_1 19 rfl rfl)
theorem dX8_bluff_45 : decode cX8_bluff 45 = .ok (.invokestatic 87, 3) := dk_184 0 87 (dk_at dksX8_bluff_2 0 rfl rfl)
theorem dX8_bluff_48 : decode cX8_bluff 48 = .ok (.ifCond .ne 5, 3) := dk_154 0 5 (dk_at dksX8_bluff_2 3 rfl rfl)
theorem dX8_bluff_51 : decode cX8_bluff 51 = .ok (.iconst (-1), 1) := dk_2 (dk_at dksX8_bluff_2 6 rfl rfl)
theorem dX8_bluff_52 : decode cX8_bluff 52 = .ok (.ireturn, 1) := dk_172 (dk_at dksX8_bluff_2 7 rfl rfl)
theorem dX8_bluff_53 : decode cX8_bluff 53 = .ok (.aload_n 0, 1) := dk_42 (dk_at dksX8_bluff_2 8 rfl rfl)
theorem dX8_bluff_54 : decode cX8_bluff 54 = .ok (.iload_n 1, 1) := dk_27 (dk_at dksX8_bluff_2 9 rfl rfl)
theorem dX8_bluff_55 : decode cX8_bluff 55 = .ok (.iload_n 2, 1) := dk_28 (dk_at dksX8_bluff_2 10 rfl rfl)
theorem dX8_bluff_56 : decode cX8_bluff 56 = .ok (.invokevirtual 400, 3) := dk_182 1 144 (dk_at dksX8_bluff_2 11 rfl rfl)
theorem dX8_bluff_59 : decode cX8_bluff 59 = .ok (.istore 5, 2) := dk_54 5 (dk_at dksX8_bluff_2 14 rfl rfl)
theorem dX8_bluff_61 : decode cX8_bluff 61 = .ok (.iload 5, 2) := dk_21 5 (dk_at dksX8_bluff_2 16 rfl rfl)
theorem dX8_bluff_63 : decode cX8_bluff 63 = .ok (.ifCond .eq 6, 3) := dk_153 0 6 (dk_at dksX8_bluff_2 18 rfl rfl)
theorem dX8_bluff_66 : decode cX8_bluff 66 = .ok (.iload 5, 2) := dk_21 5 (dk_at dksX8_bluff_2 21 rfl rfl)
theorem dX8_bluff_68 : decode cX8_bluff 68 = .ok (.ireturn, 1) := dk_172 (dk_at dksX8_bluff_2 23 rfl rfl)
theorem dX8_bluff_69 : decode cX8_bluff 69 = .ok (.aload_n 0, 1) := dk_42 (dk_at dksX8_bluff_3 0 rfl rfl)
theorem dX8_bluff_70 : decode cX8_bluff 70 = .ok (.iload_n 1, 1) := dk_27 (dk_at dksX8_bluff_3 1 rfl rfl)
theorem dX8_bluff_71 : decode cX8_bluff 71 = .ok (.putfield 365, 3) := dk_181 1 109 (dk_at dksX8_bluff_3 2 rfl rfl)
theorem dX8_bluff_74 : decode cX8_bluff 74 = .ok (.aload_n 0, 1) := dk_42 (dk_at dksX8_bluff_3 5 rfl rfl)
theorem dX8_bluff_75 : decode cX8_bluff 75 = .ok (.iload_n 2, 1) := dk_28 (dk_at dksX8_bluff_3 6 rfl rfl)
theorem dX8_bluff_76 : decode cX8_bluff 76 = .ok (.putfield 368, 3) := dk_181 1 112 (dk_at dksX8_bluff_3 7 rfl rfl)
theorem dX8_bluff_79 : decode cX8_bluff 79 = .ok (.aload_n 0, 1) := dk_42 (dk_at dksX8_bluff_3 10 rfl rfl)
theorem dX8_bluff_80 : decode cX8_bluff 80 = .ok (.iload_n 3, 1) := dk_29 (dk_at dksX8_bluff_3 11 rfl rfl)
theorem dX8_bluff_81 : decode cX8_bluff 81 = .ok (.iload 4, 2) := dk_21 4 (dk_at dksX8_bluff_3 12 rfl rfl)
theorem dX8_bluff_83 : decode cX8_bluff 83 = .ok (.invokevirtual 403, 3) := dk_182 1 147 (dk_at dksX8_bluff_3 14 rfl rfl)
theorem dX8_bluff_86 : decode cX8_bluff 86 = .ok (.istore 6, 2) := dk_54 6 (dk_at dksX8_bluff_3 17 rfl rfl)
theorem dX8_bluff_88 : decode cX8_bluff 88 = .ok (.aload_n 0, 1) := dk_42 (dk_at dksX8_bluff_3 19 rfl rfl)
theorem dX8_bluff_89 : decode cX8_bluff 89 = .ok (.iload_n 3, 1) := dk_29 (dk_at dksX8_bluff_3 20 rfl rfl)
theorem dX8_bluff_90 : decode cX8_bluff 90 = .ok (.iload 4, 2) := dk_21 4 (dk_at dksX8_bluff_3 21 rfl rfl)
theorem dX8_bluff_92 : decode cX8_bluff 92 = .ok (.invokevirtual 406, 3) := dk_182 1 150 (dk_at dksX8_bluff_4 0 rfl rfl)
theorem dX8_bluff_95 : decode cX8_bluff 95 = .ok (.iload 6, 2) := dk_21 6 (dk_at dksX8_bluff_4 3 rfl rfl)
theorem dX8_bluff_97 : decode cX8_bluff 97 = .ok (.ireturn, 1) := dk_172 (dk_at dksX8_bluff_4 5 rfl rfl)
abbrev cX8_plays : ByteArray := prog_21_method_113_code
def yX8_plays : MethodName := ⟨RX8, "plays", "(I)I"⟩
def dkwX8_plays_1 : List UInt8 := [182, 1, 160, 61, 42, 182, 1, 5, 28, 172]
abbrev dktX8_plays_1 : List UInt8 := dkwX8_plays_1 ++ []
def dkwX8_plays_0 : List UInt8 := [42, 3, 181, 0, 77, 42, 182, 0, 147, 2, 160, 0, 6, 16, 254, 172, 42, 27, 181, 1, 153, 42]
abbrev dktX8_plays_0 : List UInt8 := dkwX8_plays_0 ++ dktX8_plays_1
theorem dksX8_plays_0 : cX8_plays.data.toList.drop 0 = dktX8_plays_0 := by decide +kernel
theorem dksX8_plays_1 : cX8_plays.data.toList.drop 22 = dktX8_plays_1 := dk_seg dksX8_plays_0 22 rfl rfl
theorem dX8_plays_0 : decode cX8_plays 0 = .ok (.aload_n 0, 1) := dk_42 (dk_at dksX8_plays_0 0 rfl rfl)
theorem dX8_plays_1 : decode cX8_plays 1 = .ok (.iconst 0, 1) := dk_3 (dk_at dksX8_plays_0 1 rfl rfl)
theorem dX8_plays_2 : decode cX8_plays 2 = .ok (.putfield 77, 3) := dk_181 0 77 (dk_at dksX8_plays_0 2 rfl rfl)
theorem dX8_plays_5 : decode cX8_plays 5 = .ok (.aload_n 0, 1) := dk_42 (dk_at dksX8_plays_0 5 rfl rfl)
theorem dX8_plays_6 : decode cX8_plays 6 = .ok (.invokevirtual 147, 3) := dk_182 0 147 (dk_at dksX8_plays_0 6 rfl rfl)
theorem dX8_plays_9 : decode cX8_plays 9 = .ok (.iconst (-1), 1) := dk_2 (dk_at dksX8_plays_0 9 rfl rfl)
theorem dX8_plays_10 : decode cX8_plays 10 = .ok (.if_icmp .ne 6, 3) := dk_160 0 6 (dk_at dksX8_plays_0 10 rfl rfl)
theorem dX8_plays_13 : decode cX8_plays 13 = .ok (.bipush (-2), 2) := dk_16 254 (dk_at dksX8_plays_0 13 rfl rfl)
theorem dX8_plays_15 : decode cX8_plays 15 = .ok (.ireturn, 1) := dk_172 (dk_at dksX8_plays_0 15 rfl rfl)
theorem dX8_plays_16 : decode cX8_plays 16 = .ok (.aload_n 0, 1) := dk_42 (dk_at dksX8_plays_0 16 rfl rfl)
theorem dX8_plays_17 : decode cX8_plays 17 = .ok (.iload_n 1, 1) := dk_27 (dk_at dksX8_plays_0 17 rfl rfl)
theorem dX8_plays_18 : decode cX8_plays 18 = .ok (.putfield 409, 3) := dk_181 1 153 (dk_at dksX8_plays_0 18 rfl rfl)
theorem dX8_plays_21 : decode cX8_plays 21 = .ok (.aload_n 0, 1) := dk_42 (dk_at dksX8_plays_0 21 rfl rfl)
theorem dX8_plays_22 : decode cX8_plays 22 = .ok (.invokevirtual 416, 3) := dk_182 1 160 (dk_at dksX8_plays_1 0 rfl rfl)
theorem dX8_plays_25 : decode cX8_plays 25 = .ok (.istore_n 2, 1) := dk_61 (dk_at dksX8_plays_1 3 rfl rfl)
theorem dX8_plays_26 : decode cX8_plays 26 = .ok (.aload_n 0, 1) := dk_42 (dk_at dksX8_plays_1 4 rfl rfl)
theorem dX8_plays_27 : decode cX8_plays 27 = .ok (.invokevirtual 261, 3) := dk_182 1 5 (dk_at dksX8_plays_1 5 rfl rfl)
theorem dX8_plays_30 : decode cX8_plays 30 = .ok (.iload_n 2, 1) := dk_28 (dk_at dksX8_plays_1 8 rfl rfl)
theorem dX8_plays_31 : decode cX8_plays 31 = .ok (.ireturn, 1) := dk_172 (dk_at dksX8_plays_1 9 rfl rfl)
abbrev cX8_playsOn : ByteArray := prog_21_method_112_code
def yX8_playsOn : MethodName := ⟨RX8, "playsOn", "()I"⟩
def dkwX8_playsOn_2 : List UInt8 := [167, 0, 4, 3, 182, 0, 255, 132, 1, 1, 42, 182, 0, 147, 61, 167, 255, 200, 27, 172]
abbrev dktX8_playsOn_2 : List UInt8 := dkwX8_playsOn_2 ++ []
def dkwX8_playsOn_1 : List UInt8 := [180, 0, 32, 3, 46, 42, 28, 3, 182, 0, 106, 42, 28, 7, 182, 0, 106, 182, 0, 245, 162, 0, 7, 4]
abbrev dktX8_playsOn_1 : List UInt8 := dkwX8_playsOn_1 ++ dktX8_playsOn_2
def dkwX8_playsOn_0 : List UInt8 := [3, 60, 42, 182, 0, 147, 61, 28, 2, 159, 0, 57, 42, 28, 42, 17, 3, 232, 182, 1, 157, 42, 28, 42]
abbrev dktX8_playsOn_0 : List UInt8 := dkwX8_playsOn_0 ++ dktX8_playsOn_1
theorem dksX8_playsOn_0 : cX8_playsOn.data.toList.drop 0 = dktX8_playsOn_0 := by decide +kernel
theorem dksX8_playsOn_1 : cX8_playsOn.data.toList.drop 24 = dktX8_playsOn_1 := dk_seg dksX8_playsOn_0 24 rfl rfl
theorem dksX8_playsOn_2 : cX8_playsOn.data.toList.drop 48 = dktX8_playsOn_2 := dk_seg dksX8_playsOn_1 24 rfl rfl
theorem dX8_playsOn_0 : decode cX8_playsOn 0 = .ok (.iconst 0, 1) := dk_3 (dk_at dksX8_playsOn_0 0 rfl rfl)
theorem dX8_playsOn_1 : decode cX8_playsOn 1 = .ok (.istore_n 1, 1) := dk_60 (dk_at dksX8_playsOn_0 1 rfl rfl)
theorem dX8_playsOn_2 : decode cX8_playsOn 2 = .ok (.aload_n 0, 1) := dk_42 (dk_at dksX8_playsOn_0 2 rfl rfl)
theorem dX8_playsOn_3 : decode cX8_playsOn 3 = .ok (.invokevirtual 147, 3) := dk_182 0 147 (dk_at dksX8_playsOn_0 3 rfl rfl)
theorem dX8_playsOn_6 : decode cX8_playsOn 6 = .ok (.istore_n 2, 1) := dk_61 (dk_at dksX8_playsOn_0 6 rfl rfl)
theorem dX8_playsOn_7 : decode cX8_playsOn 7 = .ok (.iload_n 2, 1) := dk_28 (dk_at dksX8_playsOn_0 7 rfl rfl)
theorem dX8_playsOn_8 : decode cX8_playsOn 8 = .ok (.iconst (-1), 1) := dk_2 (dk_at dksX8_playsOn_0 8 rfl rfl)
theorem dX8_playsOn_9 : decode cX8_playsOn 9 = .ok (.if_icmp .eq 57, 3) := dk_159 0 57 (dk_at dksX8_playsOn_0 9 rfl rfl)
theorem dX8_playsOn_12 : decode cX8_playsOn 12 = .ok (.aload_n 0, 1) := dk_42 (dk_at dksX8_playsOn_0 12 rfl rfl)
theorem dX8_playsOn_13 : decode cX8_playsOn 13 = .ok (.iload_n 2, 1) := dk_28 (dk_at dksX8_playsOn_0 13 rfl rfl)
theorem dX8_playsOn_14 : decode cX8_playsOn 14 = .ok (.aload_n 0, 1) := dk_42 (dk_at dksX8_playsOn_0 14 rfl rfl)
theorem dX8_playsOn_15 : decode cX8_playsOn 15 = .ok (.sipush 1000, 3) := dk_17 3 232 (dk_at dksX8_playsOn_0 15 rfl rfl)
theorem dX8_playsOn_18 : decode cX8_playsOn 18 = .ok (.invokevirtual 413, 3) := dk_182 1 157 (dk_at dksX8_playsOn_0 18 rfl rfl)
theorem dX8_playsOn_21 : decode cX8_playsOn 21 = .ok (.aload_n 0, 1) := dk_42 (dk_at dksX8_playsOn_0 21 rfl rfl)
theorem dX8_playsOn_22 : decode cX8_playsOn 22 = .ok (.iload_n 2, 1) := dk_28 (dk_at dksX8_playsOn_0 22 rfl rfl)
theorem dX8_playsOn_23 : decode cX8_playsOn 23 = .ok (.aload_n 0, 1) := dk_42 (dk_at dksX8_playsOn_0 23 rfl rfl)
theorem dX8_playsOn_24 : decode cX8_playsOn 24 = .ok (.getfield 32, 3) := dk_180 0 32 (dk_at dksX8_playsOn_1 0 rfl rfl)
theorem dX8_playsOn_27 : decode cX8_playsOn 27 = .ok (.iconst 0, 1) := dk_3 (dk_at dksX8_playsOn_1 3 rfl rfl)
theorem dX8_playsOn_28 : decode cX8_playsOn 28 = .ok (.iaload, 1) := dk_46 (dk_at dksX8_playsOn_1 4 rfl rfl)
theorem dX8_playsOn_29 : decode cX8_playsOn 29 = .ok (.aload_n 0, 1) := dk_42 (dk_at dksX8_playsOn_1 5 rfl rfl)
theorem dX8_playsOn_30 : decode cX8_playsOn 30 = .ok (.iload_n 2, 1) := dk_28 (dk_at dksX8_playsOn_1 6 rfl rfl)
theorem dX8_playsOn_31 : decode cX8_playsOn 31 = .ok (.iconst 0, 1) := dk_3 (dk_at dksX8_playsOn_1 7 rfl rfl)
theorem dX8_playsOn_32 : decode cX8_playsOn 32 = .ok (.invokevirtual 106, 3) := dk_182 0 106 (dk_at dksX8_playsOn_1 8 rfl rfl)
theorem dX8_playsOn_35 : decode cX8_playsOn 35 = .ok (.aload_n 0, 1) := dk_42 (dk_at dksX8_playsOn_1 11 rfl rfl)
theorem dX8_playsOn_36 : decode cX8_playsOn 36 = .ok (.iload_n 2, 1) := dk_28 (dk_at dksX8_playsOn_1 12 rfl rfl)
theorem dX8_playsOn_37 : decode cX8_playsOn 37 = .ok (.iconst 4, 1) := dk_7 (dk_at dksX8_playsOn_1 13 rfl rfl)
theorem dX8_playsOn_38 : decode cX8_playsOn 38 = .ok (.invokevirtual 106, 3) := dk_182 0 106 (dk_at dksX8_playsOn_1 14 rfl rfl)
theorem dX8_playsOn_41 : decode cX8_playsOn 41 = .ok (.invokevirtual 245, 3) := dk_182 0 245 (dk_at dksX8_playsOn_1 17 rfl rfl)
theorem dX8_playsOn_44 : decode cX8_playsOn 44 = .ok (.if_icmp .ge 7, 3) := dk_162 0 7 (dk_at dksX8_playsOn_1 20 rfl rfl)
theorem dX8_playsOn_47 : decode cX8_playsOn 47 = .ok (.iconst 1, 1) := dk_4 (dk_at dksX8_playsOn_1 23 rfl rfl)
theorem dX8_playsOn_48 : decode cX8_playsOn 48 = .ok (.goto 4, 3) := dk_167 0 4 (dk_at dksX8_playsOn_2 0 rfl rfl)
theorem dX8_playsOn_51 : decode cX8_playsOn 51 = .ok (.iconst 0, 1) := dk_3 (dk_at dksX8_playsOn_2 3 rfl rfl)
theorem dX8_playsOn_52 : decode cX8_playsOn 52 = .ok (.invokevirtual 255, 3) := dk_182 0 255 (dk_at dksX8_playsOn_2 4 rfl rfl)
theorem dX8_playsOn_55 : decode cX8_playsOn 55 = .ok (.iinc 1 1, 3) := dk_132 1 1 (dk_at dksX8_playsOn_2 7 rfl rfl)
theorem dX8_playsOn_58 : decode cX8_playsOn 58 = .ok (.aload_n 0, 1) := dk_42 (dk_at dksX8_playsOn_2 10 rfl rfl)
theorem dX8_playsOn_59 : decode cX8_playsOn 59 = .ok (.invokevirtual 147, 3) := dk_182 0 147 (dk_at dksX8_playsOn_2 11 rfl rfl)
theorem dX8_playsOn_62 : decode cX8_playsOn 62 = .ok (.istore_n 2, 1) := dk_61 (dk_at dksX8_playsOn_2 14 rfl rfl)
theorem dX8_playsOn_63 : decode cX8_playsOn 63 = .ok (.goto (-56), 3) := dk_167 255 200 (dk_at dksX8_playsOn_2 15 rfl rfl)
theorem dX8_playsOn_66 : decode cX8_playsOn 66 = .ok (.iload_n 1, 1) := dk_27 (dk_at dksX8_playsOn_2 18 rfl rfl)
theorem dX8_playsOn_67 : decode cX8_playsOn 67 = .ok (.ireturn, 1) := dk_172 (dk_at dksX8_playsOn_2 19 rfl rfl)
abbrev cX8_draw : ByteArray := prog_21_method_111_code
def yX8_draw : MethodName := ⟨RX8, "draw", "(I)I"⟩
def dkwX8_draw_1 : List UInt8 := [112, 172]
abbrev dktX8_draw_1 : List UInt8 := dkwX8_draw_1 ++ []
def dkwX8_draw_0 : List UInt8 := [42, 42, 180, 1, 153, 19, 1, 156, 104, 17, 48, 57, 96, 181, 1, 153, 42, 180, 1, 153, 16, 16, 124, 27]
abbrev dktX8_draw_0 : List UInt8 := dkwX8_draw_0 ++ dktX8_draw_1
theorem dksX8_draw_0 : cX8_draw.data.toList.drop 0 = dktX8_draw_0 := by decide +kernel
theorem dksX8_draw_1 : cX8_draw.data.toList.drop 24 = dktX8_draw_1 := dk_seg dksX8_draw_0 24 rfl rfl
theorem dX8_draw_0 : decode cX8_draw 0 = .ok (.aload_n 0, 1) := dk_42 (dk_at dksX8_draw_0 0 rfl rfl)
theorem dX8_draw_1 : decode cX8_draw 1 = .ok (.aload_n 0, 1) := dk_42 (dk_at dksX8_draw_0 1 rfl rfl)
theorem dX8_draw_2 : decode cX8_draw 2 = .ok (.getfield 409, 3) := dk_180 1 153 (dk_at dksX8_draw_0 2 rfl rfl)
theorem dX8_draw_5 : decode cX8_draw 5 = .ok (.ldc_w 412, 3) := dk_19 1 156 (dk_at dksX8_draw_0 5 rfl rfl)
theorem dX8_draw_8 : decode cX8_draw 8 = .ok (.imul, 1) := dk_104 (dk_at dksX8_draw_0 8 rfl rfl)
theorem dX8_draw_9 : decode cX8_draw 9 = .ok (.sipush 12345, 3) := dk_17 48 57 (dk_at dksX8_draw_0 9 rfl rfl)
theorem dX8_draw_12 : decode cX8_draw 12 = .ok (.iadd, 1) := dk_96 (dk_at dksX8_draw_0 12 rfl rfl)
theorem dX8_draw_13 : decode cX8_draw 13 = .ok (.putfield 409, 3) := dk_181 1 153 (dk_at dksX8_draw_0 13 rfl rfl)
theorem dX8_draw_16 : decode cX8_draw 16 = .ok (.aload_n 0, 1) := dk_42 (dk_at dksX8_draw_0 16 rfl rfl)
theorem dX8_draw_17 : decode cX8_draw 17 = .ok (.getfield 409, 3) := dk_180 1 153 (dk_at dksX8_draw_0 17 rfl rfl)
theorem dX8_draw_20 : decode cX8_draw 20 = .ok (.bipush 16, 2) := dk_16 16 (dk_at dksX8_draw_0 20 rfl rfl)
theorem dX8_draw_22 : decode cX8_draw 22 = .ok (.iushr, 1) := dk_124 (dk_at dksX8_draw_0 22 rfl rfl)
theorem dX8_draw_23 : decode cX8_draw 23 = .ok (.iload_n 1, 1) := dk_27 (dk_at dksX8_draw_0 23 rfl rfl)
theorem dX8_draw_24 : decode cX8_draw 24 = .ok (.irem, 1) := dk_112 (dk_at dksX8_draw_1 0 rfl rfl)
theorem dX8_draw_25 : decode cX8_draw 25 = .ok (.ireturn, 1) := dk_172 (dk_at dksX8_draw_1 1 rfl rfl)
abbrev cX8_often : ByteArray := prog_21_method_114_code
def yX8_often : MethodName := ⟨RX8, "often", "(III)I"⟩
def dkwX8_often_9 : List UInt8 := [21, 7, 133, 182, 0, 180, 42, 21, 8, 133, 182, 0, 180, 21, 6, 172]
abbrev dktX8_often_9 : List UInt8 := dkwX8_often_9 ++ []
def dkwX8_often_8 : List UInt8 := [21, 4, 181, 0, 131, 42, 21, 5, 181, 0, 134, 132, 9, 1, 167, 255, 145, 42, 3, 181, 0, 81, 42]
abbrev dktX8_often_8 : List UInt8 := dkwX8_often_8 ++ dktX8_often_9
def dkwX8_often_7 : List UInt8 := [162, 0, 23, 42, 180, 0, 32, 21, 10, 42, 180, 0, 35, 21, 10, 46, 79, 132, 10, 1, 167, 255, 229, 42]
abbrev dktX8_often_7 : List UInt8 := dkwX8_often_7 ++ dktX8_often_8
def dkwX8_often_6 : List UInt8 := [96, 54, 7, 21, 8, 42, 27, 182, 0, 167, 96, 54, 8, 3, 54, 10, 21, 10, 42, 180, 0, 32, 190]
abbrev dktX8_often_6 : List UInt8 := dkwX8_often_6 ++ dktX8_often_7
def dkwX8_often_5 : List UInt8 := [154, 0, 7, 4, 167, 0, 4, 3, 184, 0, 160, 96, 54, 6, 21, 7, 42, 27, 182, 0, 121, 184, 0, 160]
abbrev dktX8_often_5 : List UInt8 := dkwX8_often_5 ++ dktX8_often_6
def dkwX8_often_4 : List UInt8 := [162, 0, 111, 42, 182, 1, 160, 87, 21, 6, 42, 27, 182, 0, 121, 154, 0, 15, 42, 27, 182, 0, 177]
abbrev dktX8_often_4 : List UInt8 := dkwX8_often_4 ++ dktX8_often_5
def dkwX8_often_3 : List UInt8 := [167, 255, 229, 42, 29, 181, 1, 153, 3, 54, 6, 3, 54, 7, 3, 54, 8, 3, 54, 9, 21, 9, 28]
abbrev dktX8_often_3 : List UInt8 := dkwX8_often_3 ++ dktX8_often_4
def dkwX8_often_2 : List UInt8 := [180, 0, 32, 190, 162, 0, 23, 42, 180, 0, 35, 21, 6, 42, 180, 0, 32, 21, 6, 46, 79, 132, 6, 1]
abbrev dktX8_often_2 : List UInt8 := dkwX8_often_2 ++ dktX8_often_3
def dkwX8_often_1 : List UInt8 := [154, 0, 5, 2, 172, 42, 180, 0, 131, 54, 4, 42, 180, 0, 134, 54, 5, 3, 54, 6, 21, 6, 42]
abbrev dktX8_often_1 : List UInt8 := dkwX8_often_1 ++ dktX8_often_2
def dkwX8_often_0 : List UInt8 := [42, 3, 181, 0, 77, 42, 27, 182, 0, 233, 153, 0, 15, 28, 133, 10, 20, 1, 163, 184, 0, 87]
abbrev dktX8_often_0 : List UInt8 := dkwX8_often_0 ++ dktX8_often_1
theorem dksX8_often_0 : cX8_often.data.toList.drop 0 = dktX8_often_0 := by decide +kernel
theorem dksX8_often_1 : cX8_often.data.toList.drop 22 = dktX8_often_1 := dk_seg dksX8_often_0 22 rfl rfl
theorem dksX8_often_2 : cX8_often.data.toList.drop 45 = dktX8_often_2 := dk_seg dksX8_often_1 23 rfl rfl
theorem dksX8_often_3 : cX8_often.data.toList.drop 69 = dktX8_often_3 := dk_seg dksX8_often_2 24 rfl rfl
theorem dksX8_often_4 : cX8_often.data.toList.drop 92 = dktX8_often_4 := dk_seg dksX8_often_3 23 rfl rfl
theorem dksX8_often_5 : cX8_often.data.toList.drop 115 = dktX8_often_5 := dk_seg dksX8_often_4 23 rfl rfl
theorem dksX8_often_6 : cX8_often.data.toList.drop 139 = dktX8_often_6 := dk_seg dksX8_often_5 24 rfl rfl
theorem dksX8_often_7 : cX8_often.data.toList.drop 162 = dktX8_often_7 := dk_seg dksX8_often_6 23 rfl rfl
theorem dksX8_often_8 : cX8_often.data.toList.drop 186 = dktX8_often_8 := dk_seg dksX8_often_7 24 rfl rfl
theorem dksX8_often_9 : cX8_often.data.toList.drop 209 = dktX8_often_9 := dk_seg dksX8_often_8 23 rfl rfl
theorem dX8_often_0 : decode cX8_often 0 = .ok (.aload_n 0, 1) := dk_42 (dk_at dksX8_often_0 0 rfl rfl)
theorem dX8_often_1 : decode cX8_often 1 = .ok (.iconst 0, 1) := dk_3 (dk_at dksX8_often_0 1 rfl rfl)
theorem dX8_often_2 : decode cX8_often 2 = .ok (.putfield 77, 3) := dk_181 0 77 (dk_at dksX8_often_0 2 rfl rfl)
theorem dX8_often_5 : decode cX8_often 5 = .ok (.aload_n 0, 1) := dk_42 (dk_at dksX8_often_0 5 rfl rfl)
theorem dX8_often_6 : decode cX8_often 6 = .ok (.iload_n 1, 1) := dk_27 (dk_at dksX8_often_0 6 rfl rfl)
theorem dX8_often_7 : decode cX8_often 7 = .ok (.invokevirtual 233, 3) := dk_182 0 233 (dk_at dksX8_often_0 7 rfl rfl)
theorem dX8_often_10 : decode cX8_often 10 = .ok (.ifCond .eq 15, 3) := dk_153 0 15 (dk_at dksX8_often_0 10 rfl rfl)
theorem dX8_often_13 : decode cX8_often 13 = .ok (.iload_n 2, 1) := dk_28 (dk_at dksX8_often_0 13 rfl rfl)
theorem dX8_often_14 : decode cX8_often 14 = .ok (.i2l, 1) := dk_133 (dk_at dksX8_often_0 14 rfl rfl)
theorem dX8_often_15 : decode cX8_often 15 = .ok (.lconst 1, 1) := dk_10 (dk_at dksX8_often_0 15 rfl rfl)
theorem dX8_often_16 : decode cX8_often 16 = .ok (.ldc2_w 419, 3) := dk_20 1 163 (dk_at dksX8_often_0 16 rfl rfl)
theorem dX8_often_19 : decode cX8_often 19 = .ok (.invokestatic 87, 3) := dk_184 0 87 (dk_at dksX8_often_0 19 rfl rfl)
theorem dX8_often_22 : decode cX8_often 22 = .ok (.ifCond .ne 5, 3) := dk_154 0 5 (dk_at dksX8_often_1 0 rfl rfl)
theorem dX8_often_25 : decode cX8_often 25 = .ok (.iconst (-1), 1) := dk_2 (dk_at dksX8_often_1 3 rfl rfl)
theorem dX8_often_26 : decode cX8_often 26 = .ok (.ireturn, 1) := dk_172 (dk_at dksX8_often_1 4 rfl rfl)
theorem dX8_often_27 : decode cX8_often 27 = .ok (.aload_n 0, 1) := dk_42 (dk_at dksX8_often_1 5 rfl rfl)
theorem dX8_often_28 : decode cX8_often 28 = .ok (.getfield 131, 3) := dk_180 0 131 (dk_at dksX8_often_1 6 rfl rfl)
theorem dX8_often_31 : decode cX8_often 31 = .ok (.istore 4, 2) := dk_54 4 (dk_at dksX8_often_1 9 rfl rfl)
theorem dX8_often_33 : decode cX8_often 33 = .ok (.aload_n 0, 1) := dk_42 (dk_at dksX8_often_1 11 rfl rfl)
theorem dX8_often_34 : decode cX8_often 34 = .ok (.getfield 134, 3) := dk_180 0 134 (dk_at dksX8_often_1 12 rfl rfl)
theorem dX8_often_37 : decode cX8_often 37 = .ok (.istore 5, 2) := dk_54 5 (dk_at dksX8_often_1 15 rfl rfl)
theorem dX8_often_39 : decode cX8_often 39 = .ok (.iconst 0, 1) := dk_3 (dk_at dksX8_often_1 17 rfl rfl)
theorem dX8_often_40 : decode cX8_often 40 = .ok (.istore 6, 2) := dk_54 6 (dk_at dksX8_often_1 18 rfl rfl)
theorem dX8_often_42 : decode cX8_often 42 = .ok (.iload 6, 2) := dk_21 6 (dk_at dksX8_often_1 20 rfl rfl)
theorem dX8_often_44 : decode cX8_often 44 = .ok (.aload_n 0, 1) := dk_42 (dk_at dksX8_often_1 22 rfl rfl)
theorem dX8_often_45 : decode cX8_often 45 = .ok (.getfield 32, 3) := dk_180 0 32 (dk_at dksX8_often_2 0 rfl rfl)
theorem dX8_often_48 : decode cX8_often 48 = .ok (.arraylength, 1) := dk_190 (dk_at dksX8_often_2 3 rfl rfl)
theorem dX8_often_49 : decode cX8_often 49 = .ok (.if_icmp .ge 23, 3) := dk_162 0 23 (dk_at dksX8_often_2 4 rfl rfl)
theorem dX8_often_52 : decode cX8_often 52 = .ok (.aload_n 0, 1) := dk_42 (dk_at dksX8_often_2 7 rfl rfl)
theorem dX8_often_53 : decode cX8_often 53 = .ok (.getfield 35, 3) := dk_180 0 35 (dk_at dksX8_often_2 8 rfl rfl)
theorem dX8_often_56 : decode cX8_often 56 = .ok (.iload 6, 2) := dk_21 6 (dk_at dksX8_often_2 11 rfl rfl)
theorem dX8_often_58 : decode cX8_often 58 = .ok (.aload_n 0, 1) := dk_42 (dk_at dksX8_often_2 13 rfl rfl)
theorem dX8_often_59 : decode cX8_often 59 = .ok (.getfield 32, 3) := dk_180 0 32 (dk_at dksX8_often_2 14 rfl rfl)
theorem dX8_often_62 : decode cX8_often 62 = .ok (.iload 6, 2) := dk_21 6 (dk_at dksX8_often_2 17 rfl rfl)
theorem dX8_often_64 : decode cX8_often 64 = .ok (.iaload, 1) := dk_46 (dk_at dksX8_often_2 19 rfl rfl)
theorem dX8_often_65 : decode cX8_often 65 = .ok (.iastore, 1) := dk_79 (dk_at dksX8_often_2 20 rfl rfl)
theorem dX8_often_66 : decode cX8_often 66 = .ok (.iinc 6 1, 3) := dk_132 6 1 (dk_at dksX8_often_2 21 rfl rfl)
theorem dX8_often_69 : decode cX8_often 69 = .ok (.goto (-27), 3) := dk_167 255 229 (dk_at dksX8_often_3 0 rfl rfl)
theorem dX8_often_72 : decode cX8_often 72 = .ok (.aload_n 0, 1) := dk_42 (dk_at dksX8_often_3 3 rfl rfl)
theorem dX8_often_73 : decode cX8_often 73 = .ok (.iload_n 3, 1) := dk_29 (dk_at dksX8_often_3 4 rfl rfl)
theorem dX8_often_74 : decode cX8_often 74 = .ok (.putfield 409, 3) := dk_181 1 153 (dk_at dksX8_often_3 5 rfl rfl)
theorem dX8_often_77 : decode cX8_often 77 = .ok (.iconst 0, 1) := dk_3 (dk_at dksX8_often_3 8 rfl rfl)
theorem dX8_often_78 : decode cX8_often 78 = .ok (.istore 6, 2) := dk_54 6 (dk_at dksX8_often_3 9 rfl rfl)
theorem dX8_often_80 : decode cX8_often 80 = .ok (.iconst 0, 1) := dk_3 (dk_at dksX8_often_3 11 rfl rfl)
theorem dX8_often_81 : decode cX8_often 81 = .ok (.istore 7, 2) := dk_54 7 (dk_at dksX8_often_3 12 rfl rfl)
theorem dX8_often_83 : decode cX8_often 83 = .ok (.iconst 0, 1) := dk_3 (dk_at dksX8_often_3 14 rfl rfl)
theorem dX8_often_84 : decode cX8_often 84 = .ok (.istore 8, 2) := dk_54 8 (dk_at dksX8_often_3 15 rfl rfl)
theorem dX8_often_86 : decode cX8_often 86 = .ok (.iconst 0, 1) := dk_3 (dk_at dksX8_often_3 17 rfl rfl)
theorem dX8_often_87 : decode cX8_often 87 = .ok (.istore 9, 2) := dk_54 9 (dk_at dksX8_often_3 18 rfl rfl)
theorem dX8_often_89 : decode cX8_often 89 = .ok (.iload 9, 2) := dk_21 9 (dk_at dksX8_often_3 20 rfl rfl)
theorem dX8_often_91 : decode cX8_often 91 = .ok (.iload_n 2, 1) := dk_28 (dk_at dksX8_often_3 22 rfl rfl)
theorem dX8_often_92 : decode cX8_often 92 = .ok (.if_icmp .ge 111, 3) := dk_162 0 111 (dk_at dksX8_often_4 0 rfl rfl)
theorem dX8_often_95 : decode cX8_often 95 = .ok (.aload_n 0, 1) := dk_42 (dk_at dksX8_often_4 3 rfl rfl)
theorem dX8_often_96 : decode cX8_often 96 = .ok (.invokevirtual 416, 3) := dk_182 1 160 (dk_at dksX8_often_4 4 rfl rfl)
theorem dX8_often_99 : decode cX8_often 99 = .ok (.pop, 1) := dk_87 (dk_at dksX8_often_4 7 rfl rfl)
theorem dX8_often_100 : decode cX8_often 100 = .ok (.iload 6, 2) := dk_21 6 (dk_at dksX8_often_4 8 rfl rfl)
theorem dX8_often_102 : decode cX8_often 102 = .ok (.aload_n 0, 1) := dk_42 (dk_at dksX8_often_4 10 rfl rfl)
theorem dX8_often_103 : decode cX8_often 103 = .ok (.iload_n 1, 1) := dk_27 (dk_at dksX8_often_4 11 rfl rfl)
theorem dX8_often_104 : decode cX8_often 104 = .ok (.invokevirtual 121, 3) := dk_182 0 121 (dk_at dksX8_often_4 12 rfl rfl)
theorem dX8_often_107 : decode cX8_often 107 = .ok (.ifCond .ne 15, 3) := dk_154 0 15 (dk_at dksX8_often_4 15 rfl rfl)
theorem dX8_often_110 : decode cX8_often 110 = .ok (.aload_n 0, 1) := dk_42 (dk_at dksX8_often_4 18 rfl rfl)
theorem dX8_often_111 : decode cX8_often 111 = .ok (.iload_n 1, 1) := dk_27 (dk_at dksX8_often_4 19 rfl rfl)
theorem dX8_often_112 : decode cX8_often 112 = .ok (.invokevirtual 177, 3) := dk_182 0 177 (dk_at dksX8_often_4 20 rfl rfl)
theorem dX8_often_115 : decode cX8_often 115 = .ok (.ifCond .ne 7, 3) := dk_154 0 7 (dk_at dksX8_often_5 0 rfl rfl)
theorem dX8_often_118 : decode cX8_often 118 = .ok (.iconst 1, 1) := dk_4 (dk_at dksX8_often_5 3 rfl rfl)
theorem dX8_often_119 : decode cX8_often 119 = .ok (.goto 4, 3) := dk_167 0 4 (dk_at dksX8_often_5 4 rfl rfl)
theorem dX8_often_122 : decode cX8_often 122 = .ok (.iconst 0, 1) := dk_3 (dk_at dksX8_often_5 7 rfl rfl)
theorem dX8_often_123 : decode cX8_often 123 = .ok (.invokestatic 160, 3) := dk_184 0 160 (dk_at dksX8_often_5 8 rfl rfl)
theorem dX8_often_126 : decode cX8_often 126 = .ok (.iadd, 1) := dk_96 (dk_at dksX8_often_5 11 rfl rfl)
theorem dX8_often_127 : decode cX8_often 127 = .ok (.istore 6, 2) := dk_54 6 (dk_at dksX8_often_5 12 rfl rfl)
theorem dX8_often_129 : decode cX8_often 129 = .ok (.iload 7, 2) := dk_21 7 (dk_at dksX8_often_5 14 rfl rfl)
theorem dX8_often_131 : decode cX8_often 131 = .ok (.aload_n 0, 1) := dk_42 (dk_at dksX8_often_5 16 rfl rfl)
theorem dX8_often_132 : decode cX8_often 132 = .ok (.iload_n 1, 1) := dk_27 (dk_at dksX8_often_5 17 rfl rfl)
theorem dX8_often_133 : decode cX8_often 133 = .ok (.invokevirtual 121, 3) := dk_182 0 121 (dk_at dksX8_often_5 18 rfl rfl)
theorem dX8_often_136 : decode cX8_often 136 = .ok (.invokestatic 160, 3) := dk_184 0 160 (dk_at dksX8_often_5 21 rfl rfl)
theorem dX8_often_139 : decode cX8_often 139 = .ok (.iadd, 1) := dk_96 (dk_at dksX8_often_6 0 rfl rfl)
theorem dX8_often_140 : decode cX8_often 140 = .ok (.istore 7, 2) := dk_54 7 (dk_at dksX8_often_6 1 rfl rfl)
theorem dX8_often_142 : decode cX8_often 142 = .ok (.iload 8, 2) := dk_21 8 (dk_at dksX8_often_6 3 rfl rfl)
theorem dX8_often_144 : decode cX8_often 144 = .ok (.aload_n 0, 1) := dk_42 (dk_at dksX8_often_6 5 rfl rfl)
theorem dX8_often_145 : decode cX8_often 145 = .ok (.iload_n 1, 1) := dk_27 (dk_at dksX8_often_6 6 rfl rfl)
theorem dX8_often_146 : decode cX8_often 146 = .ok (.invokevirtual 167, 3) := dk_182 0 167 (dk_at dksX8_often_6 7 rfl rfl)
theorem dX8_often_149 : decode cX8_often 149 = .ok (.iadd, 1) := dk_96 (dk_at dksX8_often_6 10 rfl rfl)
theorem dX8_often_150 : decode cX8_often 150 = .ok (.istore 8, 2) := dk_54 8 (dk_at dksX8_often_6 11 rfl rfl)
theorem dX8_often_152 : decode cX8_often 152 = .ok (.iconst 0, 1) := dk_3 (dk_at dksX8_often_6 13 rfl rfl)
theorem dX8_often_153 : decode cX8_often 153 = .ok (.istore 10, 2) := dk_54 10 (dk_at dksX8_often_6 14 rfl rfl)
theorem dX8_often_155 : decode cX8_often 155 = .ok (.iload 10, 2) := dk_21 10 (dk_at dksX8_often_6 16 rfl rfl)
theorem dX8_often_157 : decode cX8_often 157 = .ok (.aload_n 0, 1) := dk_42 (dk_at dksX8_often_6 18 rfl rfl)
theorem dX8_often_158 : decode cX8_often 158 = .ok (.getfield 32, 3) := dk_180 0 32 (dk_at dksX8_often_6 19 rfl rfl)
theorem dX8_often_161 : decode cX8_often 161 = .ok (.arraylength, 1) := dk_190 (dk_at dksX8_often_6 22 rfl rfl)
theorem dX8_often_162 : decode cX8_often 162 = .ok (.if_icmp .ge 23, 3) := dk_162 0 23 (dk_at dksX8_often_7 0 rfl rfl)
theorem dX8_often_165 : decode cX8_often 165 = .ok (.aload_n 0, 1) := dk_42 (dk_at dksX8_often_7 3 rfl rfl)
theorem dX8_often_166 : decode cX8_often 166 = .ok (.getfield 32, 3) := dk_180 0 32 (dk_at dksX8_often_7 4 rfl rfl)
theorem dX8_often_169 : decode cX8_often 169 = .ok (.iload 10, 2) := dk_21 10 (dk_at dksX8_often_7 7 rfl rfl)
theorem dX8_often_171 : decode cX8_often 171 = .ok (.aload_n 0, 1) := dk_42 (dk_at dksX8_often_7 9 rfl rfl)
theorem dX8_often_172 : decode cX8_often 172 = .ok (.getfield 35, 3) := dk_180 0 35 (dk_at dksX8_often_7 10 rfl rfl)
theorem dX8_often_175 : decode cX8_often 175 = .ok (.iload 10, 2) := dk_21 10 (dk_at dksX8_often_7 13 rfl rfl)
theorem dX8_often_177 : decode cX8_often 177 = .ok (.iaload, 1) := dk_46 (dk_at dksX8_often_7 15 rfl rfl)
theorem dX8_often_178 : decode cX8_often 178 = .ok (.iastore, 1) := dk_79 (dk_at dksX8_often_7 16 rfl rfl)
theorem dX8_often_179 : decode cX8_often 179 = .ok (.iinc 10 1, 3) := dk_132 10 1 (dk_at dksX8_often_7 17 rfl rfl)
theorem dX8_often_182 : decode cX8_often 182 = .ok (.goto (-27), 3) := dk_167 255 229 (dk_at dksX8_often_7 20 rfl rfl)
theorem dX8_often_185 : decode cX8_often 185 = .ok (.aload_n 0, 1) := dk_42 (dk_at dksX8_often_7 23 rfl rfl)
theorem dX8_often_186 : decode cX8_often 186 = .ok (.iload 4, 2) := dk_21 4 (dk_at dksX8_often_8 0 rfl rfl)
theorem dX8_often_188 : decode cX8_often 188 = .ok (.putfield 131, 3) := dk_181 0 131 (dk_at dksX8_often_8 2 rfl rfl)
theorem dX8_often_191 : decode cX8_often 191 = .ok (.aload_n 0, 1) := dk_42 (dk_at dksX8_often_8 5 rfl rfl)
theorem dX8_often_192 : decode cX8_often 192 = .ok (.iload 5, 2) := dk_21 5 (dk_at dksX8_often_8 6 rfl rfl)
theorem dX8_often_194 : decode cX8_often 194 = .ok (.putfield 134, 3) := dk_181 0 134 (dk_at dksX8_often_8 8 rfl rfl)
theorem dX8_often_197 : decode cX8_often 197 = .ok (.iinc 9 1, 3) := dk_132 9 1 (dk_at dksX8_often_8 11 rfl rfl)
theorem dX8_often_200 : decode cX8_often 200 = .ok (.goto (-111), 3) := dk_167 255 145 (dk_at dksX8_often_8 14 rfl rfl)
theorem dX8_often_203 : decode cX8_often 203 = .ok (.aload_n 0, 1) := dk_42 (dk_at dksX8_often_8 17 rfl rfl)
theorem dX8_often_204 : decode cX8_often 204 = .ok (.iconst 0, 1) := dk_3 (dk_at dksX8_often_8 18 rfl rfl)
theorem dX8_often_205 : decode cX8_often 205 = .ok (.putfield 81, 3) := dk_181 0 81 (dk_at dksX8_often_8 19 rfl rfl)
theorem dX8_often_208 : decode cX8_often 208 = .ok (.aload_n 0, 1) := dk_42 (dk_at dksX8_often_8 22 rfl rfl)
theorem dX8_often_209 : decode cX8_often 209 = .ok (.iload 7, 2) := dk_21 7 (dk_at dksX8_often_9 0 rfl rfl)
theorem dX8_often_211 : decode cX8_often 211 = .ok (.i2l, 1) := dk_133 (dk_at dksX8_often_9 2 rfl rfl)
theorem dX8_often_212 : decode cX8_often 212 = .ok (.invokevirtual 180, 3) := dk_182 0 180 (dk_at dksX8_often_9 3 rfl rfl)
theorem dX8_often_215 : decode cX8_often 215 = .ok (.aload_n 0, 1) := dk_42 (dk_at dksX8_often_9 6 rfl rfl)
theorem dX8_often_216 : decode cX8_often 216 = .ok (.iload 8, 2) := dk_21 8 (dk_at dksX8_often_9 7 rfl rfl)
theorem dX8_often_218 : decode cX8_often 218 = .ok (.i2l, 1) := dk_133 (dk_at dksX8_often_9 9 rfl rfl)
theorem dX8_often_219 : decode cX8_often 219 = .ok (.invokevirtual 180, 3) := dk_182 0 180 (dk_at dksX8_often_9 10 rfl rfl)
theorem dX8_often_222 : decode cX8_often 222 = .ok (.iload 6, 2) := dk_21 6 (dk_at dksX8_often_9 13 rfl rfl)
theorem dX8_often_224 : decode cX8_often 224 = .ok (.ireturn, 1) := dk_172 (dk_at dksX8_often_9 15 rfl rfl)
abbrev cX8_count : ByteArray := prog_21_method_116_code
def yX8_count : MethodName := ⟨RX8, "count", "(I)I"⟩
def dkwX8_count_4 : List UInt8 := [180, 0, 184, 172, 42, 182, 1, 165, 172, 2, 172]
abbrev dktX8_count_4 : List UInt8 := dkwX8_count_4 ++ []
def dkwX8_count_3 : List UInt8 := [46, 172, 42, 180, 0, 131, 172, 42, 180, 0, 134, 172, 42, 180, 0, 97, 172, 42, 180, 0, 81, 172, 42]
abbrev dktX8_count_3 : List UInt8 := dkwX8_count_3 ++ dktX8_count_4
def dkwX8_count_2 : List UInt8 := [42, 180, 0, 84, 172, 42, 180, 0, 32, 3, 46, 172, 42, 180, 0, 32, 4, 46, 172, 42, 180, 0, 32, 5]
abbrev dktX8_count_2 : List UInt8 := dkwX8_count_2 ++ dktX8_count_3
def dkwX8_count_1 : List UInt8 := [170, 0, 0, 0, 0, 110, 0, 0, 0, 0, 0, 0, 0, 9, 0, 0, 0, 54, 0, 0, 0, 59, 0, 0, 0, 66, 0, 0, 0, 73, 0, 0, 0, 80, 0, 0, 0, 85, 0, 0, 0, 90, 0, 0, 0, 95, 0, 0, 0, 100, 0, 0, 0, 105]
abbrev dktX8_count_1 : List UInt8 := dkwX8_count_1 ++ dktX8_count_2
def dkwX8_count_0 : List UInt8 := [42, 3, 181, 0, 77, 27]
abbrev dktX8_count_0 : List UInt8 := dkwX8_count_0 ++ dktX8_count_1
theorem dksX8_count_0 : cX8_count.data.toList.drop 0 = dktX8_count_0 := by decide +kernel
theorem dksX8_count_1 : cX8_count.data.toList.drop 6 = dktX8_count_1 := dk_seg dksX8_count_0 6 rfl rfl
theorem dksX8_count_2 : cX8_count.data.toList.drop 60 = dktX8_count_2 := dk_seg dksX8_count_1 54 rfl rfl
theorem dksX8_count_3 : cX8_count.data.toList.drop 84 = dktX8_count_3 := dk_seg dksX8_count_2 24 rfl rfl
theorem dksX8_count_4 : cX8_count.data.toList.drop 107 = dktX8_count_4 := dk_seg dksX8_count_3 23 rfl rfl
theorem dX8_count_0 : decode cX8_count 0 = .ok (.aload_n 0, 1) := dk_42 (dk_at dksX8_count_0 0 rfl rfl)
theorem dX8_count_1 : decode cX8_count 1 = .ok (.iconst 0, 1) := dk_3 (dk_at dksX8_count_0 1 rfl rfl)
theorem dX8_count_2 : decode cX8_count 2 = .ok (.putfield 77, 3) := dk_181 0 77 (dk_at dksX8_count_0 2 rfl rfl)
theorem dX8_count_5 : decode cX8_count 5 = .ok (.iload_n 1, 1) := dk_27 (dk_at dksX8_count_0 5 rfl rfl)
theorem dX8_count_6 : decode cX8_count 6 = .ok (.tableswitch 110 0 9 #[54, 59, 66, 73, 80, 85, 90, 95, 100, 105], 54) := by decide +kernel
theorem dX8_count_60 : decode cX8_count 60 = .ok (.aload_n 0, 1) := dk_42 (dk_at dksX8_count_2 0 rfl rfl)
theorem dX8_count_61 : decode cX8_count 61 = .ok (.getfield 84, 3) := dk_180 0 84 (dk_at dksX8_count_2 1 rfl rfl)
theorem dX8_count_64 : decode cX8_count 64 = .ok (.ireturn, 1) := dk_172 (dk_at dksX8_count_2 4 rfl rfl)
theorem dX8_count_65 : decode cX8_count 65 = .ok (.aload_n 0, 1) := dk_42 (dk_at dksX8_count_2 5 rfl rfl)
theorem dX8_count_66 : decode cX8_count 66 = .ok (.getfield 32, 3) := dk_180 0 32 (dk_at dksX8_count_2 6 rfl rfl)
theorem dX8_count_69 : decode cX8_count 69 = .ok (.iconst 0, 1) := dk_3 (dk_at dksX8_count_2 9 rfl rfl)
theorem dX8_count_70 : decode cX8_count 70 = .ok (.iaload, 1) := dk_46 (dk_at dksX8_count_2 10 rfl rfl)
theorem dX8_count_71 : decode cX8_count 71 = .ok (.ireturn, 1) := dk_172 (dk_at dksX8_count_2 11 rfl rfl)
theorem dX8_count_72 : decode cX8_count 72 = .ok (.aload_n 0, 1) := dk_42 (dk_at dksX8_count_2 12 rfl rfl)
theorem dX8_count_73 : decode cX8_count 73 = .ok (.getfield 32, 3) := dk_180 0 32 (dk_at dksX8_count_2 13 rfl rfl)
theorem dX8_count_76 : decode cX8_count 76 = .ok (.iconst 1, 1) := dk_4 (dk_at dksX8_count_2 16 rfl rfl)
theorem dX8_count_77 : decode cX8_count 77 = .ok (.iaload, 1) := dk_46 (dk_at dksX8_count_2 17 rfl rfl)
theorem dX8_count_78 : decode cX8_count 78 = .ok (.ireturn, 1) := dk_172 (dk_at dksX8_count_2 18 rfl rfl)
theorem dX8_count_79 : decode cX8_count 79 = .ok (.aload_n 0, 1) := dk_42 (dk_at dksX8_count_2 19 rfl rfl)
theorem dX8_count_80 : decode cX8_count 80 = .ok (.getfield 32, 3) := dk_180 0 32 (dk_at dksX8_count_2 20 rfl rfl)
theorem dX8_count_83 : decode cX8_count 83 = .ok (.iconst 2, 1) := dk_5 (dk_at dksX8_count_2 23 rfl rfl)
theorem dX8_count_84 : decode cX8_count 84 = .ok (.iaload, 1) := dk_46 (dk_at dksX8_count_3 0 rfl rfl)
theorem dX8_count_85 : decode cX8_count 85 = .ok (.ireturn, 1) := dk_172 (dk_at dksX8_count_3 1 rfl rfl)
theorem dX8_count_86 : decode cX8_count 86 = .ok (.aload_n 0, 1) := dk_42 (dk_at dksX8_count_3 2 rfl rfl)
theorem dX8_count_87 : decode cX8_count 87 = .ok (.getfield 131, 3) := dk_180 0 131 (dk_at dksX8_count_3 3 rfl rfl)
theorem dX8_count_90 : decode cX8_count 90 = .ok (.ireturn, 1) := dk_172 (dk_at dksX8_count_3 6 rfl rfl)
theorem dX8_count_91 : decode cX8_count 91 = .ok (.aload_n 0, 1) := dk_42 (dk_at dksX8_count_3 7 rfl rfl)
theorem dX8_count_92 : decode cX8_count 92 = .ok (.getfield 134, 3) := dk_180 0 134 (dk_at dksX8_count_3 8 rfl rfl)
theorem dX8_count_95 : decode cX8_count 95 = .ok (.ireturn, 1) := dk_172 (dk_at dksX8_count_3 11 rfl rfl)
theorem dX8_count_96 : decode cX8_count 96 = .ok (.aload_n 0, 1) := dk_42 (dk_at dksX8_count_3 12 rfl rfl)
theorem dX8_count_97 : decode cX8_count 97 = .ok (.getfield 97, 3) := dk_180 0 97 (dk_at dksX8_count_3 13 rfl rfl)
theorem dX8_count_100 : decode cX8_count 100 = .ok (.ireturn, 1) := dk_172 (dk_at dksX8_count_3 16 rfl rfl)
theorem dX8_count_101 : decode cX8_count 101 = .ok (.aload_n 0, 1) := dk_42 (dk_at dksX8_count_3 17 rfl rfl)
theorem dX8_count_102 : decode cX8_count 102 = .ok (.getfield 81, 3) := dk_180 0 81 (dk_at dksX8_count_3 18 rfl rfl)
theorem dX8_count_105 : decode cX8_count 105 = .ok (.ireturn, 1) := dk_172 (dk_at dksX8_count_3 21 rfl rfl)
theorem dX8_count_106 : decode cX8_count 106 = .ok (.aload_n 0, 1) := dk_42 (dk_at dksX8_count_3 22 rfl rfl)
theorem dX8_count_107 : decode cX8_count 107 = .ok (.getfield 184, 3) := dk_180 0 184 (dk_at dksX8_count_4 0 rfl rfl)
theorem dX8_count_110 : decode cX8_count 110 = .ok (.ireturn, 1) := dk_172 (dk_at dksX8_count_4 3 rfl rfl)
theorem dX8_count_111 : decode cX8_count 111 = .ok (.aload_n 0, 1) := dk_42 (dk_at dksX8_count_4 4 rfl rfl)
theorem dX8_count_112 : decode cX8_count 112 = .ok (.invokevirtual 421, 3) := dk_182 1 165 (dk_at dksX8_count_4 5 rfl rfl)
theorem dX8_count_115 : decode cX8_count 115 = .ok (.ireturn, 1) := dk_172 (dk_at dksX8_count_4 8 rfl rfl)
theorem dX8_count_116 : decode cX8_count 116 = .ok (.iconst (-1), 1) := dk_2 (dk_at dksX8_count_4 9 rfl rfl)
theorem dX8_count_117 : decode cX8_count 117 = .ok (.ireturn, 1) := dk_172 (dk_at dksX8_count_4 10 rfl rfl)
abbrev cX8_outs : ByteArray := prog_21_method_115_code
def yX8_outs : MethodName := ⟨RX8, "outs", "()I"⟩
def dkwX8_outs_1 : List UInt8 := [132, 2, 1, 167, 255, 233, 27, 172]
abbrev dktX8_outs_1 : List UInt8 := dkwX8_outs_1 ++ []
def dkwX8_outs_0 : List UInt8 := [3, 60, 3, 61, 28, 42, 180, 0, 84, 162, 0, 21, 27, 42, 28, 16, 6, 182, 0, 106, 28, 120, 128, 60]
abbrev dktX8_outs_0 : List UInt8 := dkwX8_outs_0 ++ dktX8_outs_1
theorem dksX8_outs_0 : cX8_outs.data.toList.drop 0 = dktX8_outs_0 := by decide +kernel
theorem dksX8_outs_1 : cX8_outs.data.toList.drop 24 = dktX8_outs_1 := dk_seg dksX8_outs_0 24 rfl rfl
theorem dX8_outs_0 : decode cX8_outs 0 = .ok (.iconst 0, 1) := dk_3 (dk_at dksX8_outs_0 0 rfl rfl)
theorem dX8_outs_1 : decode cX8_outs 1 = .ok (.istore_n 1, 1) := dk_60 (dk_at dksX8_outs_0 1 rfl rfl)
theorem dX8_outs_2 : decode cX8_outs 2 = .ok (.iconst 0, 1) := dk_3 (dk_at dksX8_outs_0 2 rfl rfl)
theorem dX8_outs_3 : decode cX8_outs 3 = .ok (.istore_n 2, 1) := dk_61 (dk_at dksX8_outs_0 3 rfl rfl)
theorem dX8_outs_4 : decode cX8_outs 4 = .ok (.iload_n 2, 1) := dk_28 (dk_at dksX8_outs_0 4 rfl rfl)
theorem dX8_outs_5 : decode cX8_outs 5 = .ok (.aload_n 0, 1) := dk_42 (dk_at dksX8_outs_0 5 rfl rfl)
theorem dX8_outs_6 : decode cX8_outs 6 = .ok (.getfield 84, 3) := dk_180 0 84 (dk_at dksX8_outs_0 6 rfl rfl)
theorem dX8_outs_9 : decode cX8_outs 9 = .ok (.if_icmp .ge 21, 3) := dk_162 0 21 (dk_at dksX8_outs_0 9 rfl rfl)
theorem dX8_outs_12 : decode cX8_outs 12 = .ok (.iload_n 1, 1) := dk_27 (dk_at dksX8_outs_0 12 rfl rfl)
theorem dX8_outs_13 : decode cX8_outs 13 = .ok (.aload_n 0, 1) := dk_42 (dk_at dksX8_outs_0 13 rfl rfl)
theorem dX8_outs_14 : decode cX8_outs 14 = .ok (.iload_n 2, 1) := dk_28 (dk_at dksX8_outs_0 14 rfl rfl)
theorem dX8_outs_15 : decode cX8_outs 15 = .ok (.bipush 6, 2) := dk_16 6 (dk_at dksX8_outs_0 15 rfl rfl)
theorem dX8_outs_17 : decode cX8_outs 17 = .ok (.invokevirtual 106, 3) := dk_182 0 106 (dk_at dksX8_outs_0 17 rfl rfl)
theorem dX8_outs_20 : decode cX8_outs 20 = .ok (.iload_n 2, 1) := dk_28 (dk_at dksX8_outs_0 20 rfl rfl)
theorem dX8_outs_21 : decode cX8_outs 21 = .ok (.ishl, 1) := dk_120 (dk_at dksX8_outs_0 21 rfl rfl)
theorem dX8_outs_22 : decode cX8_outs 22 = .ok (.ior, 1) := dk_128 (dk_at dksX8_outs_0 22 rfl rfl)
theorem dX8_outs_23 : decode cX8_outs 23 = .ok (.istore_n 1, 1) := dk_60 (dk_at dksX8_outs_0 23 rfl rfl)
theorem dX8_outs_24 : decode cX8_outs 24 = .ok (.iinc 2 1, 3) := dk_132 2 1 (dk_at dksX8_outs_1 0 rfl rfl)
theorem dX8_outs_27 : decode cX8_outs 27 = .ok (.goto (-23), 3) := dk_167 255 233 (dk_at dksX8_outs_1 3 rfl rfl)
theorem dX8_outs_30 : decode cX8_outs 30 = .ok (.iload_n 1, 1) := dk_27 (dk_at dksX8_outs_1 6 rfl rfl)
theorem dX8_outs_31 : decode cX8_outs 31 = .ok (.ireturn, 1) := dk_172 (dk_at dksX8_outs_1 7 rfl rfl)
abbrev cX8_row : ByteArray := prog_21_method_117_code
def yX8_row : MethodName := ⟨RX8, "row", "(I)J"⟩
def dkwX8_row_2 : List UInt8 := [173]
abbrev dktX8_row_2 : List UInt8 := dkwX8_row_2 ++ []
def dkwX8_row_1 : List UInt8 := [184, 0, 160, 181, 0, 77, 42, 180, 0, 77, 4, 160, 0, 7, 9, 167, 0, 9, 42, 180, 0, 7, 27, 47]
abbrev dktX8_row_1 : List UInt8 := dkwX8_row_1 ++ dktX8_row_2
def dkwX8_row_0 : List UInt8 := [42, 27, 133, 9, 42, 180, 0, 81, 4, 100, 133, 184, 0, 87, 154, 0, 7, 4, 167, 0, 4, 3]
abbrev dktX8_row_0 : List UInt8 := dkwX8_row_0 ++ dktX8_row_1
theorem dksX8_row_0 : cX8_row.data.toList.drop 0 = dktX8_row_0 := by decide +kernel
theorem dksX8_row_1 : cX8_row.data.toList.drop 22 = dktX8_row_1 := dk_seg dksX8_row_0 22 rfl rfl
theorem dksX8_row_2 : cX8_row.data.toList.drop 46 = dktX8_row_2 := dk_seg dksX8_row_1 24 rfl rfl
theorem dX8_row_0 : decode cX8_row 0 = .ok (.aload_n 0, 1) := dk_42 (dk_at dksX8_row_0 0 rfl rfl)
theorem dX8_row_1 : decode cX8_row 1 = .ok (.iload_n 1, 1) := dk_27 (dk_at dksX8_row_0 1 rfl rfl)
theorem dX8_row_2 : decode cX8_row 2 = .ok (.i2l, 1) := dk_133 (dk_at dksX8_row_0 2 rfl rfl)
theorem dX8_row_3 : decode cX8_row 3 = .ok (.lconst 0, 1) := dk_9 (dk_at dksX8_row_0 3 rfl rfl)
theorem dX8_row_4 : decode cX8_row 4 = .ok (.aload_n 0, 1) := dk_42 (dk_at dksX8_row_0 4 rfl rfl)
theorem dX8_row_5 : decode cX8_row 5 = .ok (.getfield 81, 3) := dk_180 0 81 (dk_at dksX8_row_0 5 rfl rfl)
theorem dX8_row_8 : decode cX8_row 8 = .ok (.iconst 1, 1) := dk_4 (dk_at dksX8_row_0 8 rfl rfl)
theorem dX8_row_9 : decode cX8_row 9 = .ok (.isub, 1) := dk_100 (dk_at dksX8_row_0 9 rfl rfl)
theorem dX8_row_10 : decode cX8_row 10 = .ok (.i2l, 1) := dk_133 (dk_at dksX8_row_0 10 rfl rfl)
theorem dX8_row_11 : decode cX8_row 11 = .ok (.invokestatic 87, 3) := dk_184 0 87 (dk_at dksX8_row_0 11 rfl rfl)
theorem dX8_row_14 : decode cX8_row 14 = .ok (.ifCond .ne 7, 3) := dk_154 0 7 (dk_at dksX8_row_0 14 rfl rfl)
theorem dX8_row_17 : decode cX8_row 17 = .ok (.iconst 1, 1) := dk_4 (dk_at dksX8_row_0 17 rfl rfl)
theorem dX8_row_18 : decode cX8_row 18 = .ok (.goto 4, 3) := dk_167 0 4 (dk_at dksX8_row_0 18 rfl rfl)
theorem dX8_row_21 : decode cX8_row 21 = .ok (.iconst 0, 1) := dk_3 (dk_at dksX8_row_0 21 rfl rfl)
theorem dX8_row_22 : decode cX8_row 22 = .ok (.invokestatic 160, 3) := dk_184 0 160 (dk_at dksX8_row_1 0 rfl rfl)
theorem dX8_row_25 : decode cX8_row 25 = .ok (.putfield 77, 3) := dk_181 0 77 (dk_at dksX8_row_1 3 rfl rfl)
theorem dX8_row_28 : decode cX8_row 28 = .ok (.aload_n 0, 1) := dk_42 (dk_at dksX8_row_1 6 rfl rfl)
theorem dX8_row_29 : decode cX8_row 29 = .ok (.getfield 77, 3) := dk_180 0 77 (dk_at dksX8_row_1 7 rfl rfl)
theorem dX8_row_32 : decode cX8_row 32 = .ok (.iconst 1, 1) := dk_4 (dk_at dksX8_row_1 10 rfl rfl)
theorem dX8_row_33 : decode cX8_row 33 = .ok (.if_icmp .ne 7, 3) := dk_160 0 7 (dk_at dksX8_row_1 11 rfl rfl)
theorem dX8_row_36 : decode cX8_row 36 = .ok (.lconst 0, 1) := dk_9 (dk_at dksX8_row_1 14 rfl rfl)
theorem dX8_row_37 : decode cX8_row 37 = .ok (.goto 9, 3) := dk_167 0 9 (dk_at dksX8_row_1 15 rfl rfl)
theorem dX8_row_40 : decode cX8_row 40 = .ok (.aload_n 0, 1) := dk_42 (dk_at dksX8_row_1 18 rfl rfl)
theorem dX8_row_41 : decode cX8_row 41 = .ok (.getfield 7, 3) := dk_180 0 7 (dk_at dksX8_row_1 19 rfl rfl)
theorem dX8_row_44 : decode cX8_row 44 = .ok (.iload_n 1, 1) := dk_27 (dk_at dksX8_row_1 22 rfl rfl)
theorem dX8_row_45 : decode cX8_row 45 = .ok (.laload, 1) := dk_47 (dk_at dksX8_row_1 23 rfl rfl)
theorem dX8_row_46 : decode cX8_row 46 = .ok (.lreturn, 1) := dk_173 (dk_at dksX8_row_2 0 rfl rfl)
theorem q122 : (Jvm.Cond.initialized "NextLoadModel") ∈ lw_all := lw_g (lw_at lw_m1 13 rfl) rfl
theorem q694 : (Jvm.Cond.selects "NextLoadModel" ({ cls := "java/lang/Object", name := "getClass", desc := "()Ljava/lang/Class;" } : Jvm.MethodName) ({ cls := "java/lang/Object", name := "getClass", desc := "()Ljava/lang/Class;" } : Jvm.MethodName)) ∈ lw_all := lw_g (lw_at lw_m3 105 rfl) rfl
theorem q1330 : (Jvm.Cond.instantiable "NextLoadModel" (40 : Nat)) ∈ lw_all := lw_g (lw_at lw_m6 21 rfl) rfl
theorem q1332 : (Jvm.Cond.instanceMethod ({ cls := "NextLoadModel", name := "<init>", desc := "()V" } : Jvm.MethodName)) ∈ lw_all := lw_g (lw_at lw_m6 23 rfl) rfl
theorem q1333 : (Jvm.Cond.code ({ cls := "NextLoadModel", name := "<init>", desc := "()V" } : Jvm.MethodName) prog_21_method_1_code (1 : Nat) (Option.none : Option Jvm.ClassFile.FieldType)) ∈ lw_all := lw_g (lw_at lw_m6 24 rfl) rfl
theorem q1334 : (Jvm.Cond.methodLink "NextLoadModel" (1 : Nat) ({ cls := "java/lang/Object", name := "<init>", desc := "()V" } : Jvm.MethodName)) ∈ lw_all := lw_g (lw_at lw_m6 25 rfl) rfl
theorem q1335 : (Jvm.Cond.fieldLink "NextLoadModel" (77 : Nat) "NextLoadModel" "thrown" "I") ∈ lw_all := lw_g (lw_at lw_m6 26 rfl) rfl
theorem q1336 : (Jvm.Cond.fieldLink "NextLoadModel" (81 : Nat) "NextLoadModel" "told" "I") ∈ lw_all := lw_g (lw_at lw_m6 27 rfl) rfl
theorem q1337 : (Jvm.Cond.fieldLink "NextLoadModel" (7 : Nat) "NextLoadModel" "row" "[J") ∈ lw_all := lw_g (lw_at lw_m6 28 rfl) rfl
theorem q1338 : (Jvm.Cond.fieldLink "NextLoadModel" (84 : Nat) "NextLoadModel" "lifters" "I") ∈ lw_all := lw_g (lw_at lw_m6 29 rfl) rfl
theorem q1339 : (Jvm.Cond.fieldLink "NextLoadModel" (13 : Nat) "NextLoadModel" "body" "[I") ∈ lw_all := lw_g (lw_at lw_m6 30 rfl) rfl
theorem q1340 : (Jvm.Cond.fieldLink "NextLoadModel" (17 : Nat) "NextLoadModel" "lot" "[I") ∈ lw_all := lw_g (lw_at lw_m6 31 rfl) rfl
theorem q1341 : (Jvm.Cond.fieldLink "NextLoadModel" (20 : Nat) "NextLoadModel" "points" "[I") ∈ lw_all := lw_g (lw_at lw_m6 32 rfl) rfl
theorem q1342 : (Jvm.Cond.fieldLink "NextLoadModel" (23 : Nat) "NextLoadModel" "pointLoad" "[I") ∈ lw_all := lw_g (lw_at lw_m6 33 rfl) rfl
theorem q1343 : (Jvm.Cond.fieldLink "NextLoadModel" (26 : Nat) "NextLoadModel" "pointOdds" "[I") ∈ lw_all := lw_g (lw_at lw_m6 34 rfl) rfl
theorem q1344 : (Jvm.Cond.fieldLink "NextLoadModel" (29 : Nat) "NextLoadModel" "plan" "[I") ∈ lw_all := lw_g (lw_at lw_m6 35 rfl) rfl
theorem q1345 : (Jvm.Cond.fieldLink "NextLoadModel" (97 : Nat) "NextLoadModel" "tire" "I") ∈ lw_all := lw_g (lw_at lw_m6 36 rfl) rfl
theorem q1346 : (Jvm.Cond.fieldLink "NextLoadModel" (32 : Nat) "NextLoadModel" "meet" "[I") ∈ lw_all := lw_g (lw_at lw_m6 37 rfl) rfl
theorem q1347 : (Jvm.Cond.fieldLink "NextLoadModel" (35 : Nat) "NextLoadModel" "aside" "[I") ∈ lw_all := lw_g (lw_at lw_m6 38 rfl) rfl
theorem q1348 : (Jvm.Cond.fieldLink "NextLoadModel" (131 : Nat) "NextLoadModel" "tries" "I") ∈ lw_all := lw_g (lw_at lw_m6 39 rfl) rfl
theorem q1349 : (Jvm.Cond.fieldLink "NextLoadModel" (134 : Nat) "NextLoadModel" "goods" "I") ∈ lw_all := lw_g (lw_at lw_m6 40 rfl) rfl
theorem q1350 : (Jvm.Cond.fieldLink "NextLoadModel" (38 : Nat) "NextLoadModel" "tryOf" "[I") ∈ lw_all := lw_g (lw_at lw_m6 41 rfl) rfl
theorem q1351 : (Jvm.Cond.fieldLink "NextLoadModel" (157 : Nat) "NextLoadModel" "askedThen" "I") ∈ lw_all := lw_g (lw_at lw_m6 42 rfl) rfl
theorem q1352 : (Jvm.Cond.fieldLink "NextLoadModel" (41 : Nat) "NextLoadModel" "tape" "[I") ∈ lw_all := lw_g (lw_at lw_m6 43 rfl) rfl
theorem q1353 : (Jvm.Cond.fieldLink "NextLoadModel" (184 : Nat) "NextLoadModel" "taped" "I") ∈ lw_all := lw_g (lw_at lw_m6 44 rfl) rfl
theorem q1354 : (Jvm.Cond.fieldLink "NextLoadModel" (187 : Nat) "NextLoadModel" "at" "I") ∈ lw_all := lw_g (lw_at lw_m6 45 rfl) rfl
theorem q1355 : (Jvm.Cond.fieldLink "NextLoadModel" (190 : Nat) "NextLoadModel" "to" "I") ∈ lw_all := lw_g (lw_at lw_m6 46 rfl) rfl
theorem q1356 : (Jvm.Cond.fieldLink "NextLoadModel" (200 : Nat) "NextLoadModel" "number" "I") ∈ lw_all := lw_g (lw_at lw_m6 47 rfl) rfl
theorem q1357 : (Jvm.Cond.fieldLink "NextLoadModel" (212 : Nat) "NextLoadModel" "readBody" "I") ∈ lw_all := lw_g (lw_at lw_m6 48 rfl) rfl
theorem q1358 : (Jvm.Cond.fieldLink "NextLoadModel" (218 : Nat) "NextLoadModel" "readLot" "I") ∈ lw_all := lw_g (lw_at lw_m6 49 rfl) rfl
theorem q1359 : (Jvm.Cond.fieldLink "NextLoadModel" (44 : Nat) "NextLoadModel" "readPoints" "[I") ∈ lw_all := lw_g (lw_at lw_m6 50 rfl) rfl
theorem q1360 : (Jvm.Cond.fieldLink "NextLoadModel" (47 : Nat) "NextLoadModel" "readLoad" "[I") ∈ lw_all := lw_g (lw_at lw_m6 51 rfl) rfl
theorem q1361 : (Jvm.Cond.fieldLink "NextLoadModel" (50 : Nat) "NextLoadModel" "readOdds" "[I") ∈ lw_all := lw_g (lw_at lw_m6 52 rfl) rfl
theorem q1362 : (Jvm.Cond.fieldLink "NextLoadModel" (53 : Nat) "NextLoadModel" "readPlan" "[I") ∈ lw_all := lw_g (lw_at lw_m6 53 rfl) rfl
theorem q1363 : (Jvm.Cond.fieldLink "NextLoadModel" (56 : Nat) "NextLoadModel" "aim" "[I") ∈ lw_all := lw_g (lw_at lw_m6 54 rfl) rfl
theorem q1364 : (Jvm.Cond.fieldLink "NextLoadModel" (59 : Nat) "NextLoadModel" "chances" "[I") ∈ lw_all := lw_g (lw_at lw_m6 55 rfl) rfl
theorem q1365 : (Jvm.Cond.fieldLink "NextLoadModel" (62 : Nat) "NextLoadModel" "win" "[I") ∈ lw_all := lw_g (lw_at lw_m6 56 rfl) rfl
theorem q1366 : (Jvm.Cond.fieldLink "NextLoadModel" (65 : Nat) "NextLoadModel" "behind" "[I") ∈ lw_all := lw_g (lw_at lw_m6 57 rfl) rfl
theorem q1367 : (Jvm.Cond.fieldLink "NextLoadModel" (68 : Nat) "NextLoadModel" "bestValue" "[I") ∈ lw_all := lw_g (lw_at lw_m6 58 rfl) rfl
theorem q1368 : (Jvm.Cond.fieldLink "NextLoadModel" (322 : Nat) "NextLoadModel" "bestLoad" "I") ∈ lw_all := lw_g (lw_at lw_m6 59 rfl) rfl
theorem q1369 : (Jvm.Cond.fieldLink "NextLoadModel" (346 : Nat) "NextLoadModel" "nextLoad" "I") ∈ lw_all := lw_g (lw_at lw_m6 60 rfl) rfl
theorem q1370 : (Jvm.Cond.fieldLink "NextLoadModel" (365 : Nat) "NextLoadModel" "one" "I") ∈ lw_all := lw_g (lw_at lw_m6 61 rfl) rfl
theorem q1371 : (Jvm.Cond.fieldLink "NextLoadModel" (368 : Nat) "NextLoadModel" "other" "I") ∈ lw_all := lw_g (lw_at lw_m6 62 rfl) rfl
theorem q1372 : (Jvm.Cond.fieldLink "NextLoadModel" (71 : Nat) "NextLoadModel" "duelValue" "[I") ∈ lw_all := lw_g (lw_at lw_m6 63 rfl) rfl
theorem q1373 : (Jvm.Cond.fieldLink "NextLoadModel" (74 : Nat) "NextLoadModel" "duelChoice" "[I") ∈ lw_all := lw_g (lw_at lw_m6 64 rfl) rfl
theorem q1374 : (Jvm.Cond.fieldLink "NextLoadModel" (409 : Nat) "NextLoadModel" "drawn" "I") ∈ lw_all := lw_g (lw_at lw_m6 65 rfl) rfl
theorem q1375 : (Jvm.Cond.lays "NextLoadModel" "NextLoadModel" "thrown" "I") ∈ lw_all := lw_g (lw_at lw_m6 66 rfl) rfl
theorem q1376 : (Jvm.Cond.soleField "NextLoadModel" "thrown") ∈ lw_all := lw_g (lw_at lw_m6 67 rfl) rfl
theorem q1377 : (Jvm.Cond.lays "NextLoadModel" "NextLoadModel" "told" "I") ∈ lw_all := lw_g (lw_at lw_m6 68 rfl) rfl
theorem q1378 : (Jvm.Cond.soleField "NextLoadModel" "told") ∈ lw_all := lw_g (lw_at lw_m6 69 rfl) rfl
theorem q1379 : (Jvm.Cond.laysFinal "NextLoadModel" "NextLoadModel" "row" "[J") ∈ lw_all := lw_g (lw_at lw_m6 70 rfl) rfl
theorem q1380 : (Jvm.Cond.soleField "NextLoadModel" "row") ∈ lw_all := lw_g (lw_at lw_m6 71 rfl) rfl
theorem q1381 : (Jvm.Cond.lays "NextLoadModel" "NextLoadModel" "lifters" "I") ∈ lw_all := lw_g (lw_at lw_m6 72 rfl) rfl
theorem q1382 : (Jvm.Cond.soleField "NextLoadModel" "lifters") ∈ lw_all := lw_g (lw_at lw_m6 73 rfl) rfl
theorem q1383 : (Jvm.Cond.laysFinal "NextLoadModel" "NextLoadModel" "body" "[I") ∈ lw_all := lw_g (lw_at lw_m6 74 rfl) rfl
theorem q1384 : (Jvm.Cond.soleField "NextLoadModel" "body") ∈ lw_all := lw_g (lw_at lw_m6 75 rfl) rfl
theorem q1385 : (Jvm.Cond.laysFinal "NextLoadModel" "NextLoadModel" "lot" "[I") ∈ lw_all := lw_g (lw_at lw_m6 76 rfl) rfl
theorem q1386 : (Jvm.Cond.soleField "NextLoadModel" "lot") ∈ lw_all := lw_g (lw_at lw_m6 77 rfl) rfl
theorem q1387 : (Jvm.Cond.laysFinal "NextLoadModel" "NextLoadModel" "points" "[I") ∈ lw_all := lw_g (lw_at lw_m6 78 rfl) rfl
theorem q1388 : (Jvm.Cond.soleField "NextLoadModel" "points") ∈ lw_all := lw_g (lw_at lw_m6 79 rfl) rfl
theorem q1389 : (Jvm.Cond.laysFinal "NextLoadModel" "NextLoadModel" "pointLoad" "[I") ∈ lw_all := lw_g (lw_at lw_m6 80 rfl) rfl
theorem q1390 : (Jvm.Cond.soleField "NextLoadModel" "pointLoad") ∈ lw_all := lw_g (lw_at lw_m6 81 rfl) rfl
theorem q1391 : (Jvm.Cond.laysFinal "NextLoadModel" "NextLoadModel" "pointOdds" "[I") ∈ lw_all := lw_g (lw_at lw_m6 82 rfl) rfl
theorem q1392 : (Jvm.Cond.soleField "NextLoadModel" "pointOdds") ∈ lw_all := lw_g (lw_at lw_m6 83 rfl) rfl
theorem q1393 : (Jvm.Cond.laysFinal "NextLoadModel" "NextLoadModel" "plan" "[I") ∈ lw_all := lw_g (lw_at lw_m6 84 rfl) rfl
theorem q1394 : (Jvm.Cond.soleField "NextLoadModel" "plan") ∈ lw_all := lw_g (lw_at lw_m6 85 rfl) rfl
theorem q1395 : (Jvm.Cond.lays "NextLoadModel" "NextLoadModel" "tire" "I") ∈ lw_all := lw_g (lw_at lw_m6 86 rfl) rfl
theorem q1396 : (Jvm.Cond.soleField "NextLoadModel" "tire") ∈ lw_all := lw_g (lw_at lw_m6 87 rfl) rfl
theorem q1397 : (Jvm.Cond.laysFinal "NextLoadModel" "NextLoadModel" "meet" "[I") ∈ lw_all := lw_g (lw_at lw_m6 88 rfl) rfl
theorem q1398 : (Jvm.Cond.soleField "NextLoadModel" "meet") ∈ lw_all := lw_g (lw_at lw_m6 89 rfl) rfl
theorem q1399 : (Jvm.Cond.laysFinal "NextLoadModel" "NextLoadModel" "aside" "[I") ∈ lw_all := lw_g (lw_at lw_m6 90 rfl) rfl
theorem q1400 : (Jvm.Cond.soleField "NextLoadModel" "aside") ∈ lw_all := lw_g (lw_at lw_m6 91 rfl) rfl
theorem q1401 : (Jvm.Cond.lays "NextLoadModel" "NextLoadModel" "tries" "I") ∈ lw_all := lw_g (lw_at lw_m6 92 rfl) rfl
theorem q1402 : (Jvm.Cond.soleField "NextLoadModel" "tries") ∈ lw_all := lw_g (lw_at lw_m6 93 rfl) rfl
theorem q1403 : (Jvm.Cond.lays "NextLoadModel" "NextLoadModel" "goods" "I") ∈ lw_all := lw_g (lw_at lw_m6 94 rfl) rfl
theorem q1404 : (Jvm.Cond.soleField "NextLoadModel" "goods") ∈ lw_all := lw_g (lw_at lw_m6 95 rfl) rfl
theorem q1405 : (Jvm.Cond.laysFinal "NextLoadModel" "NextLoadModel" "tryOf" "[I") ∈ lw_all := lw_g (lw_at lw_m6 96 rfl) rfl
theorem q1406 : (Jvm.Cond.soleField "NextLoadModel" "tryOf") ∈ lw_all := lw_g (lw_at lw_m6 97 rfl) rfl
theorem q1407 : (Jvm.Cond.lays "NextLoadModel" "NextLoadModel" "askedThen" "I") ∈ lw_all := lw_g (lw_at lw_m6 98 rfl) rfl
theorem q1408 : (Jvm.Cond.soleField "NextLoadModel" "askedThen") ∈ lw_all := lw_g (lw_at lw_m6 99 rfl) rfl
theorem q1409 : (Jvm.Cond.laysFinal "NextLoadModel" "NextLoadModel" "tape" "[I") ∈ lw_all := lw_g (lw_at lw_m6 100 rfl) rfl
theorem q1410 : (Jvm.Cond.soleField "NextLoadModel" "tape") ∈ lw_all := lw_g (lw_at lw_m6 101 rfl) rfl
theorem q1411 : (Jvm.Cond.lays "NextLoadModel" "NextLoadModel" "taped" "I") ∈ lw_all := lw_g (lw_at lw_m6 102 rfl) rfl
theorem q1412 : (Jvm.Cond.soleField "NextLoadModel" "taped") ∈ lw_all := lw_g (lw_at lw_m6 103 rfl) rfl
theorem q1413 : (Jvm.Cond.lays "NextLoadModel" "NextLoadModel" "at" "I") ∈ lw_all := lw_g (lw_at lw_m6 104 rfl) rfl
theorem q1414 : (Jvm.Cond.soleField "NextLoadModel" "at") ∈ lw_all := lw_g (lw_at lw_m6 105 rfl) rfl
theorem q1415 : (Jvm.Cond.lays "NextLoadModel" "NextLoadModel" "to" "I") ∈ lw_all := lw_g (lw_at lw_m6 106 rfl) rfl
theorem q1416 : (Jvm.Cond.soleField "NextLoadModel" "to") ∈ lw_all := lw_g (lw_at lw_m6 107 rfl) rfl
theorem q1417 : (Jvm.Cond.lays "NextLoadModel" "NextLoadModel" "number" "I") ∈ lw_all := lw_g (lw_at lw_m6 108 rfl) rfl
theorem q1418 : (Jvm.Cond.soleField "NextLoadModel" "number") ∈ lw_all := lw_g (lw_at lw_m6 109 rfl) rfl
theorem q1419 : (Jvm.Cond.lays "NextLoadModel" "NextLoadModel" "readBody" "I") ∈ lw_all := lw_g (lw_at lw_m6 110 rfl) rfl
theorem q1420 : (Jvm.Cond.soleField "NextLoadModel" "readBody") ∈ lw_all := lw_g (lw_at lw_m6 111 rfl) rfl
theorem q1421 : (Jvm.Cond.lays "NextLoadModel" "NextLoadModel" "readLot" "I") ∈ lw_all := lw_g (lw_at lw_m6 112 rfl) rfl
theorem q1422 : (Jvm.Cond.soleField "NextLoadModel" "readLot") ∈ lw_all := lw_g (lw_at lw_m6 113 rfl) rfl
theorem q1423 : (Jvm.Cond.laysFinal "NextLoadModel" "NextLoadModel" "readPoints" "[I") ∈ lw_all := lw_g (lw_at lw_m6 114 rfl) rfl
theorem q1424 : (Jvm.Cond.soleField "NextLoadModel" "readPoints") ∈ lw_all := lw_g (lw_at lw_m6 115 rfl) rfl
theorem q1425 : (Jvm.Cond.laysFinal "NextLoadModel" "NextLoadModel" "readLoad" "[I") ∈ lw_all := lw_g (lw_at lw_m6 116 rfl) rfl
theorem q1426 : (Jvm.Cond.soleField "NextLoadModel" "readLoad") ∈ lw_all := lw_g (lw_at lw_m6 117 rfl) rfl
theorem q1427 : (Jvm.Cond.laysFinal "NextLoadModel" "NextLoadModel" "readOdds" "[I") ∈ lw_all := lw_g (lw_at lw_m6 118 rfl) rfl
theorem q1428 : (Jvm.Cond.soleField "NextLoadModel" "readOdds") ∈ lw_all := lw_g (lw_at lw_m6 119 rfl) rfl
theorem q1429 : (Jvm.Cond.laysFinal "NextLoadModel" "NextLoadModel" "readPlan" "[I") ∈ lw_all := lw_g (lw_at lw_m6 120 rfl) rfl
theorem q1430 : (Jvm.Cond.soleField "NextLoadModel" "readPlan") ∈ lw_all := lw_g (lw_at lw_m6 121 rfl) rfl
theorem q1431 : (Jvm.Cond.laysFinal "NextLoadModel" "NextLoadModel" "aim" "[I") ∈ lw_all := lw_g (lw_at lw_m6 122 rfl) rfl
theorem q1432 : (Jvm.Cond.soleField "NextLoadModel" "aim") ∈ lw_all := lw_g (lw_at lw_m6 123 rfl) rfl
theorem q1433 : (Jvm.Cond.laysFinal "NextLoadModel" "NextLoadModel" "chances" "[I") ∈ lw_all := lw_g (lw_at lw_m6 124 rfl) rfl
theorem q1434 : (Jvm.Cond.soleField "NextLoadModel" "chances") ∈ lw_all := lw_g (lw_at lw_m6 125 rfl) rfl
theorem q1435 : (Jvm.Cond.laysFinal "NextLoadModel" "NextLoadModel" "win" "[I") ∈ lw_all := lw_g (lw_at lw_m6 126 rfl) rfl
theorem q1436 : (Jvm.Cond.soleField "NextLoadModel" "win") ∈ lw_all := lw_g (lw_at lw_m6 127 rfl) rfl
theorem q1437 : (Jvm.Cond.laysFinal "NextLoadModel" "NextLoadModel" "behind" "[I") ∈ lw_all := lw_g (lw_at lw_m6 128 rfl) rfl
theorem q1438 : (Jvm.Cond.soleField "NextLoadModel" "behind") ∈ lw_all := lw_g (lw_at lw_m6 129 rfl) rfl
theorem q1439 : (Jvm.Cond.laysFinal "NextLoadModel" "NextLoadModel" "bestValue" "[I") ∈ lw_all := lw_g (lw_at lw_m6 130 rfl) rfl
theorem q1440 : (Jvm.Cond.soleField "NextLoadModel" "bestValue") ∈ lw_all := lw_g (lw_at lw_m6 131 rfl) rfl
theorem q1441 : (Jvm.Cond.lays "NextLoadModel" "NextLoadModel" "bestLoad" "I") ∈ lw_all := lw_g (lw_at lw_m6 132 rfl) rfl
theorem q1442 : (Jvm.Cond.soleField "NextLoadModel" "bestLoad") ∈ lw_all := lw_g (lw_at lw_m6 133 rfl) rfl
theorem q1443 : (Jvm.Cond.lays "NextLoadModel" "NextLoadModel" "nextLoad" "I") ∈ lw_all := lw_g (lw_at lw_m6 134 rfl) rfl
theorem q1444 : (Jvm.Cond.soleField "NextLoadModel" "nextLoad") ∈ lw_all := lw_g (lw_at lw_m6 135 rfl) rfl
theorem q1445 : (Jvm.Cond.lays "NextLoadModel" "NextLoadModel" "one" "I") ∈ lw_all := lw_g (lw_at lw_m6 136 rfl) rfl
theorem q1446 : (Jvm.Cond.soleField "NextLoadModel" "one") ∈ lw_all := lw_g (lw_at lw_m6 137 rfl) rfl
theorem q1447 : (Jvm.Cond.lays "NextLoadModel" "NextLoadModel" "other" "I") ∈ lw_all := lw_g (lw_at lw_m6 138 rfl) rfl
theorem q1448 : (Jvm.Cond.soleField "NextLoadModel" "other") ∈ lw_all := lw_g (lw_at lw_m6 139 rfl) rfl
theorem q1449 : (Jvm.Cond.laysFinal "NextLoadModel" "NextLoadModel" "duelValue" "[I") ∈ lw_all := lw_g (lw_at lw_m6 140 rfl) rfl
theorem q1450 : (Jvm.Cond.soleField "NextLoadModel" "duelValue") ∈ lw_all := lw_g (lw_at lw_m6 141 rfl) rfl
theorem q1451 : (Jvm.Cond.laysFinal "NextLoadModel" "NextLoadModel" "duelChoice" "[I") ∈ lw_all := lw_g (lw_at lw_m6 142 rfl) rfl
theorem q1452 : (Jvm.Cond.soleField "NextLoadModel" "duelChoice") ∈ lw_all := lw_g (lw_at lw_m6 143 rfl) rfl
theorem q1453 : (Jvm.Cond.lays "NextLoadModel" "NextLoadModel" "drawn" "I") ∈ lw_all := lw_g (lw_at lw_m6 144 rfl) rfl
theorem q1454 : (Jvm.Cond.soleField "NextLoadModel" "drawn") ∈ lw_all := lw_g (lw_at lw_m6 145 rfl) rfl
theorem q1455 : (Jvm.Cond.superclass "NextLoadModel" "java/lang/Object") ∈ lw_all := lw_g (lw_at lw_m6 146 rfl) rfl
theorem q1457 : (Jvm.Cond.instanceMethod ({ cls := "NextLoadModel", name := "thrown", desc := "()I" } : Jvm.MethodName)) ∈ lw_all := lw_g (lw_at lw_m6 148 rfl) rfl
theorem q1458 : (Jvm.Cond.selects "NextLoadModel" ({ cls := "NextLoadModel", name := "thrown", desc := "()I" } : Jvm.MethodName) ({ cls := "NextLoadModel", name := "thrown", desc := "()I" } : Jvm.MethodName)) ∈ lw_all := lw_g (lw_at lw_m6 149 rfl) rfl
theorem q1459 : (Jvm.Cond.code ({ cls := "NextLoadModel", name := "thrown", desc := "()I" } : Jvm.MethodName) prog_21_method_2_code (1 : Nat) (Option.some Jvm.ClassFile.FieldType.int)) ∈ lw_all := lw_g (lw_at lw_m6 150 rfl) rfl
theorem q1461 : (Jvm.Cond.instanceMethod ({ cls := "NextLoadModel", name := "sign", desc := "(I)I" } : Jvm.MethodName)) ∈ lw_all := lw_g (lw_at lw_m6 152 rfl) rfl
theorem q1462 : (Jvm.Cond.selects "NextLoadModel" ({ cls := "NextLoadModel", name := "sign", desc := "(I)I" } : Jvm.MethodName) ({ cls := "NextLoadModel", name := "sign", desc := "(I)I" } : Jvm.MethodName)) ∈ lw_all := lw_g (lw_at lw_m6 153 rfl) rfl
theorem q1463 : (Jvm.Cond.code ({ cls := "NextLoadModel", name := "sign", desc := "(I)I" } : Jvm.MethodName) prog_21_method_32_code (3 : Nat) (Option.some Jvm.ClassFile.FieldType.int)) ∈ lw_all := lw_g (lw_at lw_m6 154 rfl) rfl
theorem q1465 : (Jvm.Cond.instanceMethod ({ cls := "NextLoadModel", name := "end", desc := "(I)Z" } : Jvm.MethodName)) ∈ lw_all := lw_g (lw_at lw_m6 156 rfl) rfl
theorem q1466 : (Jvm.Cond.selects "NextLoadModel" ({ cls := "NextLoadModel", name := "end", desc := "(I)Z" } : Jvm.MethodName) ({ cls := "NextLoadModel", name := "end", desc := "(I)Z" } : Jvm.MethodName)) ∈ lw_all := lw_g (lw_at lw_m6 157 rfl) rfl
theorem q1467 : (Jvm.Cond.code ({ cls := "NextLoadModel", name := "end", desc := "(I)Z" } : Jvm.MethodName) prog_21_method_33_code (2 : Nat) (Option.some Jvm.ClassFile.FieldType.boolean)) ∈ lw_all := lw_g (lw_at lw_m6 158 rfl) rfl
theorem q1468 : (Jvm.Cond.methodLink "NextLoadModel" (87 : Nat) ({ cls := "NextLoadModel", name := "in", desc := "(JJJ)Z" } : Jvm.MethodName)) ∈ lw_all := lw_g (lw_at lw_m6 159 rfl) rfl
theorem q1469 : (Jvm.Cond.static ({ cls := "NextLoadModel", name := "in", desc := "(JJJ)Z" } : Jvm.MethodName)) ∈ lw_all := lw_g (lw_at lw_m6 160 rfl) rfl
theorem q1470 : (Jvm.Cond.code ({ cls := "NextLoadModel", name := "in", desc := "(JJJ)Z" } : Jvm.MethodName) prog_21_method_3_code (6 : Nat) (Option.some Jvm.ClassFile.FieldType.boolean)) ∈ lw_all := lw_g (lw_at lw_m6 161 rfl) rfl
theorem q1472 : (Jvm.Cond.instanceMethod ({ cls := "NextLoadModel", name := "enters", desc := "()I" } : Jvm.MethodName)) ∈ lw_all := lw_g (lw_at lw_m6 163 rfl) rfl
theorem q1473 : (Jvm.Cond.selects "NextLoadModel" ({ cls := "NextLoadModel", name := "enters", desc := "()I" } : Jvm.MethodName) ({ cls := "NextLoadModel", name := "enters", desc := "()I" } : Jvm.MethodName)) ∈ lw_all := lw_g (lw_at lw_m6 164 rfl) rfl
theorem q1474 : (Jvm.Cond.code ({ cls := "NextLoadModel", name := "enters", desc := "()I" } : Jvm.MethodName) prog_21_method_42_code (3 : Nat) (Option.some Jvm.ClassFile.FieldType.int)) ∈ lw_all := lw_g (lw_at lw_m6 165 rfl) rfl
theorem q1475 : (Jvm.Cond.methodLink "NextLoadModel" (227 : Nat) ({ cls := "NextLoadModel", name := "takesLifter", desc := "()Z" } : Jvm.MethodName)) ∈ lw_all := lw_g (lw_at lw_m6 166 rfl) rfl
theorem q1476 : (Jvm.Cond.privateMethod ({ cls := "NextLoadModel", name := "takesLifter", desc := "()Z" } : Jvm.MethodName)) ∈ lw_tbl := lw_at lw_m6 167 rfl
theorem q1477 : (Jvm.Cond.instanceMethod ({ cls := "NextLoadModel", name := "takesLifter", desc := "()Z" } : Jvm.MethodName)) ∈ lw_all := lw_g (lw_at lw_m6 168 rfl) rfl
theorem q1478 : (Jvm.Cond.code ({ cls := "NextLoadModel", name := "takesLifter", desc := "()Z" } : Jvm.MethodName) prog_21_method_41_code (2 : Nat) (Option.some Jvm.ClassFile.FieldType.boolean)) ∈ lw_all := lw_g (lw_at lw_m6 169 rfl) rfl
theorem q1479 : (Jvm.Cond.methodLink "NextLoadModel" (206 : Nat) ({ cls := "NextLoadModel", name := "takesNumber", desc := "(II)Z" } : Jvm.MethodName)) ∈ lw_all := lw_g (lw_at lw_m6 170 rfl) rfl
theorem q1480 : (Jvm.Cond.privateMethod ({ cls := "NextLoadModel", name := "takesNumber", desc := "(II)Z" } : Jvm.MethodName)) ∈ lw_tbl := lw_at lw_m6 171 rfl
theorem q1481 : (Jvm.Cond.instanceMethod ({ cls := "NextLoadModel", name := "takesNumber", desc := "(II)Z" } : Jvm.MethodName)) ∈ lw_all := lw_g (lw_at lw_m6 172 rfl) rfl
theorem q1482 : (Jvm.Cond.code ({ cls := "NextLoadModel", name := "takesNumber", desc := "(II)Z" } : Jvm.MethodName) prog_21_method_37_code (3 : Nat) (Option.some Jvm.ClassFile.FieldType.boolean)) ∈ lw_all := lw_g (lw_at lw_m6 173 rfl) rfl
theorem q1483 : (Jvm.Cond.methodLink "NextLoadModel" (203 : Nat) ({ cls := "NextLoadModel", name := "readsNumber", desc := "(II)Z" } : Jvm.MethodName)) ∈ lw_all := lw_g (lw_at lw_m6 174 rfl) rfl
theorem q1484 : (Jvm.Cond.privateMethod ({ cls := "NextLoadModel", name := "readsNumber", desc := "(II)Z" } : Jvm.MethodName)) ∈ lw_tbl := lw_at lw_m6 175 rfl
theorem q1485 : (Jvm.Cond.instanceMethod ({ cls := "NextLoadModel", name := "readsNumber", desc := "(II)Z" } : Jvm.MethodName)) ∈ lw_all := lw_g (lw_at lw_m6 176 rfl) rfl
theorem q1486 : (Jvm.Cond.code ({ cls := "NextLoadModel", name := "readsNumber", desc := "(II)Z" } : Jvm.MethodName) prog_21_method_36_code (4 : Nat) (Option.some Jvm.ClassFile.FieldType.boolean)) ∈ lw_all := lw_g (lw_at lw_m6 177 rfl) rfl
theorem q1487 : (Jvm.Cond.methodLink "NextLoadModel" (197 : Nat) ({ cls := "NextLoadModel", name := "isDigit", desc := "()Z" } : Jvm.MethodName)) ∈ lw_all := lw_g (lw_at lw_m6 178 rfl) rfl
theorem q1488 : (Jvm.Cond.privateMethod ({ cls := "NextLoadModel", name := "isDigit", desc := "()Z" } : Jvm.MethodName)) ∈ lw_tbl := lw_at lw_m6 179 rfl
theorem q1489 : (Jvm.Cond.instanceMethod ({ cls := "NextLoadModel", name := "isDigit", desc := "()Z" } : Jvm.MethodName)) ∈ lw_all := lw_g (lw_at lw_m6 180 rfl) rfl
theorem q1490 : (Jvm.Cond.code ({ cls := "NextLoadModel", name := "isDigit", desc := "()Z" } : Jvm.MethodName) prog_21_method_35_code (1 : Nat) (Option.some Jvm.ClassFile.FieldType.boolean)) ∈ lw_all := lw_g (lw_at lw_m6 181 rfl) rfl
theorem q1491 : (Jvm.Cond.constantLong "NextLoadModel" (193 : Nat) (48 : Int64)) ∈ lw_all := lw_g (lw_at lw_m6 182 rfl) rfl
theorem q1492 : (Jvm.Cond.constantLong "NextLoadModel" (195 : Nat) (57 : Int64)) ∈ lw_all := lw_g (lw_at lw_m6 183 rfl) rfl
theorem q1493 : (Jvm.Cond.methodLink "NextLoadModel" (209 : Nat) ({ cls := "NextLoadModel", name := "takes", desc := "(I)Z" } : Jvm.MethodName)) ∈ lw_all := lw_g (lw_at lw_m6 184 rfl) rfl
theorem q1494 : (Jvm.Cond.privateMethod ({ cls := "NextLoadModel", name := "takes", desc := "(I)Z" } : Jvm.MethodName)) ∈ lw_tbl := lw_at lw_m6 185 rfl
theorem q1495 : (Jvm.Cond.instanceMethod ({ cls := "NextLoadModel", name := "takes", desc := "(I)Z" } : Jvm.MethodName)) ∈ lw_all := lw_g (lw_at lw_m6 186 rfl) rfl
theorem q1496 : (Jvm.Cond.code ({ cls := "NextLoadModel", name := "takes", desc := "(I)Z" } : Jvm.MethodName) prog_21_method_34_code (2 : Nat) (Option.some Jvm.ClassFile.FieldType.boolean)) ∈ lw_all := lw_g (lw_at lw_m6 187 rfl) rfl
theorem q1497 : (Jvm.Cond.methodLink "NextLoadModel" (215 : Nat) ({ cls := "NextLoadModel", name := "takesLot", desc := "()Z" } : Jvm.MethodName)) ∈ lw_all := lw_g (lw_at lw_m6 188 rfl) rfl
theorem q1498 : (Jvm.Cond.privateMethod ({ cls := "NextLoadModel", name := "takesLot", desc := "()Z" } : Jvm.MethodName)) ∈ lw_tbl := lw_at lw_m6 189 rfl
theorem q1499 : (Jvm.Cond.instanceMethod ({ cls := "NextLoadModel", name := "takesLot", desc := "()Z" } : Jvm.MethodName)) ∈ lw_all := lw_g (lw_at lw_m6 190 rfl) rfl
theorem q1500 : (Jvm.Cond.code ({ cls := "NextLoadModel", name := "takesLot", desc := "()Z" } : Jvm.MethodName) prog_21_method_38_code (2 : Nat) (Option.some Jvm.ClassFile.FieldType.boolean)) ∈ lw_all := lw_g (lw_at lw_m6 191 rfl) rfl
theorem q1501 : (Jvm.Cond.methodLink "NextLoadModel" (221 : Nat) ({ cls := "NextLoadModel", name := "takesTable", desc := "(I)Z" } : Jvm.MethodName)) ∈ lw_all := lw_g (lw_at lw_m6 192 rfl) rfl
theorem q1502 : (Jvm.Cond.privateMethod ({ cls := "NextLoadModel", name := "takesTable", desc := "(I)Z" } : Jvm.MethodName)) ∈ lw_tbl := lw_at lw_m6 193 rfl
theorem q1503 : (Jvm.Cond.instanceMethod ({ cls := "NextLoadModel", name := "takesTable", desc := "(I)Z" } : Jvm.MethodName)) ∈ lw_all := lw_g (lw_at lw_m6 194 rfl) rfl
theorem q1504 : (Jvm.Cond.code ({ cls := "NextLoadModel", name := "takesTable", desc := "(I)Z" } : Jvm.MethodName) prog_21_method_39_code (5 : Nat) (Option.some Jvm.ClassFile.FieldType.boolean)) ∈ lw_all := lw_g (lw_at lw_m6 195 rfl) rfl
theorem q1505 : (Jvm.Cond.methodLink "NextLoadModel" (224 : Nat) ({ cls := "NextLoadModel", name := "takesPlan", desc := "(I)Z" } : Jvm.MethodName)) ∈ lw_all := lw_g (lw_at lw_m6 196 rfl) rfl
theorem q1506 : (Jvm.Cond.privateMethod ({ cls := "NextLoadModel", name := "takesPlan", desc := "(I)Z" } : Jvm.MethodName)) ∈ lw_tbl := lw_at lw_m6 197 rfl
theorem q1507 : (Jvm.Cond.instanceMethod ({ cls := "NextLoadModel", name := "takesPlan", desc := "(I)Z" } : Jvm.MethodName)) ∈ lw_all := lw_g (lw_at lw_m6 198 rfl) rfl
theorem q1508 : (Jvm.Cond.code ({ cls := "NextLoadModel", name := "takesPlan", desc := "(I)Z" } : Jvm.MethodName) prog_21_method_40_code (2 : Nat) (Option.some Jvm.ClassFile.FieldType.boolean)) ∈ lw_all := lw_g (lw_at lw_m6 199 rfl) rfl
theorem q1509 : (Jvm.Cond.methodLink "NextLoadModel" (230 : Nat) ({ cls := "NextLoadModel", name := "meetBegins", desc := "()V" } : Jvm.MethodName)) ∈ lw_all := lw_g (lw_at lw_m6 200 rfl) rfl
theorem q1510 : (Jvm.Cond.privateMethod ({ cls := "NextLoadModel", name := "meetBegins", desc := "()V" } : Jvm.MethodName)) ∈ lw_tbl := lw_at lw_m6 201 rfl
theorem q1511 : (Jvm.Cond.instanceMethod ({ cls := "NextLoadModel", name := "meetBegins", desc := "()V" } : Jvm.MethodName)) ∈ lw_all := lw_g (lw_at lw_m6 202 rfl) rfl
theorem q1512 : (Jvm.Cond.code ({ cls := "NextLoadModel", name := "meetBegins", desc := "()V" } : Jvm.MethodName) prog_21_method_18_code (2 : Nat) (Option.none : Option Jvm.ClassFile.FieldType)) ∈ lw_all := lw_g (lw_at lw_m6 203 rfl) rfl
theorem q1513 : (Jvm.Cond.methodLink "NextLoadModel" (137 : Nat) ({ cls := "NextLoadModel", name := "liftBegins", desc := "()V" } : Jvm.MethodName)) ∈ lw_all := lw_g (lw_at lw_m6 204 rfl) rfl
theorem q1514 : (Jvm.Cond.privateMethod ({ cls := "NextLoadModel", name := "liftBegins", desc := "()V" } : Jvm.MethodName)) ∈ lw_tbl := lw_at lw_m6 205 rfl
theorem q1515 : (Jvm.Cond.instanceMethod ({ cls := "NextLoadModel", name := "liftBegins", desc := "()V" } : Jvm.MethodName)) ∈ lw_all := lw_g (lw_at lw_m6 206 rfl) rfl
theorem q1516 : (Jvm.Cond.code ({ cls := "NextLoadModel", name := "liftBegins", desc := "()V" } : Jvm.MethodName) prog_21_method_17_code (2 : Nat) (Option.none : Option Jvm.ClassFile.FieldType)) ∈ lw_all := lw_g (lw_at lw_m6 207 rfl) rfl
theorem q1517 : (Jvm.Cond.methodLink "NextLoadModel" (113 : Nat) ({ cls := "NextLoadModel", name := "isOver", desc := "()Z" } : Jvm.MethodName)) ∈ lw_all := lw_g (lw_at lw_m6 208 rfl) rfl
theorem q1518 : (Jvm.Cond.privateMethod ({ cls := "NextLoadModel", name := "isOver", desc := "()Z" } : Jvm.MethodName)) ∈ lw_tbl := lw_at lw_m6 209 rfl
theorem q1519 : (Jvm.Cond.instanceMethod ({ cls := "NextLoadModel", name := "isOver", desc := "()Z" } : Jvm.MethodName)) ∈ lw_all := lw_g (lw_at lw_m6 210 rfl) rfl
theorem q1520 : (Jvm.Cond.code ({ cls := "NextLoadModel", name := "isOver", desc := "()Z" } : Jvm.MethodName) prog_21_method_13_code (1 : Nat) (Option.some Jvm.ClassFile.FieldType.boolean)) ∈ lw_all := lw_g (lw_at lw_m6 211 rfl) rfl
theorem q1521 : (Jvm.Cond.methodLink "NextLoadModel" (121 : Nat) ({ cls := "NextLoadModel", name := "isOut", desc := "(I)Z" } : Jvm.MethodName)) ∈ lw_all := lw_g (lw_at lw_m6 212 rfl) rfl
theorem q1522 : (Jvm.Cond.privateMethod ({ cls := "NextLoadModel", name := "isOut", desc := "(I)Z" } : Jvm.MethodName)) ∈ lw_tbl := lw_at lw_m6 213 rfl
theorem q1523 : (Jvm.Cond.instanceMethod ({ cls := "NextLoadModel", name := "isOut", desc := "(I)Z" } : Jvm.MethodName)) ∈ lw_all := lw_g (lw_at lw_m6 214 rfl) rfl
theorem q1524 : (Jvm.Cond.code ({ cls := "NextLoadModel", name := "isOut", desc := "(I)Z" } : Jvm.MethodName) prog_21_method_14_code (2 : Nat) (Option.some Jvm.ClassFile.FieldType.boolean)) ∈ lw_all := lw_g (lw_at lw_m6 215 rfl) rfl
theorem q1525 : (Jvm.Cond.methodLink "NextLoadModel" (106 : Nat) ({ cls := "NextLoadModel", name := "of", desc := "(II)I" } : Jvm.MethodName)) ∈ lw_all := lw_g (lw_at lw_m6 216 rfl) rfl
theorem q1526 : (Jvm.Cond.privateMethod ({ cls := "NextLoadModel", name := "of", desc := "(II)I" } : Jvm.MethodName)) ∈ lw_tbl := lw_at lw_m6 217 rfl
theorem q1527 : (Jvm.Cond.instanceMethod ({ cls := "NextLoadModel", name := "of", desc := "(II)I" } : Jvm.MethodName)) ∈ lw_all := lw_g (lw_at lw_m6 218 rfl) rfl
theorem q1528 : (Jvm.Cond.code ({ cls := "NextLoadModel", name := "of", desc := "(II)I" } : Jvm.MethodName) prog_21_method_11_code (3 : Nat) (Option.some Jvm.ClassFile.FieldType.int)) ∈ lw_all := lw_g (lw_at lw_m6 219 rfl) rfl
theorem q1529 : (Jvm.Cond.methodLink "NextLoadModel" (125 : Nat) ({ cls := "NextLoadModel", name := "planOf", desc := "(III)I" } : Jvm.MethodName)) ∈ lw_all := lw_g (lw_at lw_m6 220 rfl) rfl
theorem q1530 : (Jvm.Cond.privateMethod ({ cls := "NextLoadModel", name := "planOf", desc := "(III)I" } : Jvm.MethodName)) ∈ lw_tbl := lw_at lw_m6 221 rfl
theorem q1531 : (Jvm.Cond.instanceMethod ({ cls := "NextLoadModel", name := "planOf", desc := "(III)I" } : Jvm.MethodName)) ∈ lw_all := lw_g (lw_at lw_m6 222 rfl) rfl
theorem q1532 : (Jvm.Cond.code ({ cls := "NextLoadModel", name := "planOf", desc := "(III)I" } : Jvm.MethodName) prog_21_method_8_code (4 : Nat) (Option.some Jvm.ClassFile.FieldType.int)) ∈ lw_all := lw_g (lw_at lw_m6 223 rfl) rfl
theorem q1533 : (Jvm.Cond.methodLink "NextLoadModel" (109 : Nat) ({ cls := "NextLoadModel", name := "sets", desc := "(III)V" } : Jvm.MethodName)) ∈ lw_all := lw_g (lw_at lw_m6 224 rfl) rfl
theorem q1534 : (Jvm.Cond.privateMethod ({ cls := "NextLoadModel", name := "sets", desc := "(III)V" } : Jvm.MethodName)) ∈ lw_tbl := lw_at lw_m6 225 rfl
theorem q1535 : (Jvm.Cond.instanceMethod ({ cls := "NextLoadModel", name := "sets", desc := "(III)V" } : Jvm.MethodName)) ∈ lw_all := lw_g (lw_at lw_m6 226 rfl) rfl
theorem q1536 : (Jvm.Cond.code ({ cls := "NextLoadModel", name := "sets", desc := "(III)V" } : Jvm.MethodName) prog_21_method_12_code (4 : Nat) (Option.none : Option Jvm.ClassFile.FieldType)) ∈ lw_all := lw_g (lw_at lw_m6 227 rfl) rfl
theorem q1537 : (Jvm.Cond.methodLink "NextLoadModel" (128 : Nat) ({ cls := "NextLoadModel", name := "roundBegins", desc := "()V" } : Jvm.MethodName)) ∈ lw_all := lw_g (lw_at lw_m6 228 rfl) rfl
theorem q1538 : (Jvm.Cond.privateMethod ({ cls := "NextLoadModel", name := "roundBegins", desc := "()V" } : Jvm.MethodName)) ∈ lw_tbl := lw_at lw_m6 229 rfl
theorem q1539 : (Jvm.Cond.instanceMethod ({ cls := "NextLoadModel", name := "roundBegins", desc := "()V" } : Jvm.MethodName)) ∈ lw_all := lw_g (lw_at lw_m6 230 rfl) rfl
theorem q1540 : (Jvm.Cond.code ({ cls := "NextLoadModel", name := "roundBegins", desc := "()V" } : Jvm.MethodName) prog_21_method_16_code (2 : Nat) (Option.none : Option Jvm.ClassFile.FieldType)) ∈ lw_all := lw_g (lw_at lw_m6 231 rfl) rfl
theorem q1541 : (Jvm.Cond.methodLink "NextLoadModel" (117 : Nat) ({ cls := "NextLoadModel", name := "changesAtFirst", desc := "()I" } : Jvm.MethodName)) ∈ lw_all := lw_g (lw_at lw_m6 232 rfl) rfl
theorem q1542 : (Jvm.Cond.privateMethod ({ cls := "NextLoadModel", name := "changesAtFirst", desc := "()I" } : Jvm.MethodName)) ∈ lw_tbl := lw_at lw_m6 233 rfl
theorem q1543 : (Jvm.Cond.instanceMethod ({ cls := "NextLoadModel", name := "changesAtFirst", desc := "()I" } : Jvm.MethodName)) ∈ lw_all := lw_g (lw_at lw_m6 234 rfl) rfl
theorem q1544 : (Jvm.Cond.code ({ cls := "NextLoadModel", name := "changesAtFirst", desc := "()I" } : Jvm.MethodName) prog_21_method_15_code (1 : Nat) (Option.some Jvm.ClassFile.FieldType.int)) ∈ lw_all := lw_g (lw_at lw_m6 235 rfl) rfl
theorem q1546 : (Jvm.Cond.instanceMethod ({ cls := "NextLoadModel", name := "leaves", desc := "()I" } : Jvm.MethodName)) ∈ lw_all := lw_g (lw_at lw_m6 237 rfl) rfl
theorem q1547 : (Jvm.Cond.selects "NextLoadModel" ({ cls := "NextLoadModel", name := "leaves", desc := "()I" } : Jvm.MethodName) ({ cls := "NextLoadModel", name := "leaves", desc := "()I" } : Jvm.MethodName)) ∈ lw_all := lw_g (lw_at lw_m6 238 rfl) rfl
theorem q1548 : (Jvm.Cond.code ({ cls := "NextLoadModel", name := "leaves", desc := "()I" } : Jvm.MethodName) prog_21_method_43_code (1 : Nat) (Option.some Jvm.ClassFile.FieldType.int)) ∈ lw_all := lw_g (lw_at lw_m6 239 rfl) rfl
theorem q1550 : (Jvm.Cond.instanceMethod ({ cls := "NextLoadModel", name := "plans", desc := "(IIII)I" } : Jvm.MethodName)) ∈ lw_all := lw_g (lw_at lw_m7 1 rfl) rfl
theorem q1551 : (Jvm.Cond.selects "NextLoadModel" ({ cls := "NextLoadModel", name := "plans", desc := "(IIII)I" } : Jvm.MethodName) ({ cls := "NextLoadModel", name := "plans", desc := "(IIII)I" } : Jvm.MethodName)) ∈ lw_all := lw_g (lw_at lw_m7 2 rfl) rfl
theorem q1552 : (Jvm.Cond.code ({ cls := "NextLoadModel", name := "plans", desc := "(IIII)I" } : Jvm.MethodName) prog_21_method_44_code (6 : Nat) (Option.some Jvm.ClassFile.FieldType.int)) ∈ lw_all := lw_g (lw_at lw_m7 3 rfl) rfl
theorem q1553 : (Jvm.Cond.methodLink "NextLoadModel" (233 : Nat) ({ cls := "NextLoadModel", name := "isLifter", desc := "(I)Z" } : Jvm.MethodName)) ∈ lw_all := lw_g (lw_at lw_m7 4 rfl) rfl
theorem q1554 : (Jvm.Cond.privateMethod ({ cls := "NextLoadModel", name := "isLifter", desc := "(I)Z" } : Jvm.MethodName)) ∈ lw_tbl := lw_at lw_m7 5 rfl
theorem q1555 : (Jvm.Cond.instanceMethod ({ cls := "NextLoadModel", name := "isLifter", desc := "(I)Z" } : Jvm.MethodName)) ∈ lw_all := lw_g (lw_at lw_m7 6 rfl) rfl
theorem q1556 : (Jvm.Cond.code ({ cls := "NextLoadModel", name := "isLifter", desc := "(I)Z" } : Jvm.MethodName) prog_21_method_6_code (2 : Nat) (Option.some Jvm.ClassFile.FieldType.boolean)) ∈ lw_all := lw_g (lw_at lw_m7 7 rfl) rfl
theorem q1557 : (Jvm.Cond.methodLink "NextLoadModel" (236 : Nat) ({ cls := "NextLoadModel", name := "isLift", desc := "(I)Z" } : Jvm.MethodName)) ∈ lw_all := lw_g (lw_at lw_m7 8 rfl) rfl
theorem q1558 : (Jvm.Cond.static ({ cls := "NextLoadModel", name := "isLift", desc := "(I)Z" } : Jvm.MethodName)) ∈ lw_all := lw_g (lw_at lw_m7 9 rfl) rfl
theorem q1559 : (Jvm.Cond.code ({ cls := "NextLoadModel", name := "isLift", desc := "(I)Z" } : Jvm.MethodName) prog_21_method_7_code (1 : Nat) (Option.some Jvm.ClassFile.FieldType.boolean)) ∈ lw_all := lw_g (lw_at lw_m7 10 rfl) rfl
theorem q1560 : (Jvm.Cond.constantLong "NextLoadModel" (91 : Nat) (2 : Int64)) ∈ lw_all := lw_g (lw_at lw_m7 11 rfl) rfl
theorem q1561 : (Jvm.Cond.constantLong "NextLoadModel" (239 : Nat) (40 : Int64)) ∈ lw_all := lw_g (lw_at lw_m7 12 rfl) rfl
theorem q1562 : (Jvm.Cond.constantLong "NextLoadModel" (241 : Nat) (9 : Int64)) ∈ lw_all := lw_g (lw_at lw_m7 13 rfl) rfl
theorem q1564 : (Jvm.Cond.instanceMethod ({ cls := "NextLoadModel", name := "tires", desc := "(I)I" } : Jvm.MethodName)) ∈ lw_all := lw_g (lw_at lw_m7 15 rfl) rfl
theorem q1565 : (Jvm.Cond.selects "NextLoadModel" ({ cls := "NextLoadModel", name := "tires", desc := "(I)I" } : Jvm.MethodName) ({ cls := "NextLoadModel", name := "tires", desc := "(I)I" } : Jvm.MethodName)) ∈ lw_all := lw_g (lw_at lw_m7 16 rfl) rfl
theorem q1566 : (Jvm.Cond.code ({ cls := "NextLoadModel", name := "tires", desc := "(I)I" } : Jvm.MethodName) prog_21_method_45_code (3 : Nat) (Option.some Jvm.ClassFile.FieldType.int)) ∈ lw_all := lw_g (lw_at lw_m7 17 rfl) rfl
theorem q1567 : (Jvm.Cond.constantLong "NextLoadModel" (243 : Nat) (300 : Int64)) ∈ lw_all := lw_g (lw_at lw_m7 18 rfl) rfl
theorem q1569 : (Jvm.Cond.instanceMethod ({ cls := "NextLoadModel", name := "begins", desc := "()I" } : Jvm.MethodName)) ∈ lw_all := lw_g (lw_at lw_m7 20 rfl) rfl
theorem q1570 : (Jvm.Cond.selects "NextLoadModel" ({ cls := "NextLoadModel", name := "begins", desc := "()I" } : Jvm.MethodName) ({ cls := "NextLoadModel", name := "begins", desc := "()I" } : Jvm.MethodName)) ∈ lw_all := lw_g (lw_at lw_m7 21 rfl) rfl
theorem q1571 : (Jvm.Cond.code ({ cls := "NextLoadModel", name := "begins", desc := "()I" } : Jvm.MethodName) prog_21_method_46_code (1 : Nat) (Option.some Jvm.ClassFile.FieldType.int)) ∈ lw_all := lw_g (lw_at lw_m7 22 rfl) rfl
theorem q1573 : (Jvm.Cond.instanceMethod ({ cls := "NextLoadModel", name := "odds", desc := "(IIII)I" } : Jvm.MethodName)) ∈ lw_all := lw_g (lw_at lw_m7 24 rfl) rfl
theorem q1574 : (Jvm.Cond.selects "NextLoadModel" ({ cls := "NextLoadModel", name := "odds", desc := "(IIII)I" } : Jvm.MethodName) ({ cls := "NextLoadModel", name := "odds", desc := "(IIII)I" } : Jvm.MethodName)) ∈ lw_all := lw_g (lw_at lw_m7 25 rfl) rfl
theorem q1575 : (Jvm.Cond.code ({ cls := "NextLoadModel", name := "odds", desc := "(IIII)I" } : Jvm.MethodName) prog_21_method_47_code (5 : Nat) (Option.some Jvm.ClassFile.FieldType.int)) ∈ lw_all := lw_g (lw_at lw_m7 26 rfl) rfl
theorem q1576 : (Jvm.Cond.methodLink "NextLoadModel" (245 : Nat) ({ cls := "NextLoadModel", name := "oddsOf", desc := "(IIII)I" } : Jvm.MethodName)) ∈ lw_all := lw_g (lw_at lw_m7 27 rfl) rfl
theorem q1577 : (Jvm.Cond.privateMethod ({ cls := "NextLoadModel", name := "oddsOf", desc := "(IIII)I" } : Jvm.MethodName)) ∈ lw_tbl := lw_at lw_m7 28 rfl
theorem q1578 : (Jvm.Cond.instanceMethod ({ cls := "NextLoadModel", name := "oddsOf", desc := "(IIII)I" } : Jvm.MethodName)) ∈ lw_all := lw_g (lw_at lw_m7 29 rfl) rfl
theorem q1579 : (Jvm.Cond.code ({ cls := "NextLoadModel", name := "oddsOf", desc := "(IIII)I" } : Jvm.MethodName) prog_21_method_10_code (5 : Nat) (Option.some Jvm.ClassFile.FieldType.int)) ∈ lw_all := lw_g (lw_at lw_m7 30 rfl) rfl
theorem q1580 : (Jvm.Cond.methodLink "NextLoadModel" (93 : Nat) ({ cls := "NextLoadModel", name := "tableOdds", desc := "(III)I" } : Jvm.MethodName)) ∈ lw_all := lw_g (lw_at lw_m7 31 rfl) rfl
theorem q1581 : (Jvm.Cond.privateMethod ({ cls := "NextLoadModel", name := "tableOdds", desc := "(III)I" } : Jvm.MethodName)) ∈ lw_tbl := lw_at lw_m7 32 rfl
theorem q1582 : (Jvm.Cond.instanceMethod ({ cls := "NextLoadModel", name := "tableOdds", desc := "(III)I" } : Jvm.MethodName)) ∈ lw_all := lw_g (lw_at lw_m7 33 rfl) rfl
theorem q1583 : (Jvm.Cond.code ({ cls := "NextLoadModel", name := "tableOdds", desc := "(III)I" } : Jvm.MethodName) prog_21_method_9_code (9 : Nat) (Option.some Jvm.ClassFile.FieldType.int)) ∈ lw_all := lw_g (lw_at lw_m7 34 rfl) rfl
theorem q1584 : (Jvm.Cond.methodLink "NextLoadModel" (100 : Nat) ({ cls := "java/lang/Math", name := "max", desc := "(II)I" } : Jvm.MethodName)) ∈ lw_all := lw_g (lw_at lw_m7 35 rfl) rfl
theorem q1586 : (Jvm.Cond.instanceMethod ({ cls := "NextLoadModel", name := "lifter", desc := "(III)I" } : Jvm.MethodName)) ∈ lw_all := lw_g (lw_at lw_m7 37 rfl) rfl
theorem q1587 : (Jvm.Cond.selects "NextLoadModel" ({ cls := "NextLoadModel", name := "lifter", desc := "(III)I" } : Jvm.MethodName) ({ cls := "NextLoadModel", name := "lifter", desc := "(III)I" } : Jvm.MethodName)) ∈ lw_all := lw_g (lw_at lw_m7 38 rfl) rfl
theorem q1588 : (Jvm.Cond.code ({ cls := "NextLoadModel", name := "lifter", desc := "(III)I" } : Jvm.MethodName) prog_21_method_48_code (4 : Nat) (Option.some Jvm.ClassFile.FieldType.int)) ∈ lw_all := lw_g (lw_at lw_m7 39 rfl) rfl
theorem q1589 : (Jvm.Cond.methodLink "NextLoadModel" (249 : Nat) ({ cls := "NextLoadModel", name := "leastOf", desc := "(I)I" } : Jvm.MethodName)) ∈ lw_all := lw_g (lw_at lw_m7 40 rfl) rfl
theorem q1590 : (Jvm.Cond.privateMethod ({ cls := "NextLoadModel", name := "leastOf", desc := "(I)I" } : Jvm.MethodName)) ∈ lw_tbl := lw_at lw_m7 41 rfl
theorem q1591 : (Jvm.Cond.instanceMethod ({ cls := "NextLoadModel", name := "leastOf", desc := "(I)I" } : Jvm.MethodName)) ∈ lw_all := lw_g (lw_at lw_m7 42 rfl) rfl
theorem q1592 : (Jvm.Cond.code ({ cls := "NextLoadModel", name := "leastOf", desc := "(I)I" } : Jvm.MethodName) prog_21_method_26_code (3 : Nat) (Option.some Jvm.ClassFile.FieldType.int)) ∈ lw_all := lw_g (lw_at lw_m7 43 rfl) rfl
theorem q1593 : (Jvm.Cond.methodLink "NextLoadModel" (140 : Nat) ({ cls := "NextLoadModel", name := "isStill", desc := "(I)Z" } : Jvm.MethodName)) ∈ lw_all := lw_g (lw_at lw_m7 44 rfl) rfl
theorem q1594 : (Jvm.Cond.privateMethod ({ cls := "NextLoadModel", name := "isStill", desc := "(I)Z" } : Jvm.MethodName)) ∈ lw_tbl := lw_at lw_m7 45 rfl
theorem q1595 : (Jvm.Cond.instanceMethod ({ cls := "NextLoadModel", name := "isStill", desc := "(I)Z" } : Jvm.MethodName)) ∈ lw_all := lw_g (lw_at lw_m7 46 rfl) rfl
theorem q1596 : (Jvm.Cond.code ({ cls := "NextLoadModel", name := "isStill", desc := "(I)Z" } : Jvm.MethodName) prog_21_method_19_code (2 : Nat) (Option.some Jvm.ClassFile.FieldType.boolean)) ∈ lw_all := lw_g (lw_at lw_m7 47 rfl) rfl
theorem q1597 : (Jvm.Cond.methodLink "NextLoadModel" (160 : Nat) ({ cls := "NextLoadModel", name := "flag", desc := "(Z)I" } : Jvm.MethodName)) ∈ lw_all := lw_g (lw_at lw_m7 48 rfl) rfl
theorem q1598 : (Jvm.Cond.static ({ cls := "NextLoadModel", name := "flag", desc := "(Z)I" } : Jvm.MethodName)) ∈ lw_all := lw_g (lw_at lw_m7 49 rfl) rfl
theorem q1599 : (Jvm.Cond.code ({ cls := "NextLoadModel", name := "flag", desc := "(Z)I" } : Jvm.MethodName) prog_21_method_4_code (1 : Nat) (Option.some Jvm.ClassFile.FieldType.int)) ∈ lw_all := lw_g (lw_at lw_m7 50 rfl) rfl
theorem q1600 : (Jvm.Cond.methodLink "NextLoadModel" (167 : Nat) ({ cls := "NextLoadModel", name := "sumOf", desc := "(I)I" } : Jvm.MethodName)) ∈ lw_all := lw_g (lw_at lw_m7 51 rfl) rfl
theorem q1601 : (Jvm.Cond.privateMethod ({ cls := "NextLoadModel", name := "sumOf", desc := "(I)I" } : Jvm.MethodName)) ∈ lw_tbl := lw_at lw_m7 52 rfl
theorem q1602 : (Jvm.Cond.instanceMethod ({ cls := "NextLoadModel", name := "sumOf", desc := "(I)I" } : Jvm.MethodName)) ∈ lw_all := lw_g (lw_at lw_m7 53 rfl) rfl
theorem q1603 : (Jvm.Cond.code ({ cls := "NextLoadModel", name := "sumOf", desc := "(I)I" } : Jvm.MethodName) prog_21_method_27_code (2 : Nat) (Option.some Jvm.ClassFile.FieldType.int)) ∈ lw_all := lw_g (lw_at lw_m7 54 rfl) rfl
theorem q1605 : (Jvm.Cond.instanceMethod ({ cls := "NextLoadModel", name := "called", desc := "()I" } : Jvm.MethodName)) ∈ lw_all := lw_g (lw_at lw_m7 56 rfl) rfl
theorem q1606 : (Jvm.Cond.selects "NextLoadModel" ({ cls := "NextLoadModel", name := "called", desc := "()I" } : Jvm.MethodName) ({ cls := "NextLoadModel", name := "called", desc := "()I" } : Jvm.MethodName)) ∈ lw_all := lw_g (lw_at lw_m7 57 rfl) rfl
theorem q1607 : (Jvm.Cond.code ({ cls := "NextLoadModel", name := "called", desc := "()I" } : Jvm.MethodName) prog_21_method_49_code (2 : Nat) (Option.some Jvm.ClassFile.FieldType.int)) ∈ lw_all := lw_g (lw_at lw_m7 58 rfl) rfl
theorem q1608 : (Jvm.Cond.methodLink "NextLoadModel" (147 : Nat) ({ cls := "NextLoadModel", name := "calledNow", desc := "()I" } : Jvm.MethodName)) ∈ lw_all := lw_g (lw_at lw_m7 59 rfl) rfl
theorem q1609 : (Jvm.Cond.privateMethod ({ cls := "NextLoadModel", name := "calledNow", desc := "()I" } : Jvm.MethodName)) ∈ lw_tbl := lw_at lw_m7 60 rfl
theorem q1610 : (Jvm.Cond.instanceMethod ({ cls := "NextLoadModel", name := "calledNow", desc := "()I" } : Jvm.MethodName)) ∈ lw_all := lw_g (lw_at lw_m7 61 rfl) rfl
theorem q1611 : (Jvm.Cond.code ({ cls := "NextLoadModel", name := "calledNow", desc := "()I" } : Jvm.MethodName) prog_21_method_21_code (3 : Nat) (Option.some Jvm.ClassFile.FieldType.int)) ∈ lw_all := lw_g (lw_at lw_m7 62 rfl) rfl
theorem q1612 : (Jvm.Cond.methodLink "NextLoadModel" (143 : Nat) ({ cls := "NextLoadModel", name := "isCalledAhead", desc := "(II)Z" } : Jvm.MethodName)) ∈ lw_all := lw_g (lw_at lw_m7 63 rfl) rfl
theorem q1613 : (Jvm.Cond.privateMethod ({ cls := "NextLoadModel", name := "isCalledAhead", desc := "(II)Z" } : Jvm.MethodName)) ∈ lw_tbl := lw_at lw_m7 64 rfl
theorem q1614 : (Jvm.Cond.instanceMethod ({ cls := "NextLoadModel", name := "isCalledAhead", desc := "(II)Z" } : Jvm.MethodName)) ∈ lw_all := lw_g (lw_at lw_m7 65 rfl) rfl
theorem q1615 : (Jvm.Cond.code ({ cls := "NextLoadModel", name := "isCalledAhead", desc := "(II)Z" } : Jvm.MethodName) prog_21_method_20_code (3 : Nat) (Option.some Jvm.ClassFile.FieldType.boolean)) ∈ lw_all := lw_g (lw_at lw_m7 66 rfl) rfl
theorem q1616 : (Jvm.Cond.methodLink "NextLoadModel" (180 : Nat) ({ cls := "NextLoadModel", name := "notes", desc := "(J)V" } : Jvm.MethodName)) ∈ lw_all := lw_g (lw_at lw_m7 67 rfl) rfl
theorem q1617 : (Jvm.Cond.privateMethod ({ cls := "NextLoadModel", name := "notes", desc := "(J)V" } : Jvm.MethodName)) ∈ lw_tbl := lw_at lw_m7 68 rfl
theorem q1618 : (Jvm.Cond.instanceMethod ({ cls := "NextLoadModel", name := "notes", desc := "(J)V" } : Jvm.MethodName)) ∈ lw_all := lw_g (lw_at lw_m7 69 rfl) rfl
theorem q1619 : (Jvm.Cond.code ({ cls := "NextLoadModel", name := "notes", desc := "(J)V" } : Jvm.MethodName) prog_21_method_5_code (3 : Nat) (Option.none : Option Jvm.ClassFile.FieldType)) ∈ lw_all := lw_g (lw_at lw_m7 70 rfl) rfl
theorem q1621 : (Jvm.Cond.instanceMethod ({ cls := "NextLoadModel", name := "order", desc := "()I" } : Jvm.MethodName)) ∈ lw_all := lw_g (lw_at lw_m7 72 rfl) rfl
theorem q1622 : (Jvm.Cond.selects "NextLoadModel" ({ cls := "NextLoadModel", name := "order", desc := "()I" } : Jvm.MethodName) ({ cls := "NextLoadModel", name := "order", desc := "()I" } : Jvm.MethodName)) ∈ lw_all := lw_g (lw_at lw_m7 73 rfl) rfl
theorem q1623 : (Jvm.Cond.code ({ cls := "NextLoadModel", name := "order", desc := "()I" } : Jvm.MethodName) prog_21_method_51_code (3 : Nat) (Option.some Jvm.ClassFile.FieldType.int)) ∈ lw_all := lw_g (lw_at lw_m7 74 rfl) rfl
theorem q1624 : (Jvm.Cond.methodLink "NextLoadModel" (252 : Nat) ({ cls := "NextLoadModel", name := "calledAhead", desc := "(I)I" } : Jvm.MethodName)) ∈ lw_all := lw_g (lw_at lw_m7 75 rfl) rfl
theorem q1625 : (Jvm.Cond.privateMethod ({ cls := "NextLoadModel", name := "calledAhead", desc := "(I)I" } : Jvm.MethodName)) ∈ lw_tbl := lw_at lw_m7 76 rfl
theorem q1626 : (Jvm.Cond.instanceMethod ({ cls := "NextLoadModel", name := "calledAhead", desc := "(I)I" } : Jvm.MethodName)) ∈ lw_all := lw_g (lw_at lw_m7 77 rfl) rfl
theorem q1627 : (Jvm.Cond.code ({ cls := "NextLoadModel", name := "calledAhead", desc := "(I)I" } : Jvm.MethodName) prog_21_method_50_code (4 : Nat) (Option.some Jvm.ClassFile.FieldType.int)) ∈ lw_all := lw_g (lw_at lw_m7 78 rfl) rfl
theorem q1629 : (Jvm.Cond.instanceMethod ({ cls := "NextLoadModel", name := "asks", desc := "(II)I" } : Jvm.MethodName)) ∈ lw_all := lw_g (lw_at lw_m7 80 rfl) rfl
theorem q1630 : (Jvm.Cond.selects "NextLoadModel" ({ cls := "NextLoadModel", name := "asks", desc := "(II)I" } : Jvm.MethodName) ({ cls := "NextLoadModel", name := "asks", desc := "(II)I" } : Jvm.MethodName)) ∈ lw_all := lw_g (lw_at lw_m7 81 rfl) rfl
theorem q1631 : (Jvm.Cond.code ({ cls := "NextLoadModel", name := "asks", desc := "(II)I" } : Jvm.MethodName) prog_21_method_52_code (3 : Nat) (Option.some Jvm.ClassFile.FieldType.int)) ∈ lw_all := lw_g (lw_at lw_m7 82 rfl) rfl
theorem q1633 : (Jvm.Cond.instanceMethod ({ cls := "NextLoadModel", name := "tries", desc := "(Z)I" } : Jvm.MethodName)) ∈ lw_all := lw_g (lw_at lw_m7 84 rfl) rfl
theorem q1634 : (Jvm.Cond.selects "NextLoadModel" ({ cls := "NextLoadModel", name := "tries", desc := "(Z)I" } : Jvm.MethodName) ({ cls := "NextLoadModel", name := "tries", desc := "(Z)I" } : Jvm.MethodName)) ∈ lw_all := lw_g (lw_at lw_m7 85 rfl) rfl
theorem q1635 : (Jvm.Cond.code ({ cls := "NextLoadModel", name := "tries", desc := "(Z)I" } : Jvm.MethodName) prog_21_method_53_code (4 : Nat) (Option.some Jvm.ClassFile.FieldType.int)) ∈ lw_all := lw_g (lw_at lw_m7 86 rfl) rfl
theorem q1636 : (Jvm.Cond.methodLink "NextLoadModel" (255 : Nat) ({ cls := "NextLoadModel", name := "doesTry", desc := "(IZ)V" } : Jvm.MethodName)) ∈ lw_all := lw_g (lw_at lw_m7 87 rfl) rfl
theorem q1637 : (Jvm.Cond.privateMethod ({ cls := "NextLoadModel", name := "doesTry", desc := "(IZ)V" } : Jvm.MethodName)) ∈ lw_tbl := lw_at lw_m7 88 rfl
theorem q1638 : (Jvm.Cond.instanceMethod ({ cls := "NextLoadModel", name := "doesTry", desc := "(IZ)V" } : Jvm.MethodName)) ∈ lw_all := lw_g (lw_at lw_m7 89 rfl) rfl
theorem q1639 : (Jvm.Cond.code ({ cls := "NextLoadModel", name := "doesTry", desc := "(IZ)V" } : Jvm.MethodName) prog_21_method_25_code (5 : Nat) (Option.none : Option Jvm.ClassFile.FieldType)) ∈ lw_all := lw_g (lw_at lw_m7 90 rfl) rfl
theorem q1640 : (Jvm.Cond.methodLink "NextLoadModel" (153 : Nat) ({ cls := "NextLoadModel", name := "asksThen", desc := "(IIIIZ)I" } : Jvm.MethodName)) ∈ lw_all := lw_g (lw_at lw_m7 91 rfl) rfl
theorem q1641 : (Jvm.Cond.privateMethod ({ cls := "NextLoadModel", name := "asksThen", desc := "(IIIIZ)I" } : Jvm.MethodName)) ∈ lw_tbl := lw_at lw_m7 92 rfl
theorem q1642 : (Jvm.Cond.instanceMethod ({ cls := "NextLoadModel", name := "asksThen", desc := "(IIIIZ)I" } : Jvm.MethodName)) ∈ lw_all := lw_g (lw_at lw_m7 93 rfl) rfl
theorem q1643 : (Jvm.Cond.code ({ cls := "NextLoadModel", name := "asksThen", desc := "(IIIIZ)I" } : Jvm.MethodName) prog_21_method_24_code (7 : Nat) (Option.some Jvm.ClassFile.FieldType.int)) ∈ lw_all := lw_g (lw_at lw_m7 94 rfl) rfl
theorem q1644 : (Jvm.Cond.methodLink "NextLoadModel" (164 : Nat) ({ cls := "NextLoadModel", name := "goesOn", desc := "()V" } : Jvm.MethodName)) ∈ lw_all := lw_g (lw_at lw_m7 95 rfl) rfl
theorem q1645 : (Jvm.Cond.privateMethod ({ cls := "NextLoadModel", name := "goesOn", desc := "()V" } : Jvm.MethodName)) ∈ lw_tbl := lw_at lw_m7 96 rfl
theorem q1646 : (Jvm.Cond.instanceMethod ({ cls := "NextLoadModel", name := "goesOn", desc := "()V" } : Jvm.MethodName)) ∈ lw_all := lw_g (lw_at lw_m7 97 rfl) rfl
theorem q1647 : (Jvm.Cond.code ({ cls := "NextLoadModel", name := "goesOn", desc := "()V" } : Jvm.MethodName) prog_21_method_23_code (1 : Nat) (Option.none : Option Jvm.ClassFile.FieldType)) ∈ lw_all := lw_g (lw_at lw_m7 98 rfl) rfl
theorem q1648 : (Jvm.Cond.methodLink "NextLoadModel" (150 : Nat) ({ cls := "NextLoadModel", name := "liftEnds", desc := "()V" } : Jvm.MethodName)) ∈ lw_all := lw_g (lw_at lw_m7 99 rfl) rfl
theorem q1649 : (Jvm.Cond.privateMethod ({ cls := "NextLoadModel", name := "liftEnds", desc := "()V" } : Jvm.MethodName)) ∈ lw_tbl := lw_at lw_m7 100 rfl
theorem q1650 : (Jvm.Cond.instanceMethod ({ cls := "NextLoadModel", name := "liftEnds", desc := "()V" } : Jvm.MethodName)) ∈ lw_all := lw_g (lw_at lw_m7 101 rfl) rfl
theorem q1651 : (Jvm.Cond.code ({ cls := "NextLoadModel", name := "liftEnds", desc := "()V" } : Jvm.MethodName) prog_21_method_22_code (2 : Nat) (Option.none : Option Jvm.ClassFile.FieldType)) ∈ lw_all := lw_g (lw_at lw_m7 102 rfl) rfl
theorem q1653 : (Jvm.Cond.instanceMethod ({ cls := "NextLoadModel", name := "tried", desc := "(II)I" } : Jvm.MethodName)) ∈ lw_all := lw_g (lw_at lw_m7 104 rfl) rfl
theorem q1654 : (Jvm.Cond.selects "NextLoadModel" ({ cls := "NextLoadModel", name := "tried", desc := "(II)I" } : Jvm.MethodName) ({ cls := "NextLoadModel", name := "tried", desc := "(II)I" } : Jvm.MethodName)) ∈ lw_all := lw_g (lw_at lw_m7 105 rfl) rfl
theorem q1655 : (Jvm.Cond.code ({ cls := "NextLoadModel", name := "tried", desc := "(II)I" } : Jvm.MethodName) prog_21_method_54_code (3 : Nat) (Option.some Jvm.ClassFile.FieldType.int)) ∈ lw_all := lw_g (lw_at lw_m7 106 rfl) rfl
theorem q1656 : (Jvm.Cond.constantLong "NextLoadModel" (259 : Nat) (3 : Int64)) ∈ lw_all := lw_g (lw_at lw_m7 107 rfl) rfl
theorem q1658 : (Jvm.Cond.instanceMethod ({ cls := "NextLoadModel", name := "place", desc := "(I)I" } : Jvm.MethodName)) ∈ lw_all := lw_g (lw_at lw_m7 109 rfl) rfl
theorem q1659 : (Jvm.Cond.selects "NextLoadModel" ({ cls := "NextLoadModel", name := "place", desc := "(I)I" } : Jvm.MethodName) ({ cls := "NextLoadModel", name := "place", desc := "(I)I" } : Jvm.MethodName)) ∈ lw_all := lw_g (lw_at lw_m7 110 rfl) rfl
theorem q1660 : (Jvm.Cond.code ({ cls := "NextLoadModel", name := "place", desc := "(I)I" } : Jvm.MethodName) prog_21_method_55_code (2 : Nat) (Option.some Jvm.ClassFile.FieldType.int)) ∈ lw_all := lw_g (lw_at lw_m7 111 rfl) rfl
theorem q1661 : (Jvm.Cond.methodLink "NextLoadModel" (261 : Nat) ({ cls := "NextLoadModel", name := "entersPlaces", desc := "()V" } : Jvm.MethodName)) ∈ lw_all := lw_g (lw_at lw_m7 112 rfl) rfl
theorem q1662 : (Jvm.Cond.privateMethod ({ cls := "NextLoadModel", name := "entersPlaces", desc := "()V" } : Jvm.MethodName)) ∈ lw_tbl := lw_at lw_m7 113 rfl
theorem q1663 : (Jvm.Cond.instanceMethod ({ cls := "NextLoadModel", name := "entersPlaces", desc := "()V" } : Jvm.MethodName)) ∈ lw_all := lw_g (lw_at lw_m7 114 rfl) rfl
theorem q1664 : (Jvm.Cond.code ({ cls := "NextLoadModel", name := "entersPlaces", desc := "()V" } : Jvm.MethodName) prog_21_method_31_code (3 : Nat) (Option.none : Option Jvm.ClassFile.FieldType)) ∈ lw_all := lw_g (lw_at lw_m7 115 rfl) rfl
theorem q1665 : (Jvm.Cond.methodLink "NextLoadModel" (177 : Nat) ({ cls := "NextLoadModel", name := "aheadOf", desc := "(I)I" } : Jvm.MethodName)) ∈ lw_all := lw_g (lw_at lw_m7 116 rfl) rfl
theorem q1666 : (Jvm.Cond.privateMethod ({ cls := "NextLoadModel", name := "aheadOf", desc := "(I)I" } : Jvm.MethodName)) ∈ lw_tbl := lw_at lw_m7 117 rfl
theorem q1667 : (Jvm.Cond.instanceMethod ({ cls := "NextLoadModel", name := "aheadOf", desc := "(I)I" } : Jvm.MethodName)) ∈ lw_all := lw_g (lw_at lw_m7 118 rfl) rfl
theorem q1668 : (Jvm.Cond.code ({ cls := "NextLoadModel", name := "aheadOf", desc := "(I)I" } : Jvm.MethodName) prog_21_method_30_code (4 : Nat) (Option.some Jvm.ClassFile.FieldType.int)) ∈ lw_all := lw_g (lw_at lw_m7 119 rfl) rfl
theorem q1669 : (Jvm.Cond.methodLink "NextLoadModel" (174 : Nat) ({ cls := "NextLoadModel", name := "isAhead", desc := "(II)Z" } : Jvm.MethodName)) ∈ lw_all := lw_g (lw_at lw_m7 120 rfl) rfl
theorem q1670 : (Jvm.Cond.privateMethod ({ cls := "NextLoadModel", name := "isAhead", desc := "(II)Z" } : Jvm.MethodName)) ∈ lw_tbl := lw_at lw_m7 121 rfl
theorem q1671 : (Jvm.Cond.instanceMethod ({ cls := "NextLoadModel", name := "isAhead", desc := "(II)Z" } : Jvm.MethodName)) ∈ lw_all := lw_g (lw_at lw_m7 122 rfl) rfl
theorem q1672 : (Jvm.Cond.code ({ cls := "NextLoadModel", name := "isAhead", desc := "(II)Z" } : Jvm.MethodName) prog_21_method_29_code (3 : Nat) (Option.some Jvm.ClassFile.FieldType.boolean)) ∈ lw_all := lw_g (lw_at lw_m7 123 rfl) rfl
theorem q1673 : (Jvm.Cond.methodLink "NextLoadModel" (171 : Nat) ({ cls := "NextLoadModel", name := "isLighter", desc := "(II)Z" } : Jvm.MethodName)) ∈ lw_all := lw_g (lw_at lw_m7 124 rfl) rfl
theorem q1674 : (Jvm.Cond.privateMethod ({ cls := "NextLoadModel", name := "isLighter", desc := "(II)Z" } : Jvm.MethodName)) ∈ lw_tbl := lw_at lw_m7 125 rfl
theorem q1675 : (Jvm.Cond.instanceMethod ({ cls := "NextLoadModel", name := "isLighter", desc := "(II)Z" } : Jvm.MethodName)) ∈ lw_all := lw_g (lw_at lw_m7 126 rfl) rfl
theorem q1676 : (Jvm.Cond.code ({ cls := "NextLoadModel", name := "isLighter", desc := "(II)Z" } : Jvm.MethodName) prog_21_method_28_code (3 : Nat) (Option.some Jvm.ClassFile.FieldType.boolean)) ∈ lw_all := lw_g (lw_at lw_m7 127 rfl) rfl
theorem q1678 : (Jvm.Cond.instanceMethod ({ cls := "NextLoadModel", name := "slot", desc := "(II)I" } : Jvm.MethodName)) ∈ lw_all := lw_g (lw_at lw_m7 129 rfl) rfl
theorem q1679 : (Jvm.Cond.selects "NextLoadModel" ({ cls := "NextLoadModel", name := "slot", desc := "(II)I" } : Jvm.MethodName) ({ cls := "NextLoadModel", name := "slot", desc := "(II)I" } : Jvm.MethodName)) ∈ lw_all := lw_g (lw_at lw_m7 130 rfl) rfl
theorem q1680 : (Jvm.Cond.code ({ cls := "NextLoadModel", name := "slot", desc := "(II)I" } : Jvm.MethodName) prog_21_method_56_code (6 : Nat) (Option.some Jvm.ClassFile.FieldType.int)) ∈ lw_all := lw_g (lw_at lw_m7 131 rfl) rfl
theorem q1682 : (Jvm.Cond.instanceMethod ({ cls := "NextLoadModel", name := "needs", desc := "(II)I" } : Jvm.MethodName)) ∈ lw_all := lw_g (lw_at lw_m7 133 rfl) rfl
theorem q1683 : (Jvm.Cond.selects "NextLoadModel" ({ cls := "NextLoadModel", name := "needs", desc := "(II)I" } : Jvm.MethodName) ({ cls := "NextLoadModel", name := "needs", desc := "(II)I" } : Jvm.MethodName)) ∈ lw_all := lw_g (lw_at lw_m7 134 rfl) rfl
theorem q1684 : (Jvm.Cond.code ({ cls := "NextLoadModel", name := "needs", desc := "(II)I" } : Jvm.MethodName) prog_21_method_57_code (7 : Nat) (Option.some Jvm.ClassFile.FieldType.int)) ∈ lw_all := lw_g (lw_at lw_m7 135 rfl) rfl
theorem q1686 : (Jvm.Cond.instanceMethod ({ cls := "NextLoadModel", name := "mass", desc := "(I)I" } : Jvm.MethodName)) ∈ lw_all := lw_g (lw_at lw_m7 137 rfl) rfl
theorem q1687 : (Jvm.Cond.selects "NextLoadModel" ({ cls := "NextLoadModel", name := "mass", desc := "(I)I" } : Jvm.MethodName) ({ cls := "NextLoadModel", name := "mass", desc := "(I)I" } : Jvm.MethodName)) ∈ lw_all := lw_g (lw_at lw_m7 138 rfl) rfl
theorem q1688 : (Jvm.Cond.code ({ cls := "NextLoadModel", name := "mass", desc := "(I)I" } : Jvm.MethodName) prog_21_method_71_code (2 : Nat) (Option.some Jvm.ClassFile.FieldType.int)) ∈ lw_all := lw_g (lw_at lw_m7 139 rfl) rfl
theorem q1689 : (Jvm.Cond.methodLink "NextLoadModel" (301 : Nat) ({ cls := "NextLoadModel", name := "aimsMass", desc := "()V" } : Jvm.MethodName)) ∈ lw_all := lw_g (lw_at lw_m7 140 rfl) rfl
theorem q1690 : (Jvm.Cond.privateMethod ({ cls := "NextLoadModel", name := "aimsMass", desc := "()V" } : Jvm.MethodName)) ∈ lw_tbl := lw_at lw_m7 141 rfl
theorem q1691 : (Jvm.Cond.instanceMethod ({ cls := "NextLoadModel", name := "aimsMass", desc := "()V" } : Jvm.MethodName)) ∈ lw_all := lw_g (lw_at lw_m7 142 rfl) rfl
theorem q1692 : (Jvm.Cond.code ({ cls := "NextLoadModel", name := "aimsMass", desc := "()V" } : Jvm.MethodName) prog_21_method_58_code (2 : Nat) (Option.none : Option Jvm.ClassFile.FieldType)) ∈ lw_all := lw_g (lw_at lw_m7 143 rfl) rfl
theorem q1693 : (Jvm.Cond.methodLink "NextLoadModel" (287 : Nat) ({ cls := "NextLoadModel", name := "planNow", desc := "(I)I" } : Jvm.MethodName)) ∈ lw_all := lw_g (lw_at lw_m7 144 rfl) rfl
theorem q1694 : (Jvm.Cond.privateMethod ({ cls := "NextLoadModel", name := "planNow", desc := "(I)I" } : Jvm.MethodName)) ∈ lw_tbl := lw_at lw_m7 145 rfl
theorem q1695 : (Jvm.Cond.instanceMethod ({ cls := "NextLoadModel", name := "planNow", desc := "(I)I" } : Jvm.MethodName)) ∈ lw_all := lw_g (lw_at lw_m7 146 rfl) rfl
theorem q1696 : (Jvm.Cond.code ({ cls := "NextLoadModel", name := "planNow", desc := "(I)I" } : Jvm.MethodName) prog_21_method_65_code (3 : Nat) (Option.some Jvm.ClassFile.FieldType.int)) ∈ lw_all := lw_g (lw_at lw_m7 147 rfl) rfl
theorem q1697 : (Jvm.Cond.methodLink "NextLoadModel" (277 : Nat) ({ cls := "NextLoadModel", name := "roundOf", desc := "(I)I" } : Jvm.MethodName)) ∈ lw_all := lw_g (lw_at lw_m7 148 rfl) rfl
theorem q1698 : (Jvm.Cond.privateMethod ({ cls := "NextLoadModel", name := "roundOf", desc := "(I)I" } : Jvm.MethodName)) ∈ lw_tbl := lw_at lw_m7 149 rfl
theorem q1699 : (Jvm.Cond.instanceMethod ({ cls := "NextLoadModel", name := "roundOf", desc := "(I)I" } : Jvm.MethodName)) ∈ lw_all := lw_g (lw_at lw_m7 150 rfl) rfl
theorem q1700 : (Jvm.Cond.code ({ cls := "NextLoadModel", name := "roundOf", desc := "(I)I" } : Jvm.MethodName) prog_21_method_63_code (2 : Nat) (Option.some Jvm.ClassFile.FieldType.int)) ∈ lw_all := lw_g (lw_at lw_m7 151 rfl) rfl
theorem q1701 : (Jvm.Cond.methodLink "NextLoadModel" (280 : Nat) ({ cls := "NextLoadModel", name := "sumAhead", desc := "(I)I" } : Jvm.MethodName)) ∈ lw_all := lw_g (lw_at lw_m7 152 rfl) rfl
theorem q1702 : (Jvm.Cond.privateMethod ({ cls := "NextLoadModel", name := "sumAhead", desc := "(I)I" } : Jvm.MethodName)) ∈ lw_tbl := lw_at lw_m7 153 rfl
theorem q1703 : (Jvm.Cond.instanceMethod ({ cls := "NextLoadModel", name := "sumAhead", desc := "(I)I" } : Jvm.MethodName)) ∈ lw_all := lw_g (lw_at lw_m7 154 rfl) rfl
theorem q1704 : (Jvm.Cond.code ({ cls := "NextLoadModel", name := "sumAhead", desc := "(I)I" } : Jvm.MethodName) prog_21_method_64_code (4 : Nat) (Option.some Jvm.ClassFile.FieldType.int)) ∈ lw_all := lw_g (lw_at lw_m7 155 rfl) rfl
theorem q1705 : (Jvm.Cond.methodLink "NextLoadModel" (270 : Nat) ({ cls := "NextLoadModel", name := "planned", desc := "(IIIIIII)I" } : Jvm.MethodName)) ∈ lw_all := lw_g (lw_at lw_m7 156 rfl) rfl
theorem q1706 : (Jvm.Cond.privateMethod ({ cls := "NextLoadModel", name := "planned", desc := "(IIIIIII)I" } : Jvm.MethodName)) ∈ lw_tbl := lw_at lw_m7 157 rfl
theorem q1707 : (Jvm.Cond.instanceMethod ({ cls := "NextLoadModel", name := "planned", desc := "(IIIIIII)I" } : Jvm.MethodName)) ∈ lw_all := lw_g (lw_at lw_m7 158 rfl) rfl
theorem q1708 : (Jvm.Cond.code ({ cls := "NextLoadModel", name := "planned", desc := "(IIIIIII)I" } : Jvm.MethodName) prog_21_method_61_code (10 : Nat) (Option.some Jvm.ClassFile.FieldType.int)) ∈ lw_all := lw_g (lw_at lw_m7 159 rfl) rfl
theorem q1709 : (Jvm.Cond.methodLink "NextLoadModel" (267 : Nat) ({ cls := "NextLoadModel", name := "plannedBehind", desc := "(IIII)I" } : Jvm.MethodName)) ∈ lw_all := lw_g (lw_at lw_m7 160 rfl) rfl
theorem q1710 : (Jvm.Cond.privateMethod ({ cls := "NextLoadModel", name := "plannedBehind", desc := "(IIII)I" } : Jvm.MethodName)) ∈ lw_tbl := lw_at lw_m7 161 rfl
theorem q1711 : (Jvm.Cond.instanceMethod ({ cls := "NextLoadModel", name := "plannedBehind", desc := "(IIII)I" } : Jvm.MethodName)) ∈ lw_all := lw_g (lw_at lw_m7 162 rfl) rfl
theorem q1712 : (Jvm.Cond.code ({ cls := "NextLoadModel", name := "plannedBehind", desc := "(IIII)I" } : Jvm.MethodName) prog_21_method_62_code (5 : Nat) (Option.some Jvm.ClassFile.FieldType.int)) ∈ lw_all := lw_g (lw_at lw_m7 163 rfl) rfl
theorem q1713 : (Jvm.Cond.methodLink "NextLoadModel" (274 : Nat) ({ cls := "NextLoadModel", name := "expected", desc := "(III)I" } : Jvm.MethodName)) ∈ lw_all := lw_g (lw_at lw_m7 164 rfl) rfl
theorem q1714 : (Jvm.Cond.static ({ cls := "NextLoadModel", name := "expected", desc := "(III)I" } : Jvm.MethodName)) ∈ lw_all := lw_g (lw_at lw_m7 165 rfl) rfl
theorem q1715 : (Jvm.Cond.code ({ cls := "NextLoadModel", name := "expected", desc := "(III)I" } : Jvm.MethodName) prog_21_method_60_code (3 : Nat) (Option.some Jvm.ClassFile.FieldType.int)) ∈ lw_all := lw_g (lw_at lw_m7 166 rfl) rfl
theorem q1716 : (Jvm.Cond.constantLong "NextLoadModel" (265 : Nat) (1000 : Int64)) ∈ lw_all := lw_g (lw_at lw_m7 167 rfl) rfl
theorem q1718 : (Jvm.Cond.instanceMethod ({ cls := "NextLoadModel", name := "chance", desc := "(II)I" } : Jvm.MethodName)) ∈ lw_all := lw_g (lw_at lw_m7 169 rfl) rfl
theorem q1719 : (Jvm.Cond.selects "NextLoadModel" ({ cls := "NextLoadModel", name := "chance", desc := "(II)I" } : Jvm.MethodName) ({ cls := "NextLoadModel", name := "chance", desc := "(II)I" } : Jvm.MethodName)) ∈ lw_all := lw_g (lw_at lw_m7 170 rfl) rfl
theorem q1720 : (Jvm.Cond.code ({ cls := "NextLoadModel", name := "chance", desc := "(II)I" } : Jvm.MethodName) prog_21_method_73_code (3 : Nat) (Option.some Jvm.ClassFile.FieldType.int)) ∈ lw_all := lw_g (lw_at lw_m7 171 rfl) rfl
theorem q1721 : (Jvm.Cond.methodLink "NextLoadModel" (306 : Nat) ({ cls := "NextLoadModel", name := "isTotal", desc := "(I)Z" } : Jvm.MethodName)) ∈ lw_all := lw_g (lw_at lw_m7 172 rfl) rfl
theorem q1722 : (Jvm.Cond.static ({ cls := "NextLoadModel", name := "isTotal", desc := "(I)Z" } : Jvm.MethodName)) ∈ lw_all := lw_g (lw_at lw_m7 173 rfl) rfl
theorem q1723 : (Jvm.Cond.code ({ cls := "NextLoadModel", name := "isTotal", desc := "(I)Z" } : Jvm.MethodName) prog_21_method_72_code (1 : Nat) (Option.some Jvm.ClassFile.FieldType.boolean)) ∈ lw_all := lw_g (lw_at lw_m7 174 rfl) rfl
theorem q1724 : (Jvm.Cond.constantLong "NextLoadModel" (304 : Nat) (121 : Int64)) ∈ lw_all := lw_g (lw_at lw_m7 175 rfl) rfl
theorem q1725 : (Jvm.Cond.methodLink "NextLoadModel" (290 : Nat) ({ cls := "NextLoadModel", name := "chanceOf", desc := "(II)I" } : Jvm.MethodName)) ∈ lw_all := lw_g (lw_at lw_m7 176 rfl) rfl
theorem q1726 : (Jvm.Cond.privateMethod ({ cls := "NextLoadModel", name := "chanceOf", desc := "(II)I" } : Jvm.MethodName)) ∈ lw_tbl := lw_at lw_m7 177 rfl
theorem q1727 : (Jvm.Cond.instanceMethod ({ cls := "NextLoadModel", name := "chanceOf", desc := "(II)I" } : Jvm.MethodName)) ∈ lw_all := lw_g (lw_at lw_m7 178 rfl) rfl
theorem q1728 : (Jvm.Cond.code ({ cls := "NextLoadModel", name := "chanceOf", desc := "(II)I" } : Jvm.MethodName) prog_21_method_66_code (3 : Nat) (Option.some Jvm.ClassFile.FieldType.int)) ∈ lw_all := lw_g (lw_at lw_m7 179 rfl) rfl
theorem q1729 : (Jvm.Cond.methodLink "NextLoadModel" (283 : Nat) ({ cls := "NextLoadModel", name := "aimsReach", desc := "(I)V" } : Jvm.MethodName)) ∈ lw_all := lw_g (lw_at lw_m7 180 rfl) rfl
theorem q1730 : (Jvm.Cond.privateMethod ({ cls := "NextLoadModel", name := "aimsReach", desc := "(I)V" } : Jvm.MethodName)) ∈ lw_tbl := lw_at lw_m7 181 rfl
theorem q1731 : (Jvm.Cond.instanceMethod ({ cls := "NextLoadModel", name := "aimsReach", desc := "(I)V" } : Jvm.MethodName)) ∈ lw_all := lw_g (lw_at lw_m7 182 rfl) rfl
theorem q1732 : (Jvm.Cond.code ({ cls := "NextLoadModel", name := "aimsReach", desc := "(I)V" } : Jvm.MethodName) prog_21_method_59_code (3 : Nat) (Option.none : Option Jvm.ClassFile.FieldType)) ∈ lw_all := lw_g (lw_at lw_m7 183 rfl) rfl
theorem q1733 : (Jvm.Cond.constant "NextLoadModel" (264 : Nat) (1000000 : Int32)) ∈ lw_all := lw_g (lw_at lw_m7 184 rfl) rfl
theorem q1735 : (Jvm.Cond.instanceMethod ({ cls := "NextLoadModel", name := "likeliest", desc := "(I)I" } : Jvm.MethodName)) ∈ lw_all := lw_g (lw_at lw_m7 186 rfl) rfl
theorem q1736 : (Jvm.Cond.selects "NextLoadModel" ({ cls := "NextLoadModel", name := "likeliest", desc := "(I)I" } : Jvm.MethodName) ({ cls := "NextLoadModel", name := "likeliest", desc := "(I)I" } : Jvm.MethodName)) ∈ lw_all := lw_g (lw_at lw_m7 187 rfl) rfl
theorem q1737 : (Jvm.Cond.code ({ cls := "NextLoadModel", name := "likeliest", desc := "(I)I" } : Jvm.MethodName) prog_21_method_74_code (4 : Nat) (Option.some Jvm.ClassFile.FieldType.int)) ∈ lw_all := lw_g (lw_at lw_m7 188 rfl) rfl
theorem q1738 : (Jvm.Cond.methodLink "NextLoadModel" (293 : Nat) ({ cls := "NextLoadModel", name := "laysChances", desc := "(I)V" } : Jvm.MethodName)) ∈ lw_all := lw_g (lw_at lw_m7 189 rfl) rfl
theorem q1739 : (Jvm.Cond.privateMethod ({ cls := "NextLoadModel", name := "laysChances", desc := "(I)V" } : Jvm.MethodName)) ∈ lw_tbl := lw_at lw_m7 190 rfl
theorem q1740 : (Jvm.Cond.instanceMethod ({ cls := "NextLoadModel", name := "laysChances", desc := "(I)V" } : Jvm.MethodName)) ∈ lw_all := lw_g (lw_at lw_m7 191 rfl) rfl
theorem q1741 : (Jvm.Cond.code ({ cls := "NextLoadModel", name := "laysChances", desc := "(I)V" } : Jvm.MethodName) prog_21_method_68_code (3 : Nat) (Option.none : Option Jvm.ClassFile.FieldType)) ∈ lw_all := lw_g (lw_at lw_m7 192 rfl) rfl
theorem q1743 : (Jvm.Cond.instanceMethod ({ cls := "NextLoadModel", name := "beats", desc := "(II)I" } : Jvm.MethodName)) ∈ lw_all := lw_g (lw_at lw_m7 194 rfl) rfl
theorem q1744 : (Jvm.Cond.selects "NextLoadModel" ({ cls := "NextLoadModel", name := "beats", desc := "(II)I" } : Jvm.MethodName) ({ cls := "NextLoadModel", name := "beats", desc := "(II)I" } : Jvm.MethodName)) ∈ lw_all := lw_g (lw_at lw_m7 195 rfl) rfl
theorem q1745 : (Jvm.Cond.code ({ cls := "NextLoadModel", name := "beats", desc := "(II)I" } : Jvm.MethodName) prog_21_method_75_code (3 : Nat) (Option.some Jvm.ClassFile.FieldType.int)) ∈ lw_all := lw_g (lw_at lw_m7 196 rfl) rfl
theorem q1746 : (Jvm.Cond.methodLink "NextLoadModel" (309 : Nat) ({ cls := "NextLoadModel", name := "aimsBeat", desc := "(II)V" } : Jvm.MethodName)) ∈ lw_all := lw_g (lw_at lw_m7 197 rfl) rfl
theorem q1747 : (Jvm.Cond.privateMethod ({ cls := "NextLoadModel", name := "aimsBeat", desc := "(II)V" } : Jvm.MethodName)) ∈ lw_tbl := lw_at lw_m7 198 rfl
theorem q1748 : (Jvm.Cond.instanceMethod ({ cls := "NextLoadModel", name := "aimsBeat", desc := "(II)V" } : Jvm.MethodName)) ∈ lw_all := lw_g (lw_at lw_m7 199 rfl) rfl
theorem q1749 : (Jvm.Cond.code ({ cls := "NextLoadModel", name := "aimsBeat", desc := "(II)V" } : Jvm.MethodName) prog_21_method_69_code (4 : Nat) (Option.none : Option Jvm.ClassFile.FieldType)) ∈ lw_all := lw_g (lw_at lw_m7 200 rfl) rfl
theorem q1750 : (Jvm.Cond.methodLink "NextLoadModel" (296 : Nat) ({ cls := "NextLoadModel", name := "beatBy", desc := "(III)I" } : Jvm.MethodName)) ∈ lw_all := lw_g (lw_at lw_m7 201 rfl) rfl
theorem q1751 : (Jvm.Cond.privateMethod ({ cls := "NextLoadModel", name := "beatBy", desc := "(III)I" } : Jvm.MethodName)) ∈ lw_tbl := lw_at lw_m7 202 rfl
theorem q1752 : (Jvm.Cond.instanceMethod ({ cls := "NextLoadModel", name := "beatBy", desc := "(III)I" } : Jvm.MethodName)) ∈ lw_all := lw_g (lw_at lw_m7 203 rfl) rfl
theorem q1753 : (Jvm.Cond.code ({ cls := "NextLoadModel", name := "beatBy", desc := "(III)I" } : Jvm.MethodName) prog_21_method_67_code (4 : Nat) (Option.some Jvm.ClassFile.FieldType.int)) ∈ lw_all := lw_g (lw_at lw_m7 204 rfl) rfl
theorem q1755 : (Jvm.Cond.instanceMethod ({ cls := "NextLoadModel", name := "wins", desc := "(I)I" } : Jvm.MethodName)) ∈ lw_all := lw_g (lw_at lw_m7 206 rfl) rfl
theorem q1756 : (Jvm.Cond.selects "NextLoadModel" ({ cls := "NextLoadModel", name := "wins", desc := "(I)I" } : Jvm.MethodName) ({ cls := "NextLoadModel", name := "wins", desc := "(I)I" } : Jvm.MethodName)) ∈ lw_all := lw_g (lw_at lw_m7 207 rfl) rfl
theorem q1757 : (Jvm.Cond.code ({ cls := "NextLoadModel", name := "wins", desc := "(I)I" } : Jvm.MethodName) prog_21_method_77_code (3 : Nat) (Option.some Jvm.ClassFile.FieldType.int)) ∈ lw_all := lw_g (lw_at lw_m7 208 rfl) rfl
theorem q1758 : (Jvm.Cond.methodLink "NextLoadModel" (316 : Nat) ({ cls := "NextLoadModel", name := "winOf", desc := "(I)I" } : Jvm.MethodName)) ∈ lw_all := lw_g (lw_at lw_m7 209 rfl) rfl
theorem q1759 : (Jvm.Cond.privateMethod ({ cls := "NextLoadModel", name := "winOf", desc := "(I)I" } : Jvm.MethodName)) ∈ lw_tbl := lw_at lw_m7 210 rfl
theorem q1760 : (Jvm.Cond.instanceMethod ({ cls := "NextLoadModel", name := "winOf", desc := "(I)I" } : Jvm.MethodName)) ∈ lw_all := lw_g (lw_at lw_m7 211 rfl) rfl
theorem q1761 : (Jvm.Cond.code ({ cls := "NextLoadModel", name := "winOf", desc := "(I)I" } : Jvm.MethodName) prog_21_method_76_code (2 : Nat) (Option.some Jvm.ClassFile.FieldType.int)) ∈ lw_all := lw_g (lw_at lw_m7 212 rfl) rfl
theorem q1762 : (Jvm.Cond.methodLink "NextLoadModel" (313 : Nat) ({ cls := "NextLoadModel", name := "aimsWin", desc := "(I)V" } : Jvm.MethodName)) ∈ lw_all := lw_g (lw_at lw_m7 213 rfl) rfl
theorem q1763 : (Jvm.Cond.privateMethod ({ cls := "NextLoadModel", name := "aimsWin", desc := "(I)V" } : Jvm.MethodName)) ∈ lw_tbl := lw_at lw_m7 214 rfl
theorem q1764 : (Jvm.Cond.instanceMethod ({ cls := "NextLoadModel", name := "aimsWin", desc := "(I)V" } : Jvm.MethodName)) ∈ lw_all := lw_g (lw_at lw_m7 215 rfl) rfl
theorem q1765 : (Jvm.Cond.code ({ cls := "NextLoadModel", name := "aimsWin", desc := "(I)V" } : Jvm.MethodName) prog_21_method_70_code (4 : Nat) (Option.none : Option Jvm.ClassFile.FieldType)) ∈ lw_all := lw_g (lw_at lw_m7 216 rfl) rfl
theorem q1766 : (Jvm.Cond.constantLong "NextLoadModel" (299 : Nat) (1000000 : Int64)) ∈ lw_all := lw_g (lw_at lw_m7 217 rfl) rfl
theorem q1768 : (Jvm.Cond.instanceMethod ({ cls := "NextLoadModel", name := "bombs", desc := "(I)I" } : Jvm.MethodName)) ∈ lw_all := lw_g (lw_at lw_m7 219 rfl) rfl
theorem q1769 : (Jvm.Cond.selects "NextLoadModel" ({ cls := "NextLoadModel", name := "bombs", desc := "(I)I" } : Jvm.MethodName) ({ cls := "NextLoadModel", name := "bombs", desc := "(I)I" } : Jvm.MethodName)) ∈ lw_all := lw_g (lw_at lw_m7 220 rfl) rfl
theorem q1770 : (Jvm.Cond.code ({ cls := "NextLoadModel", name := "bombs", desc := "(I)I" } : Jvm.MethodName) prog_21_method_79_code (6 : Nat) (Option.some Jvm.ClassFile.FieldType.int)) ∈ lw_all := lw_g (lw_at lw_m7 221 rfl) rfl
theorem q1771 : (Jvm.Cond.methodLink "NextLoadModel" (319 : Nat) ({ cls := "NextLoadModel", name := "failsToo", desc := "(II)I" } : Jvm.MethodName)) ∈ lw_all := lw_g (lw_at lw_m7 222 rfl) rfl
theorem q1772 : (Jvm.Cond.static ({ cls := "NextLoadModel", name := "failsToo", desc := "(II)I" } : Jvm.MethodName)) ∈ lw_all := lw_g (lw_at lw_m7 223 rfl) rfl
theorem q1773 : (Jvm.Cond.code ({ cls := "NextLoadModel", name := "failsToo", desc := "(II)I" } : Jvm.MethodName) prog_21_method_78_code (2 : Nat) (Option.some Jvm.ClassFile.FieldType.int)) ∈ lw_all := lw_g (lw_at lw_m7 224 rfl) rfl
theorem q1775 : (Jvm.Cond.instanceMethod ({ cls := "NextLoadModel", name := "opener", desc := "(III)I" } : Jvm.MethodName)) ∈ lw_all := lw_g (lw_at lw_m7 226 rfl) rfl
theorem q1776 : (Jvm.Cond.selects "NextLoadModel" ({ cls := "NextLoadModel", name := "opener", desc := "(III)I" } : Jvm.MethodName) ({ cls := "NextLoadModel", name := "opener", desc := "(III)I" } : Jvm.MethodName)) ∈ lw_all := lw_g (lw_at lw_m7 227 rfl) rfl
theorem q1777 : (Jvm.Cond.code ({ cls := "NextLoadModel", name := "opener", desc := "(III)I" } : Jvm.MethodName) prog_21_method_80_code (7 : Nat) (Option.some Jvm.ClassFile.FieldType.int)) ∈ lw_all := lw_g (lw_at lw_m7 228 rfl) rfl
theorem q1779 : (Jvm.Cond.instanceMethod ({ cls := "NextLoadModel", name := "heavy", desc := "(I)I" } : Jvm.MethodName)) ∈ lw_all := lw_g (lw_at lw_m7 230 rfl) rfl
theorem q1780 : (Jvm.Cond.selects "NextLoadModel" ({ cls := "NextLoadModel", name := "heavy", desc := "(I)I" } : Jvm.MethodName) ({ cls := "NextLoadModel", name := "heavy", desc := "(I)I" } : Jvm.MethodName)) ∈ lw_all := lw_g (lw_at lw_m7 231 rfl) rfl
theorem q1781 : (Jvm.Cond.code ({ cls := "NextLoadModel", name := "heavy", desc := "(I)I" } : Jvm.MethodName) prog_21_method_90_code (2 : Nat) (Option.some Jvm.ClassFile.FieldType.int)) ∈ lw_all := lw_g (lw_at lw_m7 232 rfl) rfl
theorem q1782 : (Jvm.Cond.methodLink "NextLoadModel" (358 : Nat) ({ cls := "NextLoadModel", name := "tellsFree", desc := "(I)I" } : Jvm.MethodName)) ∈ lw_all := lw_g (lw_at lw_m7 233 rfl) rfl
theorem q1783 : (Jvm.Cond.privateMethod ({ cls := "NextLoadModel", name := "tellsFree", desc := "(I)I" } : Jvm.MethodName)) ∈ lw_tbl := lw_at lw_m7 234 rfl
theorem q1784 : (Jvm.Cond.instanceMethod ({ cls := "NextLoadModel", name := "tellsFree", desc := "(I)I" } : Jvm.MethodName)) ∈ lw_all := lw_g (lw_at lw_m7 235 rfl) rfl
theorem q1785 : (Jvm.Cond.code ({ cls := "NextLoadModel", name := "tellsFree", desc := "(I)I" } : Jvm.MethodName) prog_21_method_89_code (3 : Nat) (Option.some Jvm.ClassFile.FieldType.int)) ∈ lw_all := lw_g (lw_at lw_m7 236 rfl) rfl
theorem q1786 : (Jvm.Cond.methodLink "NextLoadModel" (355 : Nat) ({ cls := "NextLoadModel", name := "freeNow", desc := "(I)I" } : Jvm.MethodName)) ∈ lw_all := lw_g (lw_at lw_m7 237 rfl) rfl
theorem q1787 : (Jvm.Cond.privateMethod ({ cls := "NextLoadModel", name := "freeNow", desc := "(I)I" } : Jvm.MethodName)) ∈ lw_tbl := lw_at lw_m7 238 rfl
theorem q1788 : (Jvm.Cond.instanceMethod ({ cls := "NextLoadModel", name := "freeNow", desc := "(I)I" } : Jvm.MethodName)) ∈ lw_all := lw_g (lw_at lw_m7 239 rfl) rfl
theorem q1789 : (Jvm.Cond.code ({ cls := "NextLoadModel", name := "freeNow", desc := "(I)I" } : Jvm.MethodName) prog_21_method_87_code (6 : Nat) (Option.some Jvm.ClassFile.FieldType.int)) ∈ lw_all := lw_g (lw_at lw_m8 0 rfl) rfl
theorem q1790 : (Jvm.Cond.methodLink "NextLoadModel" (349 : Nat) ({ cls := "NextLoadModel", name := "laysBehind", desc := "(II)V" } : Jvm.MethodName)) ∈ lw_all := lw_g (lw_at lw_m8 1 rfl) rfl
theorem q1791 : (Jvm.Cond.privateMethod ({ cls := "NextLoadModel", name := "laysBehind", desc := "(II)V" } : Jvm.MethodName)) ∈ lw_tbl := lw_at lw_m8 2 rfl
theorem q1792 : (Jvm.Cond.instanceMethod ({ cls := "NextLoadModel", name := "laysBehind", desc := "(II)V" } : Jvm.MethodName)) ∈ lw_all := lw_g (lw_at lw_m8 3 rfl) rfl
theorem q1793 : (Jvm.Cond.code ({ cls := "NextLoadModel", name := "laysBehind", desc := "(II)V" } : Jvm.MethodName) prog_21_method_86_code (5 : Nat) (Option.none : Option Jvm.ClassFile.FieldType)) ∈ lw_all := lw_g (lw_at lw_m8 4 rfl) rfl
theorem q1794 : (Jvm.Cond.methodLink "NextLoadModel" (342 : Nat) ({ cls := "NextLoadModel", name := "laysRounds", desc := "(IIII)V" } : Jvm.MethodName)) ∈ lw_all := lw_g (lw_at lw_m8 5 rfl) rfl
theorem q1795 : (Jvm.Cond.privateMethod ({ cls := "NextLoadModel", name := "laysRounds", desc := "(IIII)V" } : Jvm.MethodName)) ∈ lw_tbl := lw_at lw_m8 6 rfl
theorem q1796 : (Jvm.Cond.instanceMethod ({ cls := "NextLoadModel", name := "laysRounds", desc := "(IIII)V" } : Jvm.MethodName)) ∈ lw_all := lw_g (lw_at lw_m8 7 rfl) rfl
theorem q1797 : (Jvm.Cond.code ({ cls := "NextLoadModel", name := "laysRounds", desc := "(IIII)V" } : Jvm.MethodName) prog_21_method_85_code (10 : Nat) (Option.none : Option Jvm.ClassFile.FieldType)) ∈ lw_all := lw_g (lw_at lw_m8 8 rfl) rfl
theorem q1798 : (Jvm.Cond.methodLink "NextLoadModel" (331 : Nat) ({ cls := "NextLoadModel", name := "canBe", desc := "(IIII)Z" } : Jvm.MethodName)) ∈ lw_all := lw_g (lw_at lw_m8 9 rfl) rfl
theorem q1799 : (Jvm.Cond.static ({ cls := "NextLoadModel", name := "canBe", desc := "(IIII)Z" } : Jvm.MethodName)) ∈ lw_all := lw_g (lw_at lw_m8 10 rfl) rfl
theorem q1800 : (Jvm.Cond.code ({ cls := "NextLoadModel", name := "canBe", desc := "(IIII)Z" } : Jvm.MethodName) prog_21_method_84_code (4 : Nat) (Option.some Jvm.ClassFile.FieldType.boolean)) ∈ lw_all := lw_g (lw_at lw_m8 11 rfl) rfl
theorem q1801 : (Jvm.Cond.methodLink "NextLoadModel" (335 : Nat) ({ cls := "NextLoadModel", name := "ends", desc := "(III)I" } : Jvm.MethodName)) ∈ lw_all := lw_g (lw_at lw_m8 12 rfl) rfl
theorem q1802 : (Jvm.Cond.privateMethod ({ cls := "NextLoadModel", name := "ends", desc := "(III)I" } : Jvm.MethodName)) ∈ lw_tbl := lw_at lw_m8 13 rfl
theorem q1803 : (Jvm.Cond.instanceMethod ({ cls := "NextLoadModel", name := "ends", desc := "(III)I" } : Jvm.MethodName)) ∈ lw_all := lw_g (lw_at lw_m8 14 rfl) rfl
theorem q1804 : (Jvm.Cond.code ({ cls := "NextLoadModel", name := "ends", desc := "(III)I" } : Jvm.MethodName) prog_21_method_83_code (4 : Nat) (Option.some Jvm.ClassFile.FieldType.int)) ∈ lw_all := lw_g (lw_at lw_m8 15 rfl) rfl
theorem q1805 : (Jvm.Cond.methodLink "NextLoadModel" (338 : Nat) ({ cls := "NextLoadModel", name := "triesBest", desc := "(IIIIII)I" } : Jvm.MethodName)) ∈ lw_all := lw_g (lw_at lw_m8 16 rfl) rfl
theorem q1806 : (Jvm.Cond.privateMethod ({ cls := "NextLoadModel", name := "triesBest", desc := "(IIIIII)I" } : Jvm.MethodName)) ∈ lw_tbl := lw_at lw_m8 17 rfl
theorem q1807 : (Jvm.Cond.instanceMethod ({ cls := "NextLoadModel", name := "triesBest", desc := "(IIIIII)I" } : Jvm.MethodName)) ∈ lw_all := lw_g (lw_at lw_m8 18 rfl) rfl
theorem q1808 : (Jvm.Cond.code ({ cls := "NextLoadModel", name := "triesBest", desc := "(IIIIII)I" } : Jvm.MethodName) prog_21_method_82_code (12 : Nat) (Option.some Jvm.ClassFile.FieldType.int)) ∈ lw_all := lw_g (lw_at lw_m8 19 rfl) rfl
theorem q1809 : (Jvm.Cond.methodLink "NextLoadModel" (325 : Nat) ({ cls := "java/lang/Math", name := "min", desc := "(II)I" } : Jvm.MethodName)) ∈ lw_all := lw_g (lw_at lw_m8 20 rfl) rfl
theorem q1810 : (Jvm.Cond.methodLink "NextLoadModel" (328 : Nat) ({ cls := "NextLoadModel", name := "cell", desc := "(IIII)I" } : Jvm.MethodName)) ∈ lw_all := lw_g (lw_at lw_m8 21 rfl) rfl
theorem q1811 : (Jvm.Cond.static ({ cls := "NextLoadModel", name := "cell", desc := "(IIII)I" } : Jvm.MethodName)) ∈ lw_all := lw_g (lw_at lw_m8 22 rfl) rfl
theorem q1812 : (Jvm.Cond.code ({ cls := "NextLoadModel", name := "cell", desc := "(IIII)I" } : Jvm.MethodName) prog_21_method_81_code (4 : Nat) (Option.some Jvm.ClassFile.FieldType.int)) ∈ lw_all := lw_g (lw_at lw_m8 23 rfl) rfl
theorem q1813 : (Jvm.Cond.methodLink "NextLoadModel" (352 : Nat) ({ cls := "NextLoadModel", name := "nextLoadOf", desc := "(III)V" } : Jvm.MethodName)) ∈ lw_all := lw_g (lw_at lw_m8 24 rfl) rfl
theorem q1814 : (Jvm.Cond.privateMethod ({ cls := "NextLoadModel", name := "nextLoadOf", desc := "(III)V" } : Jvm.MethodName)) ∈ lw_tbl := lw_at lw_m8 25 rfl
theorem q1815 : (Jvm.Cond.instanceMethod ({ cls := "NextLoadModel", name := "nextLoadOf", desc := "(III)V" } : Jvm.MethodName)) ∈ lw_all := lw_g (lw_at lw_m8 26 rfl) rfl
theorem q1816 : (Jvm.Cond.code ({ cls := "NextLoadModel", name := "nextLoadOf", desc := "(III)V" } : Jvm.MethodName) prog_21_method_88_code (4 : Nat) (Option.none : Option Jvm.ClassFile.FieldType)) ∈ lw_all := lw_g (lw_at lw_m8 27 rfl) rfl
theorem q1818 : (Jvm.Cond.instanceMethod ({ cls := "NextLoadModel", name := "reach", desc := "(II)I" } : Jvm.MethodName)) ∈ lw_all := lw_g (lw_at lw_m8 29 rfl) rfl
theorem q1819 : (Jvm.Cond.selects "NextLoadModel" ({ cls := "NextLoadModel", name := "reach", desc := "(II)I" } : Jvm.MethodName) ({ cls := "NextLoadModel", name := "reach", desc := "(II)I" } : Jvm.MethodName)) ∈ lw_all := lw_g (lw_at lw_m8 30 rfl) rfl
theorem q1820 : (Jvm.Cond.code ({ cls := "NextLoadModel", name := "reach", desc := "(II)I" } : Jvm.MethodName) prog_21_method_91_code (3 : Nat) (Option.some Jvm.ClassFile.FieldType.int)) ∈ lw_all := lw_g (lw_at lw_m8 31 rfl) rfl
theorem q1822 : (Jvm.Cond.instanceMethod ({ cls := "NextLoadModel", name := "aim", desc := "(II)I" } : Jvm.MethodName)) ∈ lw_all := lw_g (lw_at lw_m8 33 rfl) rfl
theorem q1823 : (Jvm.Cond.selects "NextLoadModel" ({ cls := "NextLoadModel", name := "aim", desc := "(II)I" } : Jvm.MethodName) ({ cls := "NextLoadModel", name := "aim", desc := "(II)I" } : Jvm.MethodName)) ∈ lw_all := lw_g (lw_at lw_m8 34 rfl) rfl
theorem q1824 : (Jvm.Cond.code ({ cls := "NextLoadModel", name := "aim", desc := "(II)I" } : Jvm.MethodName) prog_21_method_92_code (7 : Nat) (Option.some Jvm.ClassFile.FieldType.int)) ∈ lw_all := lw_g (lw_at lw_m8 35 rfl) rfl
theorem q1826 : (Jvm.Cond.instanceMethod ({ cls := "NextLoadModel", name := "against", desc := "(II)I" } : Jvm.MethodName)) ∈ lw_all := lw_g (lw_at lw_m8 37 rfl) rfl
theorem q1827 : (Jvm.Cond.selects "NextLoadModel" ({ cls := "NextLoadModel", name := "against", desc := "(II)I" } : Jvm.MethodName) ({ cls := "NextLoadModel", name := "against", desc := "(II)I" } : Jvm.MethodName)) ∈ lw_all := lw_g (lw_at lw_m8 38 rfl) rfl
theorem q1828 : (Jvm.Cond.code ({ cls := "NextLoadModel", name := "against", desc := "(II)I" } : Jvm.MethodName) prog_21_method_93_code (3 : Nat) (Option.some Jvm.ClassFile.FieldType.int)) ∈ lw_all := lw_g (lw_at lw_m8 39 rfl) rfl
theorem q1830 : (Jvm.Cond.instanceMethod ({ cls := "NextLoadModel", name := "gold", desc := "(I)I" } : Jvm.MethodName)) ∈ lw_all := lw_g (lw_at lw_m8 41 rfl) rfl
theorem q1831 : (Jvm.Cond.selects "NextLoadModel" ({ cls := "NextLoadModel", name := "gold", desc := "(I)I" } : Jvm.MethodName) ({ cls := "NextLoadModel", name := "gold", desc := "(I)I" } : Jvm.MethodName)) ∈ lw_all := lw_g (lw_at lw_m8 42 rfl) rfl
theorem q1832 : (Jvm.Cond.code ({ cls := "NextLoadModel", name := "gold", desc := "(I)I" } : Jvm.MethodName) prog_21_method_94_code (2 : Nat) (Option.some Jvm.ClassFile.FieldType.int)) ∈ lw_all := lw_g (lw_at lw_m8 43 rfl) rfl
theorem q1834 : (Jvm.Cond.instanceMethod ({ cls := "NextLoadModel", name := "line", desc := "(IIZ)I" } : Jvm.MethodName)) ∈ lw_all := lw_g (lw_at lw_m8 45 rfl) rfl
theorem q1835 : (Jvm.Cond.selects "NextLoadModel" ({ cls := "NextLoadModel", name := "line", desc := "(IIZ)I" } : Jvm.MethodName) ({ cls := "NextLoadModel", name := "line", desc := "(IIZ)I" } : Jvm.MethodName)) ∈ lw_all := lw_g (lw_at lw_m8 46 rfl) rfl
theorem q1836 : (Jvm.Cond.code ({ cls := "NextLoadModel", name := "line", desc := "(IIZ)I" } : Jvm.MethodName) prog_21_method_96_code (9 : Nat) (Option.some Jvm.ClassFile.FieldType.int)) ∈ lw_all := lw_g (lw_at lw_m8 47 rfl) rfl
theorem q1837 : (Jvm.Cond.methodLink "NextLoadModel" (361 : Nat) ({ cls := "NextLoadModel", name := "follows", desc := "(IIIIIIIZ)I" } : Jvm.MethodName)) ∈ lw_all := lw_g (lw_at lw_m8 48 rfl) rfl
theorem q1838 : (Jvm.Cond.privateMethod ({ cls := "NextLoadModel", name := "follows", desc := "(IIIIIIIZ)I" } : Jvm.MethodName)) ∈ lw_tbl := lw_at lw_m8 49 rfl
theorem q1839 : (Jvm.Cond.instanceMethod ({ cls := "NextLoadModel", name := "follows", desc := "(IIIIIIIZ)I" } : Jvm.MethodName)) ∈ lw_all := lw_g (lw_at lw_m8 50 rfl) rfl
theorem q1840 : (Jvm.Cond.code ({ cls := "NextLoadModel", name := "follows", desc := "(IIIIIIIZ)I" } : Jvm.MethodName) prog_21_method_95_code (13 : Nat) (Option.some Jvm.ClassFile.FieldType.int)) ∈ lw_all := lw_g (lw_at lw_m8 51 rfl) rfl
theorem q1842 : (Jvm.Cond.instanceMethod ({ cls := "NextLoadModel", name := "duel", desc := "(II)I" } : Jvm.MethodName)) ∈ lw_all := lw_g (lw_at lw_m8 53 rfl) rfl
theorem q1843 : (Jvm.Cond.selects "NextLoadModel" ({ cls := "NextLoadModel", name := "duel", desc := "(II)I" } : Jvm.MethodName) ({ cls := "NextLoadModel", name := "duel", desc := "(II)I" } : Jvm.MethodName)) ∈ lw_all := lw_g (lw_at lw_m8 54 rfl) rfl
theorem q1844 : (Jvm.Cond.code ({ cls := "NextLoadModel", name := "duel", desc := "(II)I" } : Jvm.MethodName) prog_21_method_109_code (6 : Nat) (Option.some Jvm.ClassFile.FieldType.int)) ∈ lw_all := lw_g (lw_at lw_m8 55 rfl) rfl
theorem q1845 : (Jvm.Cond.methodLink "NextLoadModel" (400 : Nat) ({ cls := "NextLoadModel", name := "whyNoDuel", desc := "(II)I" } : Jvm.MethodName)) ∈ lw_all := lw_g (lw_at lw_m8 56 rfl) rfl
theorem q1846 : (Jvm.Cond.privateMethod ({ cls := "NextLoadModel", name := "whyNoDuel", desc := "(II)I" } : Jvm.MethodName)) ∈ lw_tbl := lw_at lw_m8 57 rfl
theorem q1847 : (Jvm.Cond.instanceMethod ({ cls := "NextLoadModel", name := "whyNoDuel", desc := "(II)I" } : Jvm.MethodName)) ∈ lw_all := lw_g (lw_at lw_m8 58 rfl) rfl
theorem q1848 : (Jvm.Cond.code ({ cls := "NextLoadModel", name := "whyNoDuel", desc := "(II)I" } : Jvm.MethodName) prog_21_method_107_code (3 : Nat) (Option.some Jvm.ClassFile.FieldType.int)) ∈ lw_all := lw_g (lw_at lw_m8 59 rfl) rfl
theorem q1849 : (Jvm.Cond.methodLink "NextLoadModel" (403 : Nat) ({ cls := "NextLoadModel", name := "duelAt", desc := "(II)I" } : Jvm.MethodName)) ∈ lw_all := lw_g (lw_at lw_m8 60 rfl) rfl
theorem q1850 : (Jvm.Cond.privateMethod ({ cls := "NextLoadModel", name := "duelAt", desc := "(II)I" } : Jvm.MethodName)) ∈ lw_tbl := lw_at lw_m8 61 rfl
theorem q1851 : (Jvm.Cond.instanceMethod ({ cls := "NextLoadModel", name := "duelAt", desc := "(II)I" } : Jvm.MethodName)) ∈ lw_all := lw_g (lw_at lw_m8 62 rfl) rfl
theorem q1852 : (Jvm.Cond.code ({ cls := "NextLoadModel", name := "duelAt", desc := "(II)I" } : Jvm.MethodName) prog_21_method_106_code (10 : Nat) (Option.some Jvm.ClassFile.FieldType.int)) ∈ lw_all := lw_g (lw_at lw_m8 63 rfl) rfl
theorem q1853 : (Jvm.Cond.methodLink "NextLoadModel" (397 : Nat) ({ cls := "NextLoadModel", name := "duelLays", desc := "(IIII)V" } : Jvm.MethodName)) ∈ lw_all := lw_g (lw_at lw_m8 64 rfl) rfl
theorem q1854 : (Jvm.Cond.privateMethod ({ cls := "NextLoadModel", name := "duelLays", desc := "(IIII)V" } : Jvm.MethodName)) ∈ lw_tbl := lw_at lw_m8 65 rfl
theorem q1855 : (Jvm.Cond.instanceMethod ({ cls := "NextLoadModel", name := "duelLays", desc := "(IIII)V" } : Jvm.MethodName)) ∈ lw_all := lw_g (lw_at lw_m8 66 rfl) rfl
theorem q1856 : (Jvm.Cond.code ({ cls := "NextLoadModel", name := "duelLays", desc := "(IIII)V" } : Jvm.MethodName) prog_21_method_105_code (16 : Nat) (Option.none : Option Jvm.ClassFile.FieldType)) ∈ lw_all := lw_g (lw_at lw_m8 67 rfl) rfl
theorem q1857 : (Jvm.Cond.methodLink "NextLoadModel" (388 : Nat) ({ cls := "NextLoadModel", name := "isOneCalled", desc := "(II)Z" } : Jvm.MethodName)) ∈ lw_all := lw_g (lw_at lw_m8 68 rfl) rfl
theorem q1858 : (Jvm.Cond.privateMethod ({ cls := "NextLoadModel", name := "isOneCalled", desc := "(II)Z" } : Jvm.MethodName)) ∈ lw_tbl := lw_at lw_m8 69 rfl
theorem q1859 : (Jvm.Cond.instanceMethod ({ cls := "NextLoadModel", name := "isOneCalled", desc := "(II)Z" } : Jvm.MethodName)) ∈ lw_all := lw_g (lw_at lw_m8 70 rfl) rfl
theorem q1860 : (Jvm.Cond.code ({ cls := "NextLoadModel", name := "isOneCalled", desc := "(II)Z" } : Jvm.MethodName) prog_21_method_104_code (3 : Nat) (Option.some Jvm.ClassFile.FieldType.boolean)) ∈ lw_all := lw_g (lw_at lw_m8 71 rfl) rfl
theorem q1861 : (Jvm.Cond.methodLink "NextLoadModel" (371 : Nat) ({ cls := "NextLoadModel", name := "duelBest", desc := "(IIZ)I" } : Jvm.MethodName)) ∈ lw_all := lw_g (lw_at lw_m8 72 rfl) rfl
theorem q1862 : (Jvm.Cond.privateMethod ({ cls := "NextLoadModel", name := "duelBest", desc := "(IIZ)I" } : Jvm.MethodName)) ∈ lw_tbl := lw_at lw_m8 73 rfl
theorem q1863 : (Jvm.Cond.instanceMethod ({ cls := "NextLoadModel", name := "duelBest", desc := "(IIZ)I" } : Jvm.MethodName)) ∈ lw_all := lw_g (lw_at lw_m8 74 rfl) rfl
theorem q1864 : (Jvm.Cond.code ({ cls := "NextLoadModel", name := "duelBest", desc := "(IIZ)I" } : Jvm.MethodName) prog_21_method_98_code (5 : Nat) (Option.some Jvm.ClassFile.FieldType.int)) ∈ lw_all := lw_g (lw_at lw_m8 75 rfl) rfl
theorem q1865 : (Jvm.Cond.methodLink "NextLoadModel" (391 : Nat) ({ cls := "NextLoadModel", name := "duelChoosesLast", desc := "(IIII)I" } : Jvm.MethodName)) ∈ lw_all := lw_g (lw_at lw_m8 76 rfl) rfl
theorem q1866 : (Jvm.Cond.privateMethod ({ cls := "NextLoadModel", name := "duelChoosesLast", desc := "(IIII)I" } : Jvm.MethodName)) ∈ lw_tbl := lw_at lw_m8 77 rfl
theorem q1867 : (Jvm.Cond.instanceMethod ({ cls := "NextLoadModel", name := "duelChoosesLast", desc := "(IIII)I" } : Jvm.MethodName)) ∈ lw_all := lw_g (lw_at lw_m8 78 rfl) rfl
theorem q1868 : (Jvm.Cond.code ({ cls := "NextLoadModel", name := "duelChoosesLast", desc := "(IIII)I" } : Jvm.MethodName) prog_21_method_102_code (8 : Nat) (Option.some Jvm.ClassFile.FieldType.int)) ∈ lw_all := lw_g (lw_at lw_m8 79 rfl) rfl
theorem q1869 : (Jvm.Cond.methodLink "NextLoadModel" (381 : Nat) ({ cls := "NextLoadModel", name := "duelLast", desc := "(III)I" } : Jvm.MethodName)) ∈ lw_all := lw_g (lw_at lw_m8 80 rfl) rfl
theorem q1870 : (Jvm.Cond.privateMethod ({ cls := "NextLoadModel", name := "duelLast", desc := "(III)I" } : Jvm.MethodName)) ∈ lw_tbl := lw_at lw_m8 81 rfl
theorem q1871 : (Jvm.Cond.instanceMethod ({ cls := "NextLoadModel", name := "duelLast", desc := "(III)I" } : Jvm.MethodName)) ∈ lw_all := lw_g (lw_at lw_m8 82 rfl) rfl
theorem q1872 : (Jvm.Cond.code ({ cls := "NextLoadModel", name := "duelLast", desc := "(III)I" } : Jvm.MethodName) prog_21_method_100_code (6 : Nat) (Option.some Jvm.ClassFile.FieldType.int)) ∈ lw_all := lw_g (lw_at lw_m8 83 rfl) rfl
theorem q1873 : (Jvm.Cond.methodLink "NextLoadModel" (375 : Nat) ({ cls := "NextLoadModel", name := "duelEnds", desc := "(II)I" } : Jvm.MethodName)) ∈ lw_all := lw_g (lw_at lw_m8 84 rfl) rfl
theorem q1874 : (Jvm.Cond.privateMethod ({ cls := "NextLoadModel", name := "duelEnds", desc := "(II)I" } : Jvm.MethodName)) ∈ lw_tbl := lw_at lw_m8 85 rfl
theorem q1875 : (Jvm.Cond.instanceMethod ({ cls := "NextLoadModel", name := "duelEnds", desc := "(II)I" } : Jvm.MethodName)) ∈ lw_all := lw_g (lw_at lw_m8 86 rfl) rfl
theorem q1876 : (Jvm.Cond.code ({ cls := "NextLoadModel", name := "duelEnds", desc := "(II)I" } : Jvm.MethodName) prog_21_method_97_code (5 : Nat) (Option.some Jvm.ClassFile.FieldType.int)) ∈ lw_all := lw_g (lw_at lw_m8 87 rfl) rfl
theorem q1877 : (Jvm.Cond.methodLink "NextLoadModel" (378 : Nat) ({ cls := "NextLoadModel", name := "duelTry", desc := "(IIII)I" } : Jvm.MethodName)) ∈ lw_all := lw_g (lw_at lw_m8 88 rfl) rfl
theorem q1878 : (Jvm.Cond.privateMethod ({ cls := "NextLoadModel", name := "duelTry", desc := "(IIII)I" } : Jvm.MethodName)) ∈ lw_tbl := lw_at lw_m8 89 rfl
theorem q1879 : (Jvm.Cond.instanceMethod ({ cls := "NextLoadModel", name := "duelTry", desc := "(IIII)I" } : Jvm.MethodName)) ∈ lw_all := lw_g (lw_at lw_m8 90 rfl) rfl
theorem q1880 : (Jvm.Cond.code ({ cls := "NextLoadModel", name := "duelTry", desc := "(IIII)I" } : Jvm.MethodName) prog_21_method_99_code (5 : Nat) (Option.some Jvm.ClassFile.FieldType.int)) ∈ lw_all := lw_g (lw_at lw_m8 91 rfl) rfl
theorem q1881 : (Jvm.Cond.methodLink "NextLoadModel" (384 : Nat) ({ cls := "NextLoadModel", name := "isBetter", desc := "(ZII)Z" } : Jvm.MethodName)) ∈ lw_all := lw_g (lw_at lw_m8 92 rfl) rfl
theorem q1882 : (Jvm.Cond.static ({ cls := "NextLoadModel", name := "isBetter", desc := "(ZII)Z" } : Jvm.MethodName)) ∈ lw_all := lw_g (lw_at lw_m8 93 rfl) rfl
theorem q1883 : (Jvm.Cond.code ({ cls := "NextLoadModel", name := "isBetter", desc := "(ZII)Z" } : Jvm.MethodName) prog_21_method_101_code (3 : Nat) (Option.some Jvm.ClassFile.FieldType.boolean)) ∈ lw_all := lw_g (lw_at lw_m8 94 rfl) rfl
theorem q1884 : (Jvm.Cond.methodLink "NextLoadModel" (394 : Nat) ({ cls := "NextLoadModel", name := "duelCell", desc := "(IIII)I" } : Jvm.MethodName)) ∈ lw_all := lw_g (lw_at lw_m8 95 rfl) rfl
theorem q1885 : (Jvm.Cond.static ({ cls := "NextLoadModel", name := "duelCell", desc := "(IIII)I" } : Jvm.MethodName)) ∈ lw_all := lw_g (lw_at lw_m8 96 rfl) rfl
theorem q1886 : (Jvm.Cond.code ({ cls := "NextLoadModel", name := "duelCell", desc := "(IIII)I" } : Jvm.MethodName) prog_21_method_103_code (4 : Nat) (Option.some Jvm.ClassFile.FieldType.int)) ∈ lw_all := lw_g (lw_at lw_m8 97 rfl) rfl
theorem q1887 : (Jvm.Cond.methodLink "NextLoadModel" (406 : Nat) ({ cls := "NextLoadModel", name := "entersDuel", desc := "(II)V" } : Jvm.MethodName)) ∈ lw_all := lw_g (lw_at lw_m8 98 rfl) rfl
theorem q1888 : (Jvm.Cond.privateMethod ({ cls := "NextLoadModel", name := "entersDuel", desc := "(II)V" } : Jvm.MethodName)) ∈ lw_tbl := lw_at lw_m8 99 rfl
theorem q1889 : (Jvm.Cond.instanceMethod ({ cls := "NextLoadModel", name := "entersDuel", desc := "(II)V" } : Jvm.MethodName)) ∈ lw_all := lw_g (lw_at lw_m8 100 rfl) rfl
theorem q1890 : (Jvm.Cond.code ({ cls := "NextLoadModel", name := "entersDuel", desc := "(II)V" } : Jvm.MethodName) prog_21_method_108_code (5 : Nat) (Option.none : Option Jvm.ClassFile.FieldType)) ∈ lw_all := lw_g (lw_at lw_m8 101 rfl) rfl
theorem q1892 : (Jvm.Cond.instanceMethod ({ cls := "NextLoadModel", name := "bluff", desc := "(IIII)I" } : Jvm.MethodName)) ∈ lw_all := lw_g (lw_at lw_m8 103 rfl) rfl
theorem q1893 : (Jvm.Cond.selects "NextLoadModel" ({ cls := "NextLoadModel", name := "bluff", desc := "(IIII)I" } : Jvm.MethodName) ({ cls := "NextLoadModel", name := "bluff", desc := "(IIII)I" } : Jvm.MethodName)) ∈ lw_all := lw_g (lw_at lw_m8 104 rfl) rfl
theorem q1894 : (Jvm.Cond.code ({ cls := "NextLoadModel", name := "bluff", desc := "(IIII)I" } : Jvm.MethodName) prog_21_method_110_code (7 : Nat) (Option.some Jvm.ClassFile.FieldType.int)) ∈ lw_all := lw_g (lw_at lw_m8 105 rfl) rfl
theorem q1896 : (Jvm.Cond.instanceMethod ({ cls := "NextLoadModel", name := "plays", desc := "(I)I" } : Jvm.MethodName)) ∈ lw_all := lw_g (lw_at lw_m8 107 rfl) rfl
theorem q1897 : (Jvm.Cond.selects "NextLoadModel" ({ cls := "NextLoadModel", name := "plays", desc := "(I)I" } : Jvm.MethodName) ({ cls := "NextLoadModel", name := "plays", desc := "(I)I" } : Jvm.MethodName)) ∈ lw_all := lw_g (lw_at lw_m8 108 rfl) rfl
theorem q1898 : (Jvm.Cond.code ({ cls := "NextLoadModel", name := "plays", desc := "(I)I" } : Jvm.MethodName) prog_21_method_113_code (3 : Nat) (Option.some Jvm.ClassFile.FieldType.int)) ∈ lw_all := lw_g (lw_at lw_m8 109 rfl) rfl
theorem q1899 : (Jvm.Cond.methodLink "NextLoadModel" (416 : Nat) ({ cls := "NextLoadModel", name := "playsOn", desc := "()I" } : Jvm.MethodName)) ∈ lw_all := lw_g (lw_at lw_m8 110 rfl) rfl
theorem q1900 : (Jvm.Cond.privateMethod ({ cls := "NextLoadModel", name := "playsOn", desc := "()I" } : Jvm.MethodName)) ∈ lw_tbl := lw_at lw_m8 111 rfl
theorem q1901 : (Jvm.Cond.instanceMethod ({ cls := "NextLoadModel", name := "playsOn", desc := "()I" } : Jvm.MethodName)) ∈ lw_all := lw_g (lw_at lw_m8 112 rfl) rfl
theorem q1902 : (Jvm.Cond.code ({ cls := "NextLoadModel", name := "playsOn", desc := "()I" } : Jvm.MethodName) prog_21_method_112_code (3 : Nat) (Option.some Jvm.ClassFile.FieldType.int)) ∈ lw_all := lw_g (lw_at lw_m8 113 rfl) rfl
theorem q1903 : (Jvm.Cond.methodLink "NextLoadModel" (413 : Nat) ({ cls := "NextLoadModel", name := "draw", desc := "(I)I" } : Jvm.MethodName)) ∈ lw_all := lw_g (lw_at lw_m8 114 rfl) rfl
theorem q1904 : (Jvm.Cond.privateMethod ({ cls := "NextLoadModel", name := "draw", desc := "(I)I" } : Jvm.MethodName)) ∈ lw_tbl := lw_at lw_m8 115 rfl
theorem q1905 : (Jvm.Cond.instanceMethod ({ cls := "NextLoadModel", name := "draw", desc := "(I)I" } : Jvm.MethodName)) ∈ lw_all := lw_g (lw_at lw_m8 116 rfl) rfl
theorem q1906 : (Jvm.Cond.code ({ cls := "NextLoadModel", name := "draw", desc := "(I)I" } : Jvm.MethodName) prog_21_method_111_code (2 : Nat) (Option.some Jvm.ClassFile.FieldType.int)) ∈ lw_all := lw_g (lw_at lw_m8 117 rfl) rfl
theorem q1907 : (Jvm.Cond.constant "NextLoadModel" (412 : Nat) (1103515245 : Int32)) ∈ lw_all := lw_g (lw_at lw_m8 118 rfl) rfl
theorem q1909 : (Jvm.Cond.instanceMethod ({ cls := "NextLoadModel", name := "often", desc := "(III)I" } : Jvm.MethodName)) ∈ lw_all := lw_g (lw_at lw_m8 120 rfl) rfl
theorem q1910 : (Jvm.Cond.selects "NextLoadModel" ({ cls := "NextLoadModel", name := "often", desc := "(III)I" } : Jvm.MethodName) ({ cls := "NextLoadModel", name := "often", desc := "(III)I" } : Jvm.MethodName)) ∈ lw_all := lw_g (lw_at lw_m8 121 rfl) rfl
theorem q1911 : (Jvm.Cond.code ({ cls := "NextLoadModel", name := "often", desc := "(III)I" } : Jvm.MethodName) prog_21_method_114_code (11 : Nat) (Option.some Jvm.ClassFile.FieldType.int)) ∈ lw_all := lw_g (lw_at lw_m8 122 rfl) rfl
theorem q1912 : (Jvm.Cond.constantLong "NextLoadModel" (419 : Nat) (50 : Int64)) ∈ lw_all := lw_g (lw_at lw_m8 123 rfl) rfl
theorem q1914 : (Jvm.Cond.instanceMethod ({ cls := "NextLoadModel", name := "count", desc := "(I)I" } : Jvm.MethodName)) ∈ lw_all := lw_g (lw_at lw_m8 125 rfl) rfl
theorem q1915 : (Jvm.Cond.selects "NextLoadModel" ({ cls := "NextLoadModel", name := "count", desc := "(I)I" } : Jvm.MethodName) ({ cls := "NextLoadModel", name := "count", desc := "(I)I" } : Jvm.MethodName)) ∈ lw_all := lw_g (lw_at lw_m8 126 rfl) rfl
theorem q1916 : (Jvm.Cond.code ({ cls := "NextLoadModel", name := "count", desc := "(I)I" } : Jvm.MethodName) prog_21_method_116_code (2 : Nat) (Option.some Jvm.ClassFile.FieldType.int)) ∈ lw_all := lw_g (lw_at lw_m8 127 rfl) rfl
theorem q1917 : (Jvm.Cond.methodLink "NextLoadModel" (421 : Nat) ({ cls := "NextLoadModel", name := "outs", desc := "()I" } : Jvm.MethodName)) ∈ lw_all := lw_g (lw_at lw_m8 128 rfl) rfl
theorem q1918 : (Jvm.Cond.privateMethod ({ cls := "NextLoadModel", name := "outs", desc := "()I" } : Jvm.MethodName)) ∈ lw_tbl := lw_at lw_m8 129 rfl
theorem q1919 : (Jvm.Cond.instanceMethod ({ cls := "NextLoadModel", name := "outs", desc := "()I" } : Jvm.MethodName)) ∈ lw_all := lw_g (lw_at lw_m8 130 rfl) rfl
theorem q1920 : (Jvm.Cond.code ({ cls := "NextLoadModel", name := "outs", desc := "()I" } : Jvm.MethodName) prog_21_method_115_code (3 : Nat) (Option.some Jvm.ClassFile.FieldType.int)) ∈ lw_all := lw_g (lw_at lw_m8 131 rfl) rfl
theorem q1922 : (Jvm.Cond.instanceMethod ({ cls := "NextLoadModel", name := "row", desc := "(I)J" } : Jvm.MethodName)) ∈ lw_all := lw_g (lw_at lw_m8 133 rfl) rfl
theorem q1923 : (Jvm.Cond.selects "NextLoadModel" ({ cls := "NextLoadModel", name := "row", desc := "(I)J" } : Jvm.MethodName) ({ cls := "NextLoadModel", name := "row", desc := "(I)J" } : Jvm.MethodName)) ∈ lw_all := lw_g (lw_at lw_m8 134 rfl) rfl
theorem q1924 : (Jvm.Cond.code ({ cls := "NextLoadModel", name := "row", desc := "(I)J" } : Jvm.MethodName) prog_21_method_117_code (2 : Nat) (Option.some Jvm.ClassFile.FieldType.long)) ∈ lw_all := lw_g (lw_at lw_m8 135 rfl) rfl
theorem q1939 : (Jvm.Cond.castable "NextLoadModel" "java/lang/Object") ∈ lw_tbl := lw_at lw_m8 150 rfl
theorem in_X8 : ∀ w ∈ wsX80, w ∈ lw_all := lw_in wsX80 [1375, 1377, 1379, 1381, 1383, 1385, 1387, 1389, 1391, 1393, 1395, 1397, 1399, 1401, 1403, 1405, 1407, 1409, 1411, 1413, 1415, 1417, 1419, 1421, 1423, 1425, 1427, 1429, 1431, 1433, 1435, 1437, 1439, 1441, 1443, 1445, 1447, 1449, 1451, 1453] (by decide +kernel) (by decide +kernel)
