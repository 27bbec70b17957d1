set_option maxRecDepth 100000
abbrev cX8_lifter : ByteArray := prog_21_method_48_code
def yX8_lifter : MethodName := ⟨RX8, "lifter", "(III)I"⟩
def dkwX8_lifter_5 : List UInt8 := [182, 0, 140, 184, 0, 160, 172, 42, 27, 16, 6, 182, 0, 106, 172, 42, 27, 182, 0, 167, 172, 2, 172]
abbrev dktX8_lifter_5 : List UInt8 := dkwX8_lifter_5 ++ []
def dkwX8_lifter_4 : List UInt8 := [42, 27, 3, 182, 0, 106, 172, 42, 27, 182, 0, 249, 172, 42, 27, 8, 182, 0, 106, 172, 42, 27]
abbrev dktX8_lifter_4 : List UInt8 := dkwX8_lifter_4 ++ dktX8_lifter_5
def dkwX8_lifter_3 : List UInt8 := [28, 4, 182, 0, 125, 172, 42, 27, 28, 5, 182, 0, 125, 172, 42, 27, 16, 7, 28, 96, 182, 0, 106, 172]
abbrev dktX8_lifter_3 : List UInt8 := dkwX8_lifter_3 ++ dktX8_lifter_4
def dkwX8_lifter_2 : List UInt8 := [42, 180, 0, 13, 27, 46, 172, 42, 180, 0, 17, 27, 46, 172, 42, 27, 28, 3, 182, 0, 125, 172, 42, 27]
abbrev dktX8_lifter_2 : List UInt8 := dkwX8_lifter_2 ++ dktX8_lifter_3
def dkwX8_lifter_1 : List UInt8 := [170, 0, 0, 0, 152, 0, 0, 0, 0, 0, 0, 0, 11, 0, 0, 0, 61, 0, 0, 0, 68, 0, 0, 0, 75, 0, 0, 0, 83, 0, 0, 0, 91, 0, 0, 0, 99, 0, 0, 0, 109, 0, 0, 0, 116, 0, 0, 0, 122, 0, 0, 0, 129, 0, 0, 0, 138, 0, 0, 0, 146]
abbrev dktX8_lifter_1 : List UInt8 := dkwX8_lifter_1 ++ dktX8_lifter_2
def dkwX8_lifter_0 : List UInt8 := [42, 3, 181, 0, 77, 42, 27, 182, 0, 233, 153, 0, 10, 28, 184, 0, 236, 154, 0, 5, 2, 172, 29]
abbrev dktX8_lifter_0 : List UInt8 := dkwX8_lifter_0 ++ dktX8_lifter_1
theorem dksX8_lifter_0 : cX8_lifter.data.toList.drop 0 = dktX8_lifter_0 := by decide +kernel
theorem dksX8_lifter_1 : cX8_lifter.data.toList.drop 23 = dktX8_lifter_1 := dk_seg dksX8_lifter_0 23 rfl rfl
theorem dksX8_lifter_2 : cX8_lifter.data.toList.drop 84 = dktX8_lifter_2 := dk_seg dksX8_lifter_1 61 rfl rfl
theorem dksX8_lifter_3 : cX8_lifter.data.toList.drop 108 = dktX8_lifter_3 := dk_seg dksX8_lifter_2 24 rfl rfl
theorem dksX8_lifter_4 : cX8_lifter.data.toList.drop 132 = dktX8_lifter_4 := dk_seg dksX8_lifter_3 24 rfl rfl
theorem dksX8_lifter_5 : cX8_lifter.data.toList.drop 154 = dktX8_lifter_5 := dk_seg dksX8_lifter_4 22 rfl rfl
theorem dX8_lifter_0 : decode cX8_lifter 0 = .ok (.aload_n 0, 1) := dk_42 (dk_at dksX8_lifter_0 0 rfl rfl)
theorem dX8_lifter_1 : decode cX8_lifter 1 = .ok (.iconst 0, 1) := dk_3 (dk_at dksX8_lifter_0 1 rfl rfl)
theorem dX8_lifter_2 : decode cX8_lifter 2 = .ok (.putfield 77, 3) := dk_181 0 77 (dk_at dksX8_lifter_0 2 rfl rfl)
theorem dX8_lifter_5 : decode cX8_lifter 5 = .ok (.aload_n 0, 1) := dk_42 (dk_at dksX8_lifter_0 5 rfl rfl)
theorem dX8_lifter_6 : decode cX8_lifter 6 = .ok (.iload_n 1, 1) := dk_27 (dk_at dksX8_lifter_0 6 rfl rfl)
theorem dX8_lifter_7 : decode cX8_lifter 7 = .ok (.invokevirtual 233, 3) := dk_182 0 233 (dk_at dksX8_lifter_0 7 rfl rfl)
theorem dX8_lifter_10 : decode cX8_lifter 10 = .ok (.ifCond .eq 10, 3) := dk_153 0 10 (dk_at dksX8_lifter_0 10 rfl rfl)
theorem dX8_lifter_13 : decode cX8_lifter 13 = .ok (.iload_n 2, 1) := dk_28 (dk_at dksX8_lifter_0 13 rfl rfl)
theorem dX8_lifter_14 : decode cX8_lifter 14 = .ok (.invokestatic 236, 3) := dk_184 0 236 (dk_at dksX8_lifter_0 14 rfl rfl)
theorem dX8_lifter_17 : decode cX8_lifter 17 = .ok (.ifCond .ne 5, 3) := dk_154 0 5 (dk_at dksX8_lifter_0 17 rfl rfl)
theorem dX8_lifter_20 : decode cX8_lifter 20 = .ok (.iconst (-1), 1) := dk_2 (dk_at dksX8_lifter_0 20 rfl rfl)
theorem dX8_lifter_21 : decode cX8_lifter 21 = .ok (.ireturn, 1) := dk_172 (dk_at dksX8_lifter_0 21 rfl rfl)
theorem dX8_lifter_22 : decode cX8_lifter 22 = .ok (.iload_n 3, 1) := dk_29 (dk_at dksX8_lifter_0 22 rfl rfl)
theorem dX8_lifter_23 : decode cX8_lifter 23 = .ok (.tableswitch 152 0 11 #[61, 68, 75, 83, 91, 99, 109, 116, 122, 129, 138, 146], 61) := by decide +kernel
theorem dX8_lifter_84 : decode cX8_lifter 84 = .ok (.aload_n 0, 1) := dk_42 (dk_at dksX8_lifter_2 0 rfl rfl)
theorem dX8_lifter_85 : decode cX8_lifter 85 = .ok (.getfield 13, 3) := dk_180 0 13 (dk_at dksX8_lifter_2 1 rfl rfl)
theorem dX8_lifter_88 : decode cX8_lifter 88 = .ok (.iload_n 1, 1) := dk_27 (dk_at dksX8_lifter_2 4 rfl rfl)
theorem dX8_lifter_89 : decode cX8_lifter 89 = .ok (.iaload, 1) := dk_46 (dk_at dksX8_lifter_2 5 rfl rfl)
theorem dX8_lifter_90 : decode cX8_lifter 90 = .ok (.ireturn, 1) := dk_172 (dk_at dksX8_lifter_2 6 rfl rfl)
theorem dX8_lifter_91 : decode cX8_lifter 91 = .ok (.aload_n 0, 1) := dk_42 (dk_at dksX8_lifter_2 7 rfl rfl)
theorem dX8_lifter_92 : decode cX8_lifter 92 = .ok (.getfield 17, 3) := dk_180 0 17 (dk_at dksX8_lifter_2 8 rfl rfl)
theorem dX8_lifter_95 : decode cX8_lifter 95 = .ok (.iload_n 1, 1) := dk_27 (dk_at dksX8_lifter_2 11 rfl rfl)
theorem dX8_lifter_96 : decode cX8_lifter 96 = .ok (.iaload, 1) := dk_46 (dk_at dksX8_lifter_2 12 rfl rfl)
theorem dX8_lifter_97 : decode cX8_lifter 97 = .ok (.ireturn, 1) := dk_172 (dk_at dksX8_lifter_2 13 rfl rfl)
theorem dX8_lifter_98 : decode cX8_lifter 98 = .ok (.aload_n 0, 1) := dk_42 (dk_at dksX8_lifter_2 14 rfl rfl)
theorem dX8_lifter_99 : decode cX8_lifter 99 = .ok (.iload_n 1, 1) := dk_27 (dk_at dksX8_lifter_2 15 rfl rfl)
theorem dX8_lifter_100 : decode cX8_lifter 100 = .ok (.iload_n 2, 1) := dk_28 (dk_at dksX8_lifter_2 16 rfl rfl)
theorem dX8_lifter_101 : decode cX8_lifter 101 = .ok (.iconst 0, 1) := dk_3 (dk_at dksX8_lifter_2 17 rfl rfl)
theorem dX8_lifter_102 : decode cX8_lifter 102 = .ok (.invokevirtual 125, 3) := dk_182 0 125 (dk_at dksX8_lifter_2 18 rfl rfl)
theorem dX8_lifter_105 : decode cX8_lifter 105 = .ok (.ireturn, 1) := dk_172 (dk_at dksX8_lifter_2 21 rfl rfl)
theorem dX8_lifter_106 : decode cX8_lifter 106 = .ok (.aload_n 0, 1) := dk_42 (dk_at dksX8_lifter_2 22 rfl rfl)
theorem dX8_lifter_107 : decode cX8_lifter 107 = .ok (.iload_n 1, 1) := dk_27 (dk_at dksX8_lifter_2 23 rfl rfl)
theorem dX8_lifter_108 : decode cX8_lifter 108 = .ok (.iload_n 2, 1) := dk_28 (dk_at dksX8_lifter_3 0 rfl rfl)
theorem dX8_lifter_109 : decode cX8_lifter 109 = .ok (.iconst 1, 1) := dk_4 (dk_at dksX8_lifter_3 1 rfl rfl)
theorem dX8_lifter_110 : decode cX8_lifter 110 = .ok (.invokevirtual 125, 3) := dk_182 0 125 (dk_at dksX8_lifter_3 2 rfl rfl)
theorem dX8_lifter_113 : decode cX8_lifter 113 = .ok (.ireturn, 1) := dk_172 (dk_at dksX8_lifter_3 5 rfl rfl)
theorem dX8_lifter_114 : decode cX8_lifter 114 = .ok (.aload_n 0, 1) := dk_42 (dk_at dksX8_lifter_3 6 rfl rfl)
theorem dX8_lifter_115 : decode cX8_lifter 115 = .ok (.iload_n 1, 1) := dk_27 (dk_at dksX8_lifter_3 7 rfl rfl)
theorem dX8_lifter_116 : decode cX8_lifter 116 = .ok (.iload_n 2, 1) := dk_28 (dk_at dksX8_lifter_3 8 rfl rfl)
theorem dX8_lifter_117 : decode cX8_lifter 117 = .ok (.iconst 2, 1) := dk_5 (dk_at dksX8_lifter_3 9 rfl rfl)
theorem dX8_lifter_118 : decode cX8_lifter 118 = .ok (.invokevirtual 125, 3) := dk_182 0 125 (dk_at dksX8_lifter_3 10 rfl rfl)
theorem dX8_lifter_121 : decode cX8_lifter 121 = .ok (.ireturn, 1) := dk_172 (dk_at dksX8_lifter_3 13 rfl rfl)
theorem dX8_lifter_122 : decode cX8_lifter 122 = .ok (.aload_n 0, 1) := dk_42 (dk_at dksX8_lifter_3 14 rfl rfl)
theorem dX8_lifter_123 : decode cX8_lifter 123 = .ok (.iload_n 1, 1) := dk_27 (dk_at dksX8_lifter_3 15 rfl rfl)
theorem dX8_lifter_124 : decode cX8_lifter 124 = .ok (.bipush 7, 2) := dk_16 7 (dk_at dksX8_lifter_3 16 rfl rfl)
theorem dX8_lifter_126 : decode cX8_lifter 126 = .ok (.iload_n 2, 1) := dk_28 (dk_at dksX8_lifter_3 18 rfl rfl)
theorem dX8_lifter_127 : decode cX8_lifter 127 = .ok (.iadd, 1) := dk_96 (dk_at dksX8_lifter_3 19 rfl rfl)
theorem dX8_lifter_128 : decode cX8_lifter 128 = .ok (.invokevirtual 106, 3) := dk_182 0 106 (dk_at dksX8_lifter_3 20 rfl rfl)
theorem dX8_lifter_131 : decode cX8_lifter 131 = .ok (.ireturn, 1) := dk_172 (dk_at dksX8_lifter_3 23 rfl rfl)
theorem dX8_lifter_132 : decode cX8_lifter 132 = .ok (.aload_n 0, 1) := dk_42 (dk_at dksX8_lifter_4 0 rfl rfl)
theorem dX8_lifter_133 : decode cX8_lifter 133 = .ok (.iload_n 1, 1) := dk_27 (dk_at dksX8_lifter_4 1 rfl rfl)
theorem dX8_lifter_134 : decode cX8_lifter 134 = .ok (.iconst 0, 1) := dk_3 (dk_at dksX8_lifter_4 2 rfl rfl)
theorem dX8_lifter_135 : decode cX8_lifter 135 = .ok (.invokevirtual 106, 3) := dk_182 0 106 (dk_at dksX8_lifter_4 3 rfl rfl)
theorem dX8_lifter_138 : decode cX8_lifter 138 = .ok (.ireturn, 1) := dk_172 (dk_at dksX8_lifter_4 6 rfl rfl)
theorem dX8_lifter_139 : decode cX8_lifter 139 = .ok (.aload_n 0, 1) := dk_42 (dk_at dksX8_lifter_4 7 rfl rfl)
theorem dX8_lifter_140 : decode cX8_lifter 140 = .ok (.iload_n 1, 1) := dk_27 (dk_at dksX8_lifter_4 8 rfl rfl)
theorem dX8_lifter_141 : decode cX8_lifter 141 = .ok (.invokevirtual 249, 3) := dk_182 0 249 (dk_at dksX8_lifter_4 9 rfl rfl)
theorem dX8_lifter_144 : decode cX8_lifter 144 = .ok (.ireturn, 1) := dk_172 (dk_at dksX8_lifter_4 12 rfl rfl)
theorem dX8_lifter_145 : decode cX8_lifter 145 = .ok (.aload_n 0, 1) := dk_42 (dk_at dksX8_lifter_4 13 rfl rfl)
theorem dX8_lifter_146 : decode cX8_lifter 146 = .ok (.iload_n 1, 1) := dk_27 (dk_at dksX8_lifter_4 14 rfl rfl)
theorem dX8_lifter_147 : decode cX8_lifter 147 = .ok (.iconst 5, 1) := dk_8 (dk_at dksX8_lifter_4 15 rfl rfl)
theorem dX8_lifter_148 : decode cX8_lifter 148 = .ok (.invokevirtual 106, 3) := dk_182 0 106 (dk_at dksX8_lifter_4 16 rfl rfl)
theorem dX8_lifter_151 : decode cX8_lifter 151 = .ok (.ireturn, 1) := dk_172 (dk_at dksX8_lifter_4 19 rfl rfl)
theorem dX8_lifter_152 : decode cX8_lifter 152 = .ok (.aload_n 0, 1) := dk_42 (dk_at dksX8_lifter_4 20 rfl rfl)
theorem dX8_lifter_153 : decode cX8_lifter 153 = .ok (.iload_n 1, 1) := dk_27 (dk_at dksX8_lifter_4 21 rfl rfl)
theorem dX8_lifter_154 : decode cX8_lifter 154 = .ok (.invokevirtual 140, 3) := dk_182 0 140 (dk_at dksX8_lifter_5 0 rfl rfl)
theorem dX8_lifter_157 : decode cX8_lifter 157 = .ok (.invokestatic 160, 3) := dk_184 0 160 (dk_at dksX8_lifter_5 3 rfl rfl)
theorem dX8_lifter_160 : decode cX8_lifter 160 = .ok (.ireturn, 1) := dk_172 (dk_at dksX8_lifter_5 6 rfl rfl)
theorem dX8_lifter_161 : decode cX8_lifter 161 = .ok (.aload_n 0, 1) := dk_42 (dk_at dksX8_lifter_5 7 rfl rfl)
theorem dX8_lifter_162 : decode cX8_lifter 162 = .ok (.iload_n 1, 1) := dk_27 (dk_at dksX8_lifter_5 8 rfl rfl)
theorem dX8_lifter_163 : decode cX8_lifter 163 = .ok (.bipush 6, 2) := dk_16 6 (dk_at dksX8_lifter_5 9 rfl rfl)
theorem dX8_lifter_165 : decode cX8_lifter 165 = .ok (.invokevirtual 106, 3) := dk_182 0 106 (dk_at dksX8_lifter_5 11 rfl rfl)
theorem dX8_lifter_168 : decode cX8_lifter 168 = .ok (.ireturn, 1) := dk_172 (dk_at dksX8_lifter_5 14 rfl rfl)
theorem dX8_lifter_169 : decode cX8_lifter 169 = .ok (.aload_n 0, 1) := dk_42 (dk_at dksX8_lifter_5 15 rfl rfl)
theorem dX8_lifter_170 : decode cX8_lifter 170 = .ok (.iload_n 1, 1) := dk_27 (dk_at dksX8_lifter_5 16 rfl rfl)
theorem dX8_lifter_171 : decode cX8_lifter 171 = .ok (.invokevirtual 167, 3) := dk_182 0 167 (dk_at dksX8_lifter_5 17 rfl rfl)
theorem dX8_lifter_174 : decode cX8_lifter 174 = .ok (.ireturn, 1) := dk_172 (dk_at dksX8_lifter_5 20 rfl rfl)
theorem dX8_lifter_175 : decode cX8_lifter 175 = .ok (.iconst (-1), 1) := dk_2 (dk_at dksX8_lifter_5 21 rfl rfl)
theorem dX8_lifter_176 : decode cX8_lifter 176 = .ok (.ireturn, 1) := dk_172 (dk_at dksX8_lifter_5 22 rfl rfl)
abbrev cX8_leastOf : ByteArray := prog_21_method_26_code
def yX8_leastOf : MethodName := ⟨RX8, "leastOf", "(I)I"⟩
def dkwX8_leastOf_3 : List UInt8 := [167, 0, 4, 28, 172]
abbrev dktX8_leastOf_3 : List UInt8 := dkwX8_leastOf_3 ++ []
def dkwX8_leastOf_2 : List UInt8 := [182, 0, 106, 96, 61, 42, 27, 4, 182, 0, 106, 154, 0, 16, 28, 42, 180, 0, 32, 5, 46, 184, 0, 100]
abbrev dktX8_leastOf_2 : List UInt8 := dkwX8_leastOf_2 ++ dktX8_leastOf_3
def dkwX8_leastOf_1 : List UInt8 := [3, 172, 42, 27, 5, 182, 0, 106, 154, 0, 7, 4, 167, 0, 16, 42, 27, 5, 182, 0, 106, 42, 27, 6]
abbrev dktX8_leastOf_1 : List UInt8 := dkwX8_leastOf_1 ++ dktX8_leastOf_2
def dkwX8_leastOf_0 : List UInt8 := [42, 27, 3, 182, 0, 106, 153, 0, 18, 42, 27, 182, 0, 121, 154, 0, 10, 42, 182, 0, 113, 153, 0, 5]
abbrev dktX8_leastOf_0 : List UInt8 := dkwX8_leastOf_0 ++ dktX8_leastOf_1
theorem dksX8_leastOf_0 : cX8_leastOf.data.toList.drop 0 = dktX8_leastOf_0 := by decide +kernel
theorem dksX8_leastOf_1 : cX8_leastOf.data.toList.drop 24 = dktX8_leastOf_1 := dk_seg dksX8_leastOf_0 24 rfl rfl
theorem dksX8_leastOf_2 : cX8_leastOf.data.toList.drop 48 = dktX8_leastOf_2 := dk_seg dksX8_leastOf_1 24 rfl rfl
theorem dksX8_leastOf_3 : cX8_leastOf.data.toList.drop 72 = dktX8_leastOf_3 := dk_seg dksX8_leastOf_2 24 rfl rfl
theorem dX8_leastOf_0 : decode cX8_leastOf 0 = .ok (.aload_n 0, 1) := dk_42 (dk_at dksX8_leastOf_0 0 rfl rfl)
theorem dX8_leastOf_1 : decode cX8_leastOf 1 = .ok (.iload_n 1, 1) := dk_27 (dk_at dksX8_leastOf_0 1 rfl rfl)
theorem dX8_leastOf_2 : decode cX8_leastOf 2 = .ok (.iconst 0, 1) := dk_3 (dk_at dksX8_leastOf_0 2 rfl rfl)
theorem dX8_leastOf_3 : decode cX8_leastOf 3 = .ok (.invokevirtual 106, 3) := dk_182 0 106 (dk_at dksX8_leastOf_0 3 rfl rfl)
theorem dX8_leastOf_6 : decode cX8_leastOf 6 = .ok (.ifCond .eq 18, 3) := dk_153 0 18 (dk_at dksX8_leastOf_0 6 rfl rfl)
theorem dX8_leastOf_9 : decode cX8_leastOf 9 = .ok (.aload_n 0, 1) := dk_42 (dk_at dksX8_leastOf_0 9 rfl rfl)
theorem dX8_leastOf_10 : decode cX8_leastOf 10 = .ok (.iload_n 1, 1) := dk_27 (dk_at dksX8_leastOf_0 10 rfl rfl)
theorem dX8_leastOf_11 : decode cX8_leastOf 11 = .ok (.invokevirtual 121, 3) := dk_182 0 121 (dk_at dksX8_leastOf_0 11 rfl rfl)
theorem dX8_leastOf_14 : decode cX8_leastOf 14 = .ok (.ifCond .ne 10, 3) := dk_154 0 10 (dk_at dksX8_leastOf_0 14 rfl rfl)
theorem dX8_leastOf_17 : decode cX8_leastOf 17 = .ok (.aload_n 0, 1) := dk_42 (dk_at dksX8_leastOf_0 17 rfl rfl)
theorem dX8_leastOf_18 : decode cX8_leastOf 18 = .ok (.invokevirtual 113, 3) := dk_182 0 113 (dk_at dksX8_leastOf_0 18 rfl rfl)
theorem dX8_leastOf_21 : decode cX8_leastOf 21 = .ok (.ifCond .eq 5, 3) := dk_153 0 5 (dk_at dksX8_leastOf_0 21 rfl rfl)
theorem dX8_leastOf_24 : decode cX8_leastOf 24 = .ok (.iconst 0, 1) := dk_3 (dk_at dksX8_leastOf_1 0 rfl rfl)
theorem dX8_leastOf_25 : decode cX8_leastOf 25 = .ok (.ireturn, 1) := dk_172 (dk_at dksX8_leastOf_1 1 rfl rfl)
theorem dX8_leastOf_26 : decode cX8_leastOf 26 = .ok (.aload_n 0, 1) := dk_42 (dk_at dksX8_leastOf_1 2 rfl rfl)
theorem dX8_leastOf_27 : decode cX8_leastOf 27 = .ok (.iload_n 1, 1) := dk_27 (dk_at dksX8_leastOf_1 3 rfl rfl)
theorem dX8_leastOf_28 : decode cX8_leastOf 28 = .ok (.iconst 2, 1) := dk_5 (dk_at dksX8_leastOf_1 4 rfl rfl)
theorem dX8_leastOf_29 : decode cX8_leastOf 29 = .ok (.invokevirtual 106, 3) := dk_182 0 106 (dk_at dksX8_leastOf_1 5 rfl rfl)
theorem dX8_leastOf_32 : decode cX8_leastOf 32 = .ok (.ifCond .ne 7, 3) := dk_154 0 7 (dk_at dksX8_leastOf_1 8 rfl rfl)
theorem dX8_leastOf_35 : decode cX8_leastOf 35 = .ok (.iconst 1, 1) := dk_4 (dk_at dksX8_leastOf_1 11 rfl rfl)
theorem dX8_leastOf_36 : decode cX8_leastOf 36 = .ok (.goto 16, 3) := dk_167 0 16 (dk_at dksX8_leastOf_1 12 rfl rfl)
theorem dX8_leastOf_39 : decode cX8_leastOf 39 = .ok (.aload_n 0, 1) := dk_42 (dk_at dksX8_leastOf_1 15 rfl rfl)
theorem dX8_leastOf_40 : decode cX8_leastOf 40 = .ok (.iload_n 1, 1) := dk_27 (dk_at dksX8_leastOf_1 16 rfl rfl)
theorem dX8_leastOf_41 : decode cX8_leastOf 41 = .ok (.iconst 2, 1) := dk_5 (dk_at dksX8_leastOf_1 17 rfl rfl)
theorem dX8_leastOf_42 : decode cX8_leastOf 42 = .ok (.invokevirtual 106, 3) := dk_182 0 106 (dk_at dksX8_leastOf_1 18 rfl rfl)
theorem dX8_leastOf_45 : decode cX8_leastOf 45 = .ok (.aload_n 0, 1) := dk_42 (dk_at dksX8_leastOf_1 21 rfl rfl)
theorem dX8_leastOf_46 : decode cX8_leastOf 46 = .ok (.iload_n 1, 1) := dk_27 (dk_at dksX8_leastOf_1 22 rfl rfl)
theorem dX8_leastOf_47 : decode cX8_leastOf 47 = .ok (.iconst 3, 1) := dk_6 (dk_at dksX8_leastOf_1 23 rfl rfl)
theorem dX8_leastOf_48 : decode cX8_leastOf 48 = .ok (.invokevirtual 106, 3) := dk_182 0 106 (dk_at dksX8_leastOf_2 0 rfl rfl)
theorem dX8_leastOf_51 : decode cX8_leastOf 51 = .ok (.iadd, 1) := dk_96 (dk_at dksX8_leastOf_2 3 rfl rfl)
theorem dX8_leastOf_52 : decode cX8_leastOf 52 = .ok (.istore_n 2, 1) := dk_61 (dk_at dksX8_leastOf_2 4 rfl rfl)
theorem dX8_leastOf_53 : decode cX8_leastOf 53 = .ok (.aload_n 0, 1) := dk_42 (dk_at dksX8_leastOf_2 5 rfl rfl)
theorem dX8_leastOf_54 : decode cX8_leastOf 54 = .ok (.iload_n 1, 1) := dk_27 (dk_at dksX8_leastOf_2 6 rfl rfl)
theorem dX8_leastOf_55 : decode cX8_leastOf 55 = .ok (.iconst 1, 1) := dk_4 (dk_at dksX8_leastOf_2 7 rfl rfl)
theorem dX8_leastOf_56 : decode cX8_leastOf 56 = .ok (.invokevirtual 106, 3) := dk_182 0 106 (dk_at dksX8_leastOf_2 8 rfl rfl)
theorem dX8_leastOf_59 : decode cX8_leastOf 59 = .ok (.ifCond .ne 16, 3) := dk_154 0 16 (dk_at dksX8_leastOf_2 11 rfl rfl)
theorem dX8_leastOf_62 : decode cX8_leastOf 62 = .ok (.iload_n 2, 1) := dk_28 (dk_at dksX8_leastOf_2 14 rfl rfl)
theorem dX8_leastOf_63 : decode cX8_leastOf 63 = .ok (.aload_n 0, 1) := dk_42 (dk_at dksX8_leastOf_2 15 rfl rfl)
theorem dX8_leastOf_64 : decode cX8_leastOf 64 = .ok (.getfield 32, 3) := dk_180 0 32 (dk_at dksX8_leastOf_2 16 rfl rfl)
theorem dX8_leastOf_67 : decode cX8_leastOf 67 = .ok (.iconst 2, 1) := dk_5 (dk_at dksX8_leastOf_2 19 rfl rfl)
theorem dX8_leastOf_68 : decode cX8_leastOf 68 = .ok (.iaload, 1) := dk_46 (dk_at dksX8_leastOf_2 20 rfl rfl)
theorem dX8_leastOf_69 : decode cX8_leastOf 69 = .ok (.invokestatic 100, 3) := dk_184 0 100 (dk_at dksX8_leastOf_2 21 rfl rfl)
theorem dX8_leastOf_72 : decode cX8_leastOf 72 = .ok (.goto 4, 3) := dk_167 0 4 (dk_at dksX8_leastOf_3 0 rfl rfl)
theorem dX8_leastOf_75 : decode cX8_leastOf 75 = .ok (.iload_n 2, 1) := dk_28 (dk_at dksX8_leastOf_3 3 rfl rfl)
theorem dX8_leastOf_76 : decode cX8_leastOf 76 = .ok (.ireturn, 1) := dk_172 (dk_at dksX8_leastOf_3 4 rfl rfl)
abbrev cX8_isStill : ByteArray := prog_21_method_19_code
def yX8_isStill : MethodName := ⟨RX8, "isStill", "(I)Z"⟩
def dkwX8_isStill_1 : List UInt8 := [154, 0, 14, 42, 182, 0, 113, 154, 0, 7, 4, 167, 0, 4, 3, 172]
abbrev dktX8_isStill_1 : List UInt8 := dkwX8_isStill_1 ++ []
def dkwX8_isStill_0 : List UInt8 := [42, 27, 3, 182, 0, 106, 158, 0, 31, 42, 27, 4, 182, 0, 106, 154, 0, 22, 42, 27, 182, 0, 121]
abbrev dktX8_isStill_0 : List UInt8 := dkwX8_isStill_0 ++ dktX8_isStill_1
theorem dksX8_isStill_0 : cX8_isStill.data.toList.drop 0 = dktX8_isStill_0 := by decide +kernel
theorem dksX8_isStill_1 : cX8_isStill.data.toList.drop 23 = dktX8_isStill_1 := dk_seg dksX8_isStill_0 23 rfl rfl
theorem dX8_isStill_0 : decode cX8_isStill 0 = .ok (.aload_n 0, 1) := dk_42 (dk_at dksX8_isStill_0 0 rfl rfl)
theorem dX8_isStill_1 : decode cX8_isStill 1 = .ok (.iload_n 1, 1) := dk_27 (dk_at dksX8_isStill_0 1 rfl rfl)
theorem dX8_isStill_2 : decode cX8_isStill 2 = .ok (.iconst 0, 1) := dk_3 (dk_at dksX8_isStill_0 2 rfl rfl)
theorem dX8_isStill_3 : decode cX8_isStill 3 = .ok (.invokevirtual 106, 3) := dk_182 0 106 (dk_at dksX8_isStill_0 3 rfl rfl)
theorem dX8_isStill_6 : decode cX8_isStill 6 = .ok (.ifCond .le 31, 3) := dk_158 0 31 (dk_at dksX8_isStill_0 6 rfl rfl)
theorem dX8_isStill_9 : decode cX8_isStill 9 = .ok (.aload_n 0, 1) := dk_42 (dk_at dksX8_isStill_0 9 rfl rfl)
theorem dX8_isStill_10 : decode cX8_isStill 10 = .ok (.iload_n 1, 1) := dk_27 (dk_at dksX8_isStill_0 10 rfl rfl)
theorem dX8_isStill_11 : decode cX8_isStill 11 = .ok (.iconst 1, 1) := dk_4 (dk_at dksX8_isStill_0 11 rfl rfl)
theorem dX8_isStill_12 : decode cX8_isStill 12 = .ok (.invokevirtual 106, 3) := dk_182 0 106 (dk_at dksX8_isStill_0 12 rfl rfl)
theorem dX8_isStill_15 : decode cX8_isStill 15 = .ok (.ifCond .ne 22, 3) := dk_154 0 22 (dk_at dksX8_isStill_0 15 rfl rfl)
theorem dX8_isStill_18 : decode cX8_isStill 18 = .ok (.aload_n 0, 1) := dk_42 (dk_at dksX8_isStill_0 18 rfl rfl)
theorem dX8_isStill_19 : decode cX8_isStill 19 = .ok (.iload_n 1, 1) := dk_27 (dk_at dksX8_isStill_0 19 rfl rfl)
theorem dX8_isStill_20 : decode cX8_isStill 20 = .ok (.invokevirtual 121, 3) := dk_182 0 121 (dk_at dksX8_isStill_0 20 rfl rfl)
theorem dX8_isStill_23 : decode cX8_isStill 23 = .ok (.ifCond .ne 14, 3) := dk_154 0 14 (dk_at dksX8_isStill_1 0 rfl rfl)
theorem dX8_isStill_26 : decode cX8_isStill 26 = .ok (.aload_n 0, 1) := dk_42 (dk_at dksX8_isStill_1 3 rfl rfl)
theorem dX8_isStill_27 : decode cX8_isStill 27 = .ok (.invokevirtual 113, 3) := dk_182 0 113 (dk_at dksX8_isStill_1 4 rfl rfl)
theorem dX8_isStill_30 : decode cX8_isStill 30 = .ok (.ifCond .ne 7, 3) := dk_154 0 7 (dk_at dksX8_isStill_1 7 rfl rfl)
theorem dX8_isStill_33 : decode cX8_isStill 33 = .ok (.iconst 1, 1) := dk_4 (dk_at dksX8_isStill_1 10 rfl rfl)
theorem dX8_isStill_34 : decode cX8_isStill 34 = .ok (.goto 4, 3) := dk_167 0 4 (dk_at dksX8_isStill_1 11 rfl rfl)
theorem dX8_isStill_37 : decode cX8_isStill 37 = .ok (.iconst 0, 1) := dk_3 (dk_at dksX8_isStill_1 14 rfl rfl)
theorem dX8_isStill_38 : decode cX8_isStill 38 = .ok (.ireturn, 1) := dk_172 (dk_at dksX8_isStill_1 15 rfl rfl)
abbrev cX8_flag : ByteArray := prog_21_method_4_code
def yX8_flag : MethodName := ⟨RX8, "flag", "(Z)I"⟩
def dkwX8_flag_0 : List UInt8 := [26, 153, 0, 7, 4, 167, 0, 4, 3, 172]
abbrev dktX8_flag_0 : List UInt8 := dkwX8_flag_0 ++ []
theorem dksX8_flag_0 : cX8_flag.data.toList.drop 0 = dktX8_flag_0 := by decide +kernel
theorem dX8_flag_0 : decode cX8_flag 0 = .ok (.iload_n 0, 1) := dk_26 (dk_at dksX8_flag_0 0 rfl rfl)
theorem dX8_flag_1 : decode cX8_flag 1 = .ok (.ifCond .eq 7, 3) := dk_153 0 7 (dk_at dksX8_flag_0 1 rfl rfl)
theorem dX8_flag_4 : decode cX8_flag 4 = .ok (.iconst 1, 1) := dk_4 (dk_at dksX8_flag_0 4 rfl rfl)
theorem dX8_flag_5 : decode cX8_flag 5 = .ok (.goto 4, 3) := dk_167 0 4 (dk_at dksX8_flag_0 5 rfl rfl)
theorem dX8_flag_8 : decode cX8_flag 8 = .ok (.iconst 0, 1) := dk_3 (dk_at dksX8_flag_0 8 rfl rfl)
theorem dX8_flag_9 : decode cX8_flag 9 = .ok (.ireturn, 1) := dk_172 (dk_at dksX8_flag_0 9 rfl rfl)
abbrev cX8_sumOf : ByteArray := prog_21_method_27_code
def yX8_sumOf : MethodName := ⟨RX8, "sumOf", "(I)I"⟩
def dkwX8_sumOf_1 : List UInt8 := [182, 0, 106, 96, 42, 27, 16, 9, 182, 0, 106, 96, 172]
abbrev dktX8_sumOf_1 : List UInt8 := dkwX8_sumOf_1 ++ []
def dkwX8_sumOf_0 : List UInt8 := [42, 27, 182, 0, 121, 153, 0, 7, 3, 167, 0, 26, 42, 27, 16, 7, 182, 0, 106, 42, 27, 16, 8]
abbrev dktX8_sumOf_0 : List UInt8 := dkwX8_sumOf_0 ++ dktX8_sumOf_1
theorem dksX8_sumOf_0 : cX8_sumOf.data.toList.drop 0 = dktX8_sumOf_0 := by decide +kernel
theorem dksX8_sumOf_1 : cX8_sumOf.data.toList.drop 23 = dktX8_sumOf_1 := dk_seg dksX8_sumOf_0 23 rfl rfl
theorem dX8_sumOf_0 : decode cX8_sumOf 0 = .ok (.aload_n 0, 1) := dk_42 (dk_at dksX8_sumOf_0 0 rfl rfl)
theorem dX8_sumOf_1 : decode cX8_sumOf 1 = .ok (.iload_n 1, 1) := dk_27 (dk_at dksX8_sumOf_0 1 rfl rfl)
theorem dX8_sumOf_2 : decode cX8_sumOf 2 = .ok (.invokevirtual 121, 3) := dk_182 0 121 (dk_at dksX8_sumOf_0 2 rfl rfl)
theorem dX8_sumOf_5 : decode cX8_sumOf 5 = .ok (.ifCond .eq 7, 3) := dk_153 0 7 (dk_at dksX8_sumOf_0 5 rfl rfl)
theorem dX8_sumOf_8 : decode cX8_sumOf 8 = .ok (.iconst 0, 1) := dk_3 (dk_at dksX8_sumOf_0 8 rfl rfl)
theorem dX8_sumOf_9 : decode cX8_sumOf 9 = .ok (.goto 26, 3) := dk_167 0 26 (dk_at dksX8_sumOf_0 9 rfl rfl)
theorem dX8_sumOf_12 : decode cX8_sumOf 12 = .ok (.aload_n 0, 1) := dk_42 (dk_at dksX8_sumOf_0 12 rfl rfl)
theorem dX8_sumOf_13 : decode cX8_sumOf 13 = .ok (.iload_n 1, 1) := dk_27 (dk_at dksX8_sumOf_0 13 rfl rfl)
theorem dX8_sumOf_14 : decode cX8_sumOf 14 = .ok (.bipush 7, 2) := dk_16 7 (dk_at dksX8_sumOf_0 14 rfl rfl)
theorem dX8_sumOf_16 : decode cX8_sumOf 16 = .ok (.invokevirtual 106, 3) := dk_182 0 106 (dk_at dksX8_sumOf_0 16 rfl rfl)
theorem dX8_sumOf_19 : decode cX8_sumOf 19 = .ok (.aload_n 0, 1) := dk_42 (dk_at dksX8_sumOf_0 19 rfl rfl)
theorem dX8_sumOf_20 : decode cX8_sumOf 20 = .ok (.iload_n 1, 1) := dk_27 (dk_at dksX8_sumOf_0 20 rfl rfl)
theorem dX8_sumOf_21 : decode cX8_sumOf 21 = .ok (.bipush 8, 2) := dk_16 8 (dk_at dksX8_sumOf_0 21 rfl rfl)
theorem dX8_sumOf_23 : decode cX8_sumOf 23 = .ok (.invokevirtual 106, 3) := dk_182 0 106 (dk_at dksX8_sumOf_1 0 rfl rfl)
theorem dX8_sumOf_26 : decode cX8_sumOf 26 = .ok (.iadd, 1) := dk_96 (dk_at dksX8_sumOf_1 3 rfl rfl)
theorem dX8_sumOf_27 : decode cX8_sumOf 27 = .ok (.aload_n 0, 1) := dk_42 (dk_at dksX8_sumOf_1 4 rfl rfl)
theorem dX8_sumOf_28 : decode cX8_sumOf 28 = .ok (.iload_n 1, 1) := dk_27 (dk_at dksX8_sumOf_1 5 rfl rfl)
theorem dX8_sumOf_29 : decode cX8_sumOf 29 = .ok (.bipush 9, 2) := dk_16 9 (dk_at dksX8_sumOf_1 6 rfl rfl)
theorem dX8_sumOf_31 : decode cX8_sumOf 31 = .ok (.invokevirtual 106, 3) := dk_182 0 106 (dk_at dksX8_sumOf_1 8 rfl rfl)
theorem dX8_sumOf_34 : decode cX8_sumOf 34 = .ok (.iadd, 1) := dk_96 (dk_at dksX8_sumOf_1 11 rfl rfl)
theorem dX8_sumOf_35 : decode cX8_sumOf 35 = .ok (.ireturn, 1) := dk_172 (dk_at dksX8_sumOf_1 12 rfl rfl)
abbrev cX8_called : ByteArray := prog_21_method_49_code
def yX8_called : MethodName := ⟨RX8, "called", "()I"⟩
def dkwX8_called_2 : List UInt8 := [182, 0, 106, 42, 27, 7, 182, 0, 106, 182, 0, 245, 133, 182, 0, 180, 27, 172]
abbrev dktX8_called_2 : List UInt8 := dkwX8_called_2 ++ []
def dkwX8_called_1 : List UInt8 := [42, 27, 3, 182, 0, 106, 133, 182, 0, 180, 42, 42, 27, 42, 180, 0, 32, 3, 46, 42, 27, 3]
abbrev dktX8_called_1 : List UInt8 := dkwX8_called_1 ++ dktX8_called_2
def dkwX8_called_0 : List UInt8 := [42, 3, 181, 0, 77, 42, 182, 0, 147, 60, 27, 2, 160, 0, 6, 16, 254, 172, 42, 3, 181, 0, 81, 42]
abbrev dktX8_called_0 : List UInt8 := dkwX8_called_0 ++ dktX8_called_1
theorem dksX8_called_0 : cX8_called.data.toList.drop 0 = dktX8_called_0 := by decide +kernel
theorem dksX8_called_1 : cX8_called.data.toList.drop 24 = dktX8_called_1 := dk_seg dksX8_called_0 24 rfl rfl
theorem dksX8_called_2 : cX8_called.data.toList.drop 46 = dktX8_called_2 := dk_seg dksX8_called_1 22 rfl rfl
theorem dX8_called_0 : decode cX8_called 0 = .ok (.aload_n 0, 1) := dk_42 (dk_at dksX8_called_0 0 rfl rfl)
theorem dX8_called_1 : decode cX8_called 1 = .ok (.iconst 0, 1) := dk_3 (dk_at dksX8_called_0 1 rfl rfl)
theorem dX8_called_2 : decode cX8_called 2 = .ok (.putfield 77, 3) := dk_181 0 77 (dk_at dksX8_called_0 2 rfl rfl)
theorem dX8_called_5 : decode cX8_called 5 = .ok (.aload_n 0, 1) := dk_42 (dk_at dksX8_called_0 5 rfl rfl)
theorem dX8_called_6 : decode cX8_called 6 = .ok (.invokevirtual 147, 3) := dk_182 0 147 (dk_at dksX8_called_0 6 rfl rfl)
theorem dX8_called_9 : decode cX8_called 9 = .ok (.istore_n 1, 1) := dk_60 (dk_at dksX8_called_0 9 rfl rfl)
theorem dX8_called_10 : decode cX8_called 10 = .ok (.iload_n 1, 1) := dk_27 (dk_at dksX8_called_0 10 rfl rfl)
theorem dX8_called_11 : decode cX8_called 11 = .ok (.iconst (-1), 1) := dk_2 (dk_at dksX8_called_0 11 rfl rfl)
theorem dX8_called_12 : decode cX8_called 12 = .ok (.if_icmp .ne 6, 3) := dk_160 0 6 (dk_at dksX8_called_0 12 rfl rfl)
theorem dX8_called_15 : decode cX8_called 15 = .ok (.bipush (-2), 2) := dk_16 254 (dk_at dksX8_called_0 15 rfl rfl)
theorem dX8_called_17 : decode cX8_called 17 = .ok (.ireturn, 1) := dk_172 (dk_at dksX8_called_0 17 rfl rfl)
theorem dX8_called_18 : decode cX8_called 18 = .ok (.aload_n 0, 1) := dk_42 (dk_at dksX8_called_0 18 rfl rfl)
theorem dX8_called_19 : decode cX8_called 19 = .ok (.iconst 0, 1) := dk_3 (dk_at dksX8_called_0 19 rfl rfl)
theorem dX8_called_20 : decode cX8_called 20 = .ok (.putfield 81, 3) := dk_181 0 81 (dk_at dksX8_called_0 20 rfl rfl)
theorem dX8_called_23 : decode cX8_called 23 = .ok (.aload_n 0, 1) := dk_42 (dk_at dksX8_called_0 23 rfl rfl)
theorem dX8_called_24 : decode cX8_called 24 = .ok (.aload_n 0, 1) := dk_42 (dk_at dksX8_called_1 0 rfl rfl)
theorem dX8_called_25 : decode cX8_called 25 = .ok (.iload_n 1, 1) := dk_27 (dk_at dksX8_called_1 1 rfl rfl)
theorem dX8_called_26 : decode cX8_called 26 = .ok (.iconst 0, 1) := dk_3 (dk_at dksX8_called_1 2 rfl rfl)
theorem dX8_called_27 : decode cX8_called 27 = .ok (.invokevirtual 106, 3) := dk_182 0 106 (dk_at dksX8_called_1 3 rfl rfl)
theorem dX8_called_30 : decode cX8_called 30 = .ok (.i2l, 1) := dk_133 (dk_at dksX8_called_1 6 rfl rfl)
theorem dX8_called_31 : decode cX8_called 31 = .ok (.invokevirtual 180, 3) := dk_182 0 180 (dk_at dksX8_called_1 7 rfl rfl)
theorem dX8_called_34 : decode cX8_called 34 = .ok (.aload_n 0, 1) := dk_42 (dk_at dksX8_called_1 10 rfl rfl)
theorem dX8_called_35 : decode cX8_called 35 = .ok (.aload_n 0, 1) := dk_42 (dk_at dksX8_called_1 11 rfl rfl)
theorem dX8_called_36 : decode cX8_called 36 = .ok (.iload_n 1, 1) := dk_27 (dk_at dksX8_called_1 12 rfl rfl)
theorem dX8_called_37 : decode cX8_called 37 = .ok (.aload_n 0, 1) := dk_42 (dk_at dksX8_called_1 13 rfl rfl)
theorem dX8_called_38 : decode cX8_called 38 = .ok (.getfield 32, 3) := dk_180 0 32 (dk_at dksX8_called_1 14 rfl rfl)
theorem dX8_called_41 : decode cX8_called 41 = .ok (.iconst 0, 1) := dk_3 (dk_at dksX8_called_1 17 rfl rfl)
theorem dX8_called_42 : decode cX8_called 42 = .ok (.iaload, 1) := dk_46 (dk_at dksX8_called_1 18 rfl rfl)
theorem dX8_called_43 : decode cX8_called 43 = .ok (.aload_n 0, 1) := dk_42 (dk_at dksX8_called_1 19 rfl rfl)
theorem dX8_called_44 : decode cX8_called 44 = .ok (.iload_n 1, 1) := dk_27 (dk_at dksX8_called_1 20 rfl rfl)
theorem dX8_called_45 : decode cX8_called 45 = .ok (.iconst 0, 1) := dk_3 (dk_at dksX8_called_1 21 rfl rfl)
theorem dX8_called_46 : decode cX8_called 46 = .ok (.invokevirtual 106, 3) := dk_182 0 106 (dk_at dksX8_called_2 0 rfl rfl)
theorem dX8_called_49 : decode cX8_called 49 = .ok (.aload_n 0, 1) := dk_42 (dk_at dksX8_called_2 3 rfl rfl)
theorem dX8_called_50 : decode cX8_called 50 = .ok (.iload_n 1, 1) := dk_27 (dk_at dksX8_called_2 4 rfl rfl)
theorem dX8_called_51 : decode cX8_called 51 = .ok (.iconst 4, 1) := dk_7 (dk_at dksX8_called_2 5 rfl rfl)
theorem dX8_called_52 : decode cX8_called 52 = .ok (.invokevirtual 106, 3) := dk_182 0 106 (dk_at dksX8_called_2 6 rfl rfl)
theorem dX8_called_55 : decode cX8_called 55 = .ok (.invokevirtual 245, 3) := dk_182 0 245 (dk_at dksX8_called_2 9 rfl rfl)
theorem dX8_called_58 : decode cX8_called 58 = .ok (.i2l, 1) := dk_133 (dk_at dksX8_called_2 12 rfl rfl)
theorem dX8_called_59 : decode cX8_called 59 = .ok (.invokevirtual 180, 3) := dk_182 0 180 (dk_at dksX8_called_2 13 rfl rfl)
theorem dX8_called_62 : decode cX8_called 62 = .ok (.iload_n 1, 1) := dk_27 (dk_at dksX8_called_2 16 rfl rfl)
theorem dX8_called_63 : decode cX8_called 63 = .ok (.ireturn, 1) := dk_172 (dk_at dksX8_called_2 17 rfl rfl)
abbrev cX8_calledNow : ByteArray := prog_21_method_21_code
def yX8_calledNow : MethodName := ⟨RX8, "calledNow", "()I"⟩
def dkwX8_calledNow_1 : List UInt8 := [159, 0, 12, 42, 28, 27, 182, 0, 143, 153, 0, 5, 28, 60, 132, 2, 1, 167, 255, 221, 27, 172]
abbrev dktX8_calledNow_1 : List UInt8 := dkwX8_calledNow_1 ++ []
def dkwX8_calledNow_0 : List UInt8 := [2, 60, 3, 61, 28, 42, 180, 0, 84, 162, 0, 33, 42, 28, 182, 0, 140, 153, 0, 19, 27, 2]
abbrev dktX8_calledNow_0 : List UInt8 := dkwX8_calledNow_0 ++ dktX8_calledNow_1
theorem dksX8_calledNow_0 : cX8_calledNow.data.toList.drop 0 = dktX8_calledNow_0 := by decide +kernel
theorem dksX8_calledNow_1 : cX8_calledNow.data.toList.drop 22 = dktX8_calledNow_1 := dk_seg dksX8_calledNow_0 22 rfl rfl
theorem dX8_calledNow_0 : decode cX8_calledNow 0 = .ok (.iconst (-1), 1) := dk_2 (dk_at dksX8_calledNow_0 0 rfl rfl)
theorem dX8_calledNow_1 : decode cX8_calledNow 1 = .ok (.istore_n 1, 1) := dk_60 (dk_at dksX8_calledNow_0 1 rfl rfl)
theorem dX8_calledNow_2 : decode cX8_calledNow 2 = .ok (.iconst 0, 1) := dk_3 (dk_at dksX8_calledNow_0 2 rfl rfl)
theorem dX8_calledNow_3 : decode cX8_calledNow 3 = .ok (.istore_n 2, 1) := dk_61 (dk_at dksX8_calledNow_0 3 rfl rfl)
theorem dX8_calledNow_4 : decode cX8_calledNow 4 = .ok (.iload_n 2, 1) := dk_28 (dk_at dksX8_calledNow_0 4 rfl rfl)
theorem dX8_calledNow_5 : decode cX8_calledNow 5 = .ok (.aload_n 0, 1) := dk_42 (dk_at dksX8_calledNow_0 5 rfl rfl)
theorem dX8_calledNow_6 : decode cX8_calledNow 6 = .ok (.getfield 84, 3) := dk_180 0 84 (dk_at dksX8_calledNow_0 6 rfl rfl)
theorem dX8_calledNow_9 : decode cX8_calledNow 9 = .ok (.if_icmp .ge 33, 3) := dk_162 0 33 (dk_at dksX8_calledNow_0 9 rfl rfl)
theorem dX8_calledNow_12 : decode cX8_calledNow 12 = .ok (.aload_n 0, 1) := dk_42 (dk_at dksX8_calledNow_0 12 rfl rfl)
theorem dX8_calledNow_13 : decode cX8_calledNow 13 = .ok (.iload_n 2, 1) := dk_28 (dk_at dksX8_calledNow_0 13 rfl rfl)
theorem dX8_calledNow_14 : decode cX8_calledNow 14 = .ok (.invokevirtual 140, 3) := dk_182 0 140 (dk_at dksX8_calledNow_0 14 rfl rfl)
theorem dX8_calledNow_17 : decode cX8_calledNow 17 = .ok (.ifCond .eq 19, 3) := dk_153 0 19 (dk_at dksX8_calledNow_0 17 rfl rfl)
theorem dX8_calledNow_20 : decode cX8_calledNow 20 = .ok (.iload_n 1, 1) := dk_27 (dk_at dksX8_calledNow_0 20 rfl rfl)
theorem dX8_calledNow_21 : decode cX8_calledNow 21 = .ok (.iconst (-1), 1) := dk_2 (dk_at dksX8_calledNow_0 21 rfl rfl)
theorem dX8_calledNow_22 : decode cX8_calledNow 22 = .ok (.if_icmp .eq 12, 3) := dk_159 0 12 (dk_at dksX8_calledNow_1 0 rfl rfl)
theorem dX8_calledNow_25 : decode cX8_calledNow 25 = .ok (.aload_n 0, 1) := dk_42 (dk_at dksX8_calledNow_1 3 rfl rfl)
theorem dX8_calledNow_26 : decode cX8_calledNow 26 = .ok (.iload_n 2, 1) := dk_28 (dk_at dksX8_calledNow_1 4 rfl rfl)
theorem dX8_calledNow_27 : decode cX8_calledNow 27 = .ok (.iload_n 1, 1) := dk_27 (dk_at dksX8_calledNow_1 5 rfl rfl)
theorem dX8_calledNow_28 : decode cX8_calledNow 28 = .ok (.invokevirtual 143, 3) := dk_182 0 143 (dk_at dksX8_calledNow_1 6 rfl rfl)
theorem dX8_calledNow_31 : decode cX8_calledNow 31 = .ok (.ifCond .eq 5, 3) := dk_153 0 5 (dk_at dksX8_calledNow_1 9 rfl rfl)
theorem dX8_calledNow_34 : decode cX8_calledNow 34 = .ok (.iload_n 2, 1) := dk_28 (dk_at dksX8_calledNow_1 12 rfl rfl)
theorem dX8_calledNow_35 : decode cX8_calledNow 35 = .ok (.istore_n 1, 1) := dk_60 (dk_at dksX8_calledNow_1 13 rfl rfl)
theorem dX8_calledNow_36 : decode cX8_calledNow 36 = .ok (.iinc 2 1, 3) := dk_132 2 1 (dk_at dksX8_calledNow_1 14 rfl rfl)
theorem dX8_calledNow_39 : decode cX8_calledNow 39 = .ok (.goto (-35), 3) := dk_167 255 221 (dk_at dksX8_calledNow_1 17 rfl rfl)
theorem dX8_calledNow_42 : decode cX8_calledNow 42 = .ok (.iload_n 1, 1) := dk_27 (dk_at dksX8_calledNow_1 20 rfl rfl)
theorem dX8_calledNow_43 : decode cX8_calledNow 43 = .ok (.ireturn, 1) := dk_172 (dk_at dksX8_calledNow_1 21 rfl rfl)
abbrev cX8_isCalledAhead : ByteArray := prog_21_method_20_code
def yX8_isCalledAhead : MethodName := ⟨RX8, "isCalledAhead", "(II)Z"⟩
def dkwX8_isCalledAhead_2 : List UInt8 := [167, 0, 4, 3, 172]
abbrev dktX8_isCalledAhead_2 : List UInt8 := dkwX8_isCalledAhead_2 ++ []
def dkwX8_isCalledAhead_1 : List UInt8 := [182, 0, 106, 160, 0, 22, 42, 180, 0, 17, 27, 46, 42, 180, 0, 17, 28, 46, 162, 0, 7, 4]
abbrev dktX8_isCalledAhead_1 : List UInt8 := dkwX8_isCalledAhead_1 ++ dktX8_isCalledAhead_2
def dkwX8_isCalledAhead_0 : List UInt8 := [42, 27, 3, 182, 0, 106, 42, 28, 3, 182, 0, 106, 161, 0, 33, 42, 27, 3, 182, 0, 106, 42, 28, 3]
abbrev dktX8_isCalledAhead_0 : List UInt8 := dkwX8_isCalledAhead_0 ++ dktX8_isCalledAhead_1
theorem dksX8_isCalledAhead_0 : cX8_isCalledAhead.data.toList.drop 0 = dktX8_isCalledAhead_0 := by decide +kernel
theorem dksX8_isCalledAhead_1 : cX8_isCalledAhead.data.toList.drop 24 = dktX8_isCalledAhead_1 := dk_seg dksX8_isCalledAhead_0 24 rfl rfl
theorem dksX8_isCalledAhead_2 : cX8_isCalledAhead.data.toList.drop 46 = dktX8_isCalledAhead_2 := dk_seg dksX8_isCalledAhead_1 22 rfl rfl
theorem dX8_isCalledAhead_0 : decode cX8_isCalledAhead 0 = .ok (.aload_n 0, 1) := dk_42 (dk_at dksX8_isCalledAhead_0 0 rfl rfl)
theorem dX8_isCalledAhead_1 : decode cX8_isCalledAhead 1 = .ok (.iload_n 1, 1) := dk_27 (dk_at dksX8_isCalledAhead_0 1 rfl rfl)
theorem dX8_isCalledAhead_2 : decode cX8_isCalledAhead 2 = .ok (.iconst 0, 1) := dk_3 (dk_at dksX8_isCalledAhead_0 2 rfl rfl)
theorem dX8_isCalledAhead_3 : decode cX8_isCalledAhead 3 = .ok (.invokevirtual 106, 3) := dk_182 0 106 (dk_at dksX8_isCalledAhead_0 3 rfl rfl)
theorem dX8_isCalledAhead_6 : decode cX8_isCalledAhead 6 = .ok (.aload_n 0, 1) := dk_42 (dk_at dksX8_isCalledAhead_0 6 rfl rfl)
theorem dX8_isCalledAhead_7 : decode cX8_isCalledAhead 7 = .ok (.iload_n 2, 1) := dk_28 (dk_at dksX8_isCalledAhead_0 7 rfl rfl)
theorem dX8_isCalledAhead_8 : decode cX8_isCalledAhead 8 = .ok (.iconst 0, 1) := dk_3 (dk_at dksX8_isCalledAhead_0 8 rfl rfl)
theorem dX8_isCalledAhead_9 : decode cX8_isCalledAhead 9 = .ok (.invokevirtual 106, 3) := dk_182 0 106 (dk_at dksX8_isCalledAhead_0 9 rfl rfl)
theorem dX8_isCalledAhead_12 : decode cX8_isCalledAhead 12 = .ok (.if_icmp .lt 33, 3) := dk_161 0 33 (dk_at dksX8_isCalledAhead_0 12 rfl rfl)
theorem dX8_isCalledAhead_15 : decode cX8_isCalledAhead 15 = .ok (.aload_n 0, 1) := dk_42 (dk_at dksX8_isCalledAhead_0 15 rfl rfl)
theorem dX8_isCalledAhead_16 : decode cX8_isCalledAhead 16 = .ok (.iload_n 1, 1) := dk_27 (dk_at dksX8_isCalledAhead_0 16 rfl rfl)
theorem dX8_isCalledAhead_17 : decode cX8_isCalledAhead 17 = .ok (.iconst 0, 1) := dk_3 (dk_at dksX8_isCalledAhead_0 17 rfl rfl)
theorem dX8_isCalledAhead_18 : decode cX8_isCalledAhead 18 = .ok (.invokevirtual 106, 3) := dk_182 0 106 (dk_at dksX8_isCalledAhead_0 18 rfl rfl)
theorem dX8_isCalledAhead_21 : decode cX8_isCalledAhead 21 = .ok (.aload_n 0, 1) := dk_42 (dk_at dksX8_isCalledAhead_0 21 rfl rfl)
theorem dX8_isCalledAhead_22 : decode cX8_isCalledAhead 22 = .ok (.iload_n 2, 1) := dk_28 (dk_at dksX8_isCalledAhead_0 22 rfl rfl)
theorem dX8_isCalledAhead_23 : decode cX8_isCalledAhead 23 = .ok (.iconst 0, 1) := dk_3 (dk_at dksX8_isCalledAhead_0 23 rfl rfl)
theorem dX8_isCalledAhead_24 : decode cX8_isCalledAhead 24 = .ok (.invokevirtual 106, 3) := dk_182 0 106 (dk_at dksX8_isCalledAhead_1 0 rfl rfl)
theorem dX8_isCalledAhead_27 : decode cX8_isCalledAhead 27 = .ok (.if_icmp .ne 22, 3) := dk_160 0 22 (dk_at dksX8_isCalledAhead_1 3 rfl rfl)
theorem dX8_isCalledAhead_30 : decode cX8_isCalledAhead 30 = .ok (.aload_n 0, 1) := dk_42 (dk_at dksX8_isCalledAhead_1 6 rfl rfl)
theorem dX8_isCalledAhead_31 : decode cX8_isCalledAhead 31 = .ok (.getfield 17, 3) := dk_180 0 17 (dk_at dksX8_isCalledAhead_1 7 rfl rfl)
theorem dX8_isCalledAhead_34 : decode cX8_isCalledAhead 34 = .ok (.iload_n 1, 1) := dk_27 (dk_at dksX8_isCalledAhead_1 10 rfl rfl)
theorem dX8_isCalledAhead_35 : decode cX8_isCalledAhead 35 = .ok (.iaload, 1) := dk_46 (dk_at dksX8_isCalledAhead_1 11 rfl rfl)
theorem dX8_isCalledAhead_36 : decode cX8_isCalledAhead 36 = .ok (.aload_n 0, 1) := dk_42 (dk_at dksX8_isCalledAhead_1 12 rfl rfl)
theorem dX8_isCalledAhead_37 : decode cX8_isCalledAhead 37 = .ok (.getfield 17, 3) := dk_180 0 17 (dk_at dksX8_isCalledAhead_1 13 rfl rfl)
theorem dX8_isCalledAhead_40 : decode cX8_isCalledAhead 40 = .ok (.iload_n 2, 1) := dk_28 (dk_at dksX8_isCalledAhead_1 16 rfl rfl)
theorem dX8_isCalledAhead_41 : decode cX8_isCalledAhead 41 = .ok (.iaload, 1) := dk_46 (dk_at dksX8_isCalledAhead_1 17 rfl rfl)
theorem dX8_isCalledAhead_42 : decode cX8_isCalledAhead 42 = .ok (.if_icmp .ge 7, 3) := dk_162 0 7 (dk_at dksX8_isCalledAhead_1 18 rfl rfl)
theorem dX8_isCalledAhead_45 : decode cX8_isCalledAhead 45 = .ok (.iconst 1, 1) := dk_4 (dk_at dksX8_isCalledAhead_1 21 rfl rfl)
theorem dX8_isCalledAhead_46 : decode cX8_isCalledAhead 46 = .ok (.goto 4, 3) := dk_167 0 4 (dk_at dksX8_isCalledAhead_2 0 rfl rfl)
theorem dX8_isCalledAhead_49 : decode cX8_isCalledAhead 49 = .ok (.iconst 0, 1) := dk_3 (dk_at dksX8_isCalledAhead_2 3 rfl rfl)
theorem dX8_isCalledAhead_50 : decode cX8_isCalledAhead 50 = .ok (.ireturn, 1) := dk_172 (dk_at dksX8_isCalledAhead_2 4 rfl rfl)
abbrev cX8_notes : ByteArray := prog_21_method_5_code
def yX8_notes : MethodName := ⟨RX8, "notes", "(J)V"⟩
def dkwX8_notes_0 : List UInt8 := [42, 180, 0, 7, 42, 180, 0, 81, 31, 80, 42, 89, 180, 0, 81, 4, 96, 181, 0, 81, 177]
abbrev dktX8_notes_0 : List UInt8 := dkwX8_notes_0 ++ []
theorem dksX8_notes_0 : cX8_notes.data.toList.drop 0 = dktX8_notes_0 := by decide +kernel
theorem dX8_notes_0 : decode cX8_notes 0 = .ok (.aload_n 0, 1) := dk_42 (dk_at dksX8_notes_0 0 rfl rfl)
theorem dX8_notes_1 : decode cX8_notes 1 = .ok (.getfield 7, 3) := dk_180 0 7 (dk_at dksX8_notes_0 1 rfl rfl)
theorem dX8_notes_4 : decode cX8_notes 4 = .ok (.aload_n 0, 1) := dk_42 (dk_at dksX8_notes_0 4 rfl rfl)
theorem dX8_notes_5 : decode cX8_notes 5 = .ok (.getfield 81, 3) := dk_180 0 81 (dk_at dksX8_notes_0 5 rfl rfl)
theorem dX8_notes_8 : decode cX8_notes 8 = .ok (.lload_n 1, 1) := dk_31 (dk_at dksX8_notes_0 8 rfl rfl)
theorem dX8_notes_9 : decode cX8_notes 9 = .ok (.lastore, 1) := dk_80 (dk_at dksX8_notes_0 9 rfl rfl)
theorem dX8_notes_10 : decode cX8_notes 10 = .ok (.aload_n 0, 1) := dk_42 (dk_at dksX8_notes_0 10 rfl rfl)
theorem dX8_notes_11 : decode cX8_notes 11 = .ok (.dup, 1) := dk_89 (dk_at dksX8_notes_0 11 rfl rfl)
theorem dX8_notes_12 : decode cX8_notes 12 = .ok (.getfield 81, 3) := dk_180 0 81 (dk_at dksX8_notes_0 12 rfl rfl)
theorem dX8_notes_15 : decode cX8_notes 15 = .ok (.iconst 1, 1) := dk_4 (dk_at dksX8_notes_0 15 rfl rfl)
theorem dX8_notes_16 : decode cX8_notes 16 = .ok (.iadd, 1) := dk_96 (dk_at dksX8_notes_0 16 rfl rfl)
theorem dX8_notes_17 : decode cX8_notes 17 = .ok (.putfield 81, 3) := dk_181 0 81 (dk_at dksX8_notes_0 17 rfl rfl)
theorem dX8_notes_20 : decode cX8_notes 20 = .ok (.return_, 1) := dk_177 (dk_at dksX8_notes_0 20 rfl rfl)
abbrev cX8_order : ByteArray := prog_21_method_51_code
def yX8_order : MethodName := ⟨RX8, "order", "()I"⟩
def dkwX8_order_2 : List UInt8 := [28, 133, 182, 0, 180, 132, 2, 1, 167, 255, 222, 132, 1, 1, 167, 255, 206, 42, 180, 0, 81, 172]
abbrev dktX8_order_2 : List UInt8 := dkwX8_order_2 ++ []
def dkwX8_order_1 : List UInt8 := [180, 0, 84, 162, 0, 32, 42, 28, 182, 0, 140, 153, 0, 18, 42, 28, 182, 0, 252, 27, 160, 0, 9, 42]
abbrev dktX8_order_1 : List UInt8 := dkwX8_order_1 ++ dktX8_order_2
def dkwX8_order_0 : List UInt8 := [42, 3, 181, 0, 77, 42, 3, 181, 0, 81, 3, 60, 27, 42, 180, 0, 84, 162, 0, 48, 3, 61, 28, 42]
abbrev dktX8_order_0 : List UInt8 := dkwX8_order_0 ++ dktX8_order_1
theorem dksX8_order_0 : cX8_order.data.toList.drop 0 = dktX8_order_0 := by decide +kernel
theorem dksX8_order_1 : cX8_order.data.toList.drop 24 = dktX8_order_1 := dk_seg dksX8_order_0 24 rfl rfl
theorem dksX8_order_2 : cX8_order.data.toList.drop 48 = dktX8_order_2 := dk_seg dksX8_order_1 24 rfl rfl
theorem dX8_order_0 : decode cX8_order 0 = .ok (.aload_n 0, 1) := dk_42 (dk_at dksX8_order_0 0 rfl rfl)
theorem dX8_order_1 : decode cX8_order 1 = .ok (.iconst 0, 1) := dk_3 (dk_at dksX8_order_0 1 rfl rfl)
theorem dX8_order_2 : decode cX8_order 2 = .ok (.putfield 77, 3) := dk_181 0 77 (dk_at dksX8_order_0 2 rfl rfl)
theorem dX8_order_5 : decode cX8_order 5 = .ok (.aload_n 0, 1) := dk_42 (dk_at dksX8_order_0 5 rfl rfl)
theorem dX8_order_6 : decode cX8_order 6 = .ok (.iconst 0, 1) := dk_3 (dk_at dksX8_order_0 6 rfl rfl)
theorem dX8_order_7 : decode cX8_order 7 = .ok (.putfield 81, 3) := dk_181 0 81 (dk_at dksX8_order_0 7 rfl rfl)
theorem dX8_order_10 : decode cX8_order 10 = .ok (.iconst 0, 1) := dk_3 (dk_at dksX8_order_0 10 rfl rfl)
theorem dX8_order_11 : decode cX8_order 11 = .ok (.istore_n 1, 1) := dk_60 (dk_at dksX8_order_0 11 rfl rfl)
theorem dX8_order_12 : decode cX8_order 12 = .ok (.iload_n 1, 1) := dk_27 (dk_at dksX8_order_0 12 rfl rfl)
theorem dX8_order_13 : decode cX8_order 13 = .ok (.aload_n 0, 1) := dk_42 (dk_at dksX8_order_0 13 rfl rfl)
theorem dX8_order_14 : decode cX8_order 14 = .ok (.getfield 84, 3) := dk_180 0 84 (dk_at dksX8_order_0 14 rfl rfl)
theorem dX8_order_17 : decode cX8_order 17 = .ok (.if_icmp .ge 48, 3) := dk_162 0 48 (dk_at dksX8_order_0 17 rfl rfl)
theorem dX8_order_20 : decode cX8_order 20 = .ok (.iconst 0, 1) := dk_3 (dk_at dksX8_order_0 20 rfl rfl)
theorem dX8_order_21 : decode cX8_order 21 = .ok (.istore_n 2, 1) := dk_61 (dk_at dksX8_order_0 21 rfl rfl)
theorem dX8_order_22 : decode cX8_order 22 = .ok (.iload_n 2, 1) := dk_28 (dk_at dksX8_order_0 22 rfl rfl)
theorem dX8_order_23 : decode cX8_order 23 = .ok (.aload_n 0, 1) := dk_42 (dk_at dksX8_order_0 23 rfl rfl)
theorem dX8_order_24 : decode cX8_order 24 = .ok (.getfield 84, 3) := dk_180 0 84 (dk_at dksX8_order_1 0 rfl rfl)
theorem dX8_order_27 : decode cX8_order 27 = .ok (.if_icmp .ge 32, 3) := dk_162 0 32 (dk_at dksX8_order_1 3 rfl rfl)
theorem dX8_order_30 : decode cX8_order 30 = .ok (.aload_n 0, 1) := dk_42 (dk_at dksX8_order_1 6 rfl rfl)
theorem dX8_order_31 : decode cX8_order 31 = .ok (.iload_n 2, 1) := dk_28 (dk_at dksX8_order_1 7 rfl rfl)
theorem dX8_order_32 : decode cX8_order 32 = .ok (.invokevirtual 140, 3) := dk_182 0 140 (dk_at dksX8_order_1 8 rfl rfl)
theorem dX8_order_35 : decode cX8_order 35 = .ok (.ifCond .eq 18, 3) := dk_153 0 18 (dk_at dksX8_order_1 11 rfl rfl)
theorem dX8_order_38 : decode cX8_order 38 = .ok (.aload_n 0, 1) := dk_42 (dk_at dksX8_order_1 14 rfl rfl)
theorem dX8_order_39 : decode cX8_order 39 = .ok (.iload_n 2, 1) := dk_28 (dk_at dksX8_order_1 15 rfl rfl)
theorem dX8_order_40 : decode cX8_order 40 = .ok (.invokevirtual 252, 3) := dk_182 0 252 (dk_at dksX8_order_1 16 rfl rfl)
theorem dX8_order_43 : decode cX8_order 43 = .ok (.iload_n 1, 1) := dk_27 (dk_at dksX8_order_1 19 rfl rfl)
theorem dX8_order_44 : decode cX8_order 44 = .ok (.if_icmp .ne 9, 3) := dk_160 0 9 (dk_at dksX8_order_1 20 rfl rfl)
theorem dX8_order_47 : decode cX8_order 47 = .ok (.aload_n 0, 1) := dk_42 (dk_at dksX8_order_1 23 rfl rfl)
theorem dX8_order_48 : decode cX8_order 48 = .ok (.iload_n 2, 1) := dk_28 (dk_at dksX8_order_2 0 rfl rfl)
theorem dX8_order_49 : decode cX8_order 49 = .ok (.i2l, 1) := dk_133 (dk_at dksX8_order_2 1 rfl rfl)
theorem dX8_order_50 : decode cX8_order 50 = .ok (.invokevirtual 180, 3) := dk_182 0 180 (dk_at dksX8_order_2 2 rfl rfl)
theorem dX8_order_53 : decode cX8_order 53 = .ok (.iinc 2 1, 3) := dk_132 2 1 (dk_at dksX8_order_2 5 rfl rfl)
theorem dX8_order_56 : decode cX8_order 56 = .ok (.goto (-34), 3) := dk_167 255 222 (dk_at dksX8_order_2 8 rfl rfl)
theorem dX8_order_59 : decode cX8_order 59 = .ok (.iinc 1 1, 3) := dk_132 1 1 (dk_at dksX8_order_2 11 rfl rfl)
theorem dX8_order_62 : decode cX8_order 62 = .ok (.goto (-50), 3) := dk_167 255 206 (dk_at dksX8_order_2 14 rfl rfl)
theorem dX8_order_65 : decode cX8_order 65 = .ok (.aload_n 0, 1) := dk_42 (dk_at dksX8_order_2 17 rfl rfl)
theorem dX8_order_66 : decode cX8_order 66 = .ok (.getfield 81, 3) := dk_180 0 81 (dk_at dksX8_order_2 18 rfl rfl)
theorem dX8_order_69 : decode cX8_order 69 = .ok (.ireturn, 1) := dk_172 (dk_at dksX8_order_2 21 rfl rfl)
abbrev cX8_calledAhead : ByteArray := prog_21_method_50_code
def yX8_calledAhead : MethodName := ⟨RX8, "calledAhead", "(I)I"⟩
def dkwX8_calledAhead_2 : List UInt8 := [132, 3, 1, 167, 255, 212, 28, 172]
abbrev dktX8_calledAhead_2 : List UInt8 := dkwX8_calledAhead_2 ++ []
def dkwX8_calledAhead_1 : List UInt8 := [153, 0, 16, 42, 29, 27, 182, 0, 143, 153, 0, 7, 4, 167, 0, 4, 3, 184, 0, 160, 96, 61]
abbrev dktX8_calledAhead_1 : List UInt8 := dkwX8_calledAhead_1 ++ dktX8_calledAhead_2
def dkwX8_calledAhead_0 : List UInt8 := [3, 61, 3, 62, 29, 42, 180, 0, 84, 162, 0, 42, 28, 29, 27, 159, 0, 24, 42, 29, 182, 0, 140]
abbrev dktX8_calledAhead_0 : List UInt8 := dkwX8_calledAhead_0 ++ dktX8_calledAhead_1
theorem dksX8_calledAhead_0 : cX8_calledAhead.data.toList.drop 0 = dktX8_calledAhead_0 := by decide +kernel
theorem dksX8_calledAhead_1 : cX8_calledAhead.data.toList.drop 23 = dktX8_calledAhead_1 := dk_seg dksX8_calledAhead_0 23 rfl rfl
theorem dksX8_calledAhead_2 : cX8_calledAhead.data.toList.drop 45 = dktX8_calledAhead_2 := dk_seg dksX8_calledAhead_1 22 rfl rfl
theorem dX8_calledAhead_0 : decode cX8_calledAhead 0 = .ok (.iconst 0, 1) := dk_3 (dk_at dksX8_calledAhead_0 0 rfl rfl)
theorem dX8_calledAhead_1 : decode cX8_calledAhead 1 = .ok (.istore_n 2, 1) := dk_61 (dk_at dksX8_calledAhead_0 1 rfl rfl)
theorem dX8_calledAhead_2 : decode cX8_calledAhead 2 = .ok (.iconst 0, 1) := dk_3 (dk_at dksX8_calledAhead_0 2 rfl rfl)
theorem dX8_calledAhead_3 : decode cX8_calledAhead 3 = .ok (.istore_n 3, 1) := dk_62 (dk_at dksX8_calledAhead_0 3 rfl rfl)
theorem dX8_calledAhead_4 : decode cX8_calledAhead 4 = .ok (.iload_n 3, 1) := dk_29 (dk_at dksX8_calledAhead_0 4 rfl rfl)
theorem dX8_calledAhead_5 : decode cX8_calledAhead 5 = .ok (.aload_n 0, 1) := dk_42 (dk_at dksX8_calledAhead_0 5 rfl rfl)
theorem dX8_calledAhead_6 : decode cX8_calledAhead 6 = .ok (.getfield 84, 3) := dk_180 0 84 (dk_at dksX8_calledAhead_0 6 rfl rfl)
theorem dX8_calledAhead_9 : decode cX8_calledAhead 9 = .ok (.if_icmp .ge 42, 3) := dk_162 0 42 (dk_at dksX8_calledAhead_0 9 rfl rfl)
theorem dX8_calledAhead_12 : decode cX8_calledAhead 12 = .ok (.iload_n 2, 1) := dk_28 (dk_at dksX8_calledAhead_0 12 rfl rfl)
theorem dX8_calledAhead_13 : decode cX8_calledAhead 13 = .ok (.iload_n 3, 1) := dk_29 (dk_at dksX8_calledAhead_0 13 rfl rfl)
theorem dX8_calledAhead_14 : decode cX8_calledAhead 14 = .ok (.iload_n 1, 1) := dk_27 (dk_at dksX8_calledAhead_0 14 rfl rfl)
theorem dX8_calledAhead_15 : decode cX8_calledAhead 15 = .ok (.if_icmp .eq 24, 3) := dk_159 0 24 (dk_at dksX8_calledAhead_0 15 rfl rfl)
theorem dX8_calledAhead_18 : decode cX8_calledAhead 18 = .ok (.aload_n 0, 1) := dk_42 (dk_at dksX8_calledAhead_0 18 rfl rfl)
theorem dX8_calledAhead_19 : decode cX8_calledAhead 19 = .ok (.iload_n 3, 1) := dk_29 (dk_at dksX8_calledAhead_0 19 rfl rfl)
theorem dX8_calledAhead_20 : decode cX8_calledAhead 20 = .ok (.invokevirtual 140, 3) := dk_182 0 140 (dk_at dksX8_calledAhead_0 20 rfl rfl)
theorem dX8_calledAhead_23 : decode cX8_calledAhead 23 = .ok (.ifCond .eq 16, 3) := dk_153 0 16 (dk_at dksX8_calledAhead_1 0 rfl rfl)
theorem dX8_calledAhead_26 : decode cX8_calledAhead 26 = .ok (.aload_n 0, 1) := dk_42 (dk_at dksX8_calledAhead_1 3 rfl rfl)
theorem dX8_calledAhead_27 : decode cX8_calledAhead 27 = .ok (.iload_n 3, 1) := dk_29 (dk_at dksX8_calledAhead_1 4 rfl rfl)
theorem dX8_calledAhead_28 : decode cX8_calledAhead 28 = .ok (.iload_n 1, 1) := dk_27 (dk_at dksX8_calledAhead_1 5 rfl rfl)
theorem dX8_calledAhead_29 : decode cX8_calledAhead 29 = .ok (.invokevirtual 143, 3) := dk_182 0 143 (dk_at dksX8_calledAhead_1 6 rfl rfl)
theorem dX8_calledAhead_32 : decode cX8_calledAhead 32 = .ok (.ifCond .eq 7, 3) := dk_153 0 7 (dk_at dksX8_calledAhead_1 9 rfl rfl)
theorem dX8_calledAhead_35 : decode cX8_calledAhead 35 = .ok (.iconst 1, 1) := dk_4 (dk_at dksX8_calledAhead_1 12 rfl rfl)
theorem dX8_calledAhead_36 : decode cX8_calledAhead 36 = .ok (.goto 4, 3) := dk_167 0 4 (dk_at dksX8_calledAhead_1 13 rfl rfl)
theorem dX8_calledAhead_39 : decode cX8_calledAhead 39 = .ok (.iconst 0, 1) := dk_3 (dk_at dksX8_calledAhead_1 16 rfl rfl)
theorem dX8_calledAhead_40 : decode cX8_calledAhead 40 = .ok (.invokestatic 160, 3) := dk_184 0 160 (dk_at dksX8_calledAhead_1 17 rfl rfl)
theorem dX8_calledAhead_43 : decode cX8_calledAhead 43 = .ok (.iadd, 1) := dk_96 (dk_at dksX8_calledAhead_1 20 rfl rfl)
theorem dX8_calledAhead_44 : decode cX8_calledAhead 44 = .ok (.istore_n 2, 1) := dk_61 (dk_at dksX8_calledAhead_1 21 rfl rfl)
theorem dX8_calledAhead_45 : decode cX8_calledAhead 45 = .ok (.iinc 3 1, 3) := dk_132 3 1 (dk_at dksX8_calledAhead_2 0 rfl rfl)
theorem dX8_calledAhead_48 : decode cX8_calledAhead 48 = .ok (.goto (-44), 3) := dk_167 255 212 (dk_at dksX8_calledAhead_2 3 rfl rfl)
theorem dX8_calledAhead_51 : decode cX8_calledAhead 51 = .ok (.iload_n 2, 1) := dk_28 (dk_at dksX8_calledAhead_2 6 rfl rfl)
theorem dX8_calledAhead_52 : decode cX8_calledAhead 52 = .ok (.ireturn, 1) := dk_172 (dk_at dksX8_calledAhead_2 7 rfl rfl)
abbrev cX8_asks : ByteArray := prog_21_method_52_code
def yX8_asks : MethodName := ⟨RX8, "asks", "(II)I"⟩
def dkwX8_asks_4 : List UInt8 := [182, 0, 109, 42, 27, 8, 182, 0, 106, 172]
abbrev dktX8_asks_4 : List UInt8 := dkwX8_asks_4 ++ []
def dkwX8_asks_3 : List UInt8 := [160, 0, 6, 16, 252, 172, 42, 27, 3, 28, 182, 0, 109, 42, 27, 8, 42, 27, 8, 182, 0, 106, 4, 100]
abbrev dktX8_asks_3 : List UInt8 := dkwX8_asks_3 ++ dktX8_asks_4
def dkwX8_asks_2 : List UInt8 := [154, 0, 6, 16, 253, 172, 28, 42, 27, 182, 0, 249, 161, 0, 13, 28, 42, 27, 3, 182, 0, 106]
abbrev dktX8_asks_2 : List UInt8 := dkwX8_asks_2 ++ dktX8_asks_3
def dkwX8_asks_1 : List UInt8 := [154, 0, 5, 2, 172, 42, 27, 182, 0, 140, 154, 0, 6, 16, 254, 172, 42, 27, 8, 182, 0, 106]
abbrev dktX8_asks_1 : List UInt8 := dkwX8_asks_1 ++ dktX8_asks_2
def dkwX8_asks_0 : List UInt8 := [42, 3, 181, 0, 77, 42, 27, 182, 0, 233, 153, 0, 15, 28, 133, 10, 20, 0, 239, 184, 0, 87]
abbrev dktX8_asks_0 : List UInt8 := dkwX8_asks_0 ++ dktX8_asks_1
theorem dksX8_asks_0 : cX8_asks.data.toList.drop 0 = dktX8_asks_0 := by decide +kernel
theorem dksX8_asks_1 : cX8_asks.data.toList.drop 22 = dktX8_asks_1 := dk_seg dksX8_asks_0 22 rfl rfl
theorem dksX8_asks_2 : cX8_asks.data.toList.drop 44 = dktX8_asks_2 := dk_seg dksX8_asks_1 22 rfl rfl
theorem dksX8_asks_3 : cX8_asks.data.toList.drop 66 = dktX8_asks_3 := dk_seg dksX8_asks_2 22 rfl rfl
theorem dksX8_asks_4 : cX8_asks.data.toList.drop 90 = dktX8_asks_4 := dk_seg dksX8_asks_3 24 rfl rfl
theorem dX8_asks_0 : decode cX8_asks 0 = .ok (.aload_n 0, 1) := dk_42 (dk_at dksX8_asks_0 0 rfl rfl)
theorem dX8_asks_1 : decode cX8_asks 1 = .ok (.iconst 0, 1) := dk_3 (dk_at dksX8_asks_0 1 rfl rfl)
theorem dX8_asks_2 : decode cX8_asks 2 = .ok (.putfield 77, 3) := dk_181 0 77 (dk_at dksX8_asks_0 2 rfl rfl)
theorem dX8_asks_5 : decode cX8_asks 5 = .ok (.aload_n 0, 1) := dk_42 (dk_at dksX8_asks_0 5 rfl rfl)
theorem dX8_asks_6 : decode cX8_asks 6 = .ok (.iload_n 1, 1) := dk_27 (dk_at dksX8_asks_0 6 rfl rfl)
theorem dX8_asks_7 : decode cX8_asks 7 = .ok (.invokevirtual 233, 3) := dk_182 0 233 (dk_at dksX8_asks_0 7 rfl rfl)
theorem dX8_asks_10 : decode cX8_asks 10 = .ok (.ifCond .eq 15, 3) := dk_153 0 15 (dk_at dksX8_asks_0 10 rfl rfl)
theorem dX8_asks_13 : decode cX8_asks 13 = .ok (.iload_n 2, 1) := dk_28 (dk_at dksX8_asks_0 13 rfl rfl)
theorem dX8_asks_14 : decode cX8_asks 14 = .ok (.i2l, 1) := dk_133 (dk_at dksX8_asks_0 14 rfl rfl)
theorem dX8_asks_15 : decode cX8_asks 15 = .ok (.lconst 1, 1) := dk_10 (dk_at dksX8_asks_0 15 rfl rfl)
theorem dX8_asks_16 : decode cX8_asks 16 = .ok (.ldc2_w 239, 3) := dk_20 0 239 (dk_at dksX8_asks_0 16 rfl rfl)
theorem dX8_asks_19 : decode cX8_asks 19 = .ok (.invokestatic 87, 3) := dk_184 0 87 (dk_at dksX8_asks_0 19 rfl rfl)
theorem dX8_asks_22 : decode cX8_asks 22 = .ok (.ifCond .ne 5, 3) := dk_154 0 5 (dk_at dksX8_asks_1 0 rfl rfl)
theorem dX8_asks_25 : decode cX8_asks 25 = .ok (.iconst (-1), 1) := dk_2 (dk_at dksX8_asks_1 3 rfl rfl)
theorem dX8_asks_26 : decode cX8_asks 26 = .ok (.ireturn, 1) := dk_172 (dk_at dksX8_asks_1 4 rfl rfl)
theorem dX8_asks_27 : decode cX8_asks 27 = .ok (.aload_n 0, 1) := dk_42 (dk_at dksX8_asks_1 5 rfl rfl)
theorem dX8_asks_28 : decode cX8_asks 28 = .ok (.iload_n 1, 1) := dk_27 (dk_at dksX8_asks_1 6 rfl rfl)
theorem dX8_asks_29 : decode cX8_asks 29 = .ok (.invokevirtual 140, 3) := dk_182 0 140 (dk_at dksX8_asks_1 7 rfl rfl)
theorem dX8_asks_32 : decode cX8_asks 32 = .ok (.ifCond .ne 6, 3) := dk_154 0 6 (dk_at dksX8_asks_1 10 rfl rfl)
theorem dX8_asks_35 : decode cX8_asks 35 = .ok (.bipush (-2), 2) := dk_16 254 (dk_at dksX8_asks_1 13 rfl rfl)
theorem dX8_asks_37 : decode cX8_asks 37 = .ok (.ireturn, 1) := dk_172 (dk_at dksX8_asks_1 15 rfl rfl)
theorem dX8_asks_38 : decode cX8_asks 38 = .ok (.aload_n 0, 1) := dk_42 (dk_at dksX8_asks_1 16 rfl rfl)
theorem dX8_asks_39 : decode cX8_asks 39 = .ok (.iload_n 1, 1) := dk_27 (dk_at dksX8_asks_1 17 rfl rfl)
theorem dX8_asks_40 : decode cX8_asks 40 = .ok (.iconst 5, 1) := dk_8 (dk_at dksX8_asks_1 18 rfl rfl)
theorem dX8_asks_41 : decode cX8_asks 41 = .ok (.invokevirtual 106, 3) := dk_182 0 106 (dk_at dksX8_asks_1 19 rfl rfl)
theorem dX8_asks_44 : decode cX8_asks 44 = .ok (.ifCond .ne 6, 3) := dk_154 0 6 (dk_at dksX8_asks_2 0 rfl rfl)
theorem dX8_asks_47 : decode cX8_asks 47 = .ok (.bipush (-3), 2) := dk_16 253 (dk_at dksX8_asks_2 3 rfl rfl)
theorem dX8_asks_49 : decode cX8_asks 49 = .ok (.ireturn, 1) := dk_172 (dk_at dksX8_asks_2 5 rfl rfl)
theorem dX8_asks_50 : decode cX8_asks 50 = .ok (.iload_n 2, 1) := dk_28 (dk_at dksX8_asks_2 6 rfl rfl)
theorem dX8_asks_51 : decode cX8_asks 51 = .ok (.aload_n 0, 1) := dk_42 (dk_at dksX8_asks_2 7 rfl rfl)
theorem dX8_asks_52 : decode cX8_asks 52 = .ok (.iload_n 1, 1) := dk_27 (dk_at dksX8_asks_2 8 rfl rfl)
theorem dX8_asks_53 : decode cX8_asks 53 = .ok (.invokevirtual 249, 3) := dk_182 0 249 (dk_at dksX8_asks_2 9 rfl rfl)
theorem dX8_asks_56 : decode cX8_asks 56 = .ok (.if_icmp .lt 13, 3) := dk_161 0 13 (dk_at dksX8_asks_2 12 rfl rfl)
theorem dX8_asks_59 : decode cX8_asks 59 = .ok (.iload_n 2, 1) := dk_28 (dk_at dksX8_asks_2 15 rfl rfl)
theorem dX8_asks_60 : decode cX8_asks 60 = .ok (.aload_n 0, 1) := dk_42 (dk_at dksX8_asks_2 16 rfl rfl)
theorem dX8_asks_61 : decode cX8_asks 61 = .ok (.iload_n 1, 1) := dk_27 (dk_at dksX8_asks_2 17 rfl rfl)
theorem dX8_asks_62 : decode cX8_asks 62 = .ok (.iconst 0, 1) := dk_3 (dk_at dksX8_asks_2 18 rfl rfl)
theorem dX8_asks_63 : decode cX8_asks 63 = .ok (.invokevirtual 106, 3) := dk_182 0 106 (dk_at dksX8_asks_2 19 rfl rfl)
theorem dX8_asks_66 : decode cX8_asks 66 = .ok (.if_icmp .ne 6, 3) := dk_160 0 6 (dk_at dksX8_asks_3 0 rfl rfl)
theorem dX8_asks_69 : decode cX8_asks 69 = .ok (.bipush (-4), 2) := dk_16 252 (dk_at dksX8_asks_3 3 rfl rfl)
theorem dX8_asks_71 : decode cX8_asks 71 = .ok (.ireturn, 1) := dk_172 (dk_at dksX8_asks_3 5 rfl rfl)
theorem dX8_asks_72 : decode cX8_asks 72 = .ok (.aload_n 0, 1) := dk_42 (dk_at dksX8_asks_3 6 rfl rfl)
theorem dX8_asks_73 : decode cX8_asks 73 = .ok (.iload_n 1, 1) := dk_27 (dk_at dksX8_asks_3 7 rfl rfl)
theorem dX8_asks_74 : decode cX8_asks 74 = .ok (.iconst 0, 1) := dk_3 (dk_at dksX8_asks_3 8 rfl rfl)
theorem dX8_asks_75 : decode cX8_asks 75 = .ok (.iload_n 2, 1) := dk_28 (dk_at dksX8_asks_3 9 rfl rfl)
theorem dX8_asks_76 : decode cX8_asks 76 = .ok (.invokevirtual 109, 3) := dk_182 0 109 (dk_at dksX8_asks_3 10 rfl rfl)
theorem dX8_asks_79 : decode cX8_asks 79 = .ok (.aload_n 0, 1) := dk_42 (dk_at dksX8_asks_3 13 rfl rfl)
theorem dX8_asks_80 : decode cX8_asks 80 = .ok (.iload_n 1, 1) := dk_27 (dk_at dksX8_asks_3 14 rfl rfl)
theorem dX8_asks_81 : decode cX8_asks 81 = .ok (.iconst 5, 1) := dk_8 (dk_at dksX8_asks_3 15 rfl rfl)
theorem dX8_asks_82 : decode cX8_asks 82 = .ok (.aload_n 0, 1) := dk_42 (dk_at dksX8_asks_3 16 rfl rfl)
theorem dX8_asks_83 : decode cX8_asks 83 = .ok (.iload_n 1, 1) := dk_27 (dk_at dksX8_asks_3 17 rfl rfl)
theorem dX8_asks_84 : decode cX8_asks 84 = .ok (.iconst 5, 1) := dk_8 (dk_at dksX8_asks_3 18 rfl rfl)
theorem dX8_asks_85 : decode cX8_asks 85 = .ok (.invokevirtual 106, 3) := dk_182 0 106 (dk_at dksX8_asks_3 19 rfl rfl)
theorem dX8_asks_88 : decode cX8_asks 88 = .ok (.iconst 1, 1) := dk_4 (dk_at dksX8_asks_3 22 rfl rfl)
theorem dX8_asks_89 : decode cX8_asks 89 = .ok (.isub, 1) := dk_100 (dk_at dksX8_asks_3 23 rfl rfl)
theorem dX8_asks_90 : decode cX8_asks 90 = .ok (.invokevirtual 109, 3) := dk_182 0 109 (dk_at dksX8_asks_4 0 rfl rfl)
theorem dX8_asks_93 : decode cX8_asks 93 = .ok (.aload_n 0, 1) := dk_42 (dk_at dksX8_asks_4 3 rfl rfl)
theorem dX8_asks_94 : decode cX8_asks 94 = .ok (.iload_n 1, 1) := dk_27 (dk_at dksX8_asks_4 4 rfl rfl)
theorem dX8_asks_95 : decode cX8_asks 95 = .ok (.iconst 5, 1) := dk_8 (dk_at dksX8_asks_4 5 rfl rfl)
theorem dX8_asks_96 : decode cX8_asks 96 = .ok (.invokevirtual 106, 3) := dk_182 0 106 (dk_at dksX8_asks_4 6 rfl rfl)
theorem dX8_asks_99 : decode cX8_asks 99 = .ok (.ireturn, 1) := dk_172 (dk_at dksX8_asks_4 9 rfl rfl)
abbrev cX8_tries : ByteArray := prog_21_method_53_code
def yX8_tries : MethodName := ⟨RX8, "tries", "(Z)I"⟩
def dkwX8_tries_2 : List UInt8 := [182, 0, 180, 28, 172]
abbrev dktX8_tries_2 : List UInt8 := dkwX8_tries_2 ++ []
def dkwX8_tries_1 : List UInt8 := [62, 42, 28, 27, 182, 0, 255, 42, 3, 181, 0, 81, 42, 29, 133, 182, 0, 180, 42, 42, 180, 0, 157, 133]
abbrev dktX8_tries_1 : List UInt8 := dkwX8_tries_1 ++ dktX8_tries_2
def dkwX8_tries_0 : List UInt8 := [42, 3, 181, 0, 77, 42, 182, 0, 147, 61, 28, 2, 160, 0, 6, 16, 254, 172, 42, 28, 3, 182, 0, 106]
abbrev dktX8_tries_0 : List UInt8 := dkwX8_tries_0 ++ dktX8_tries_1
theorem dksX8_tries_0 : cX8_tries.data.toList.drop 0 = dktX8_tries_0 := by decide +kernel
theorem dksX8_tries_1 : cX8_tries.data.toList.drop 24 = dktX8_tries_1 := dk_seg dksX8_tries_0 24 rfl rfl
theorem dksX8_tries_2 : cX8_tries.data.toList.drop 48 = dktX8_tries_2 := dk_seg dksX8_tries_1 24 rfl rfl
theorem dX8_tries_0 : decode cX8_tries 0 = .ok (.aload_n 0, 1) := dk_42 (dk_at dksX8_tries_0 0 rfl rfl)
theorem dX8_tries_1 : decode cX8_tries 1 = .ok (.iconst 0, 1) := dk_3 (dk_at dksX8_tries_0 1 rfl rfl)
theorem dX8_tries_2 : decode cX8_tries 2 = .ok (.putfield 77, 3) := dk_181 0 77 (dk_at dksX8_tries_0 2 rfl rfl)
theorem dX8_tries_5 : decode cX8_tries 5 = .ok (.aload_n 0, 1) := dk_42 (dk_at dksX8_tries_0 5 rfl rfl)
theorem dX8_tries_6 : decode cX8_tries 6 = .ok (.invokevirtual 147, 3) := dk_182 0 147 (dk_at dksX8_tries_0 6 rfl rfl)
theorem dX8_tries_9 : decode cX8_tries 9 = .ok (.istore_n 2, 1) := dk_61 (dk_at dksX8_tries_0 9 rfl rfl)
theorem dX8_tries_10 : decode cX8_tries 10 = .ok (.iload_n 2, 1) := dk_28 (dk_at dksX8_tries_0 10 rfl rfl)
theorem dX8_tries_11 : decode cX8_tries 11 = .ok (.iconst (-1), 1) := dk_2 (dk_at dksX8_tries_0 11 rfl rfl)
theorem dX8_tries_12 : decode cX8_tries 12 = .ok (.if_icmp .ne 6, 3) := dk_160 0 6 (dk_at dksX8_tries_0 12 rfl rfl)
theorem dX8_tries_15 : decode cX8_tries 15 = .ok (.bipush (-2), 2) := dk_16 254 (dk_at dksX8_tries_0 15 rfl rfl)
theorem dX8_tries_17 : decode cX8_tries 17 = .ok (.ireturn, 1) := dk_172 (dk_at dksX8_tries_0 17 rfl rfl)
theorem dX8_tries_18 : decode cX8_tries 18 = .ok (.aload_n 0, 1) := dk_42 (dk_at dksX8_tries_0 18 rfl rfl)
theorem dX8_tries_19 : decode cX8_tries 19 = .ok (.iload_n 2, 1) := dk_28 (dk_at dksX8_tries_0 19 rfl rfl)
theorem dX8_tries_20 : decode cX8_tries 20 = .ok (.iconst 0, 1) := dk_3 (dk_at dksX8_tries_0 20 rfl rfl)
theorem dX8_tries_21 : decode cX8_tries 21 = .ok (.invokevirtual 106, 3) := dk_182 0 106 (dk_at dksX8_tries_0 21 rfl rfl)
theorem dX8_tries_24 : decode cX8_tries 24 = .ok (.istore_n 3, 1) := dk_62 (dk_at dksX8_tries_1 0 rfl rfl)
theorem dX8_tries_25 : decode cX8_tries 25 = .ok (.aload_n 0, 1) := dk_42 (dk_at dksX8_tries_1 1 rfl rfl)
theorem dX8_tries_26 : decode cX8_tries 26 = .ok (.iload_n 2, 1) := dk_28 (dk_at dksX8_tries_1 2 rfl rfl)
theorem dX8_tries_27 : decode cX8_tries 27 = .ok (.iload_n 1, 1) := dk_27 (dk_at dksX8_tries_1 3 rfl rfl)
theorem dX8_tries_28 : decode cX8_tries 28 = .ok (.invokevirtual 255, 3) := dk_182 0 255 (dk_at dksX8_tries_1 4 rfl rfl)
theorem dX8_tries_31 : decode cX8_tries 31 = .ok (.aload_n 0, 1) := dk_42 (dk_at dksX8_tries_1 7 rfl rfl)
theorem dX8_tries_32 : decode cX8_tries 32 = .ok (.iconst 0, 1) := dk_3 (dk_at dksX8_tries_1 8 rfl rfl)
theorem dX8_tries_33 : decode cX8_tries 33 = .ok (.putfield 81, 3) := dk_181 0 81 (dk_at dksX8_tries_1 9 rfl rfl)
theorem dX8_tries_36 : decode cX8_tries 36 = .ok (.aload_n 0, 1) := dk_42 (dk_at dksX8_tries_1 12 rfl rfl)
theorem dX8_tries_37 : decode cX8_tries 37 = .ok (.iload_n 3, 1) := dk_29 (dk_at dksX8_tries_1 13 rfl rfl)
theorem dX8_tries_38 : decode cX8_tries 38 = .ok (.i2l, 1) := dk_133 (dk_at dksX8_tries_1 14 rfl rfl)
theorem dX8_tries_39 : decode cX8_tries 39 = .ok (.invokevirtual 180, 3) := dk_182 0 180 (dk_at dksX8_tries_1 15 rfl rfl)
theorem dX8_tries_42 : decode cX8_tries 42 = .ok (.aload_n 0, 1) := dk_42 (dk_at dksX8_tries_1 18 rfl rfl)
theorem dX8_tries_43 : decode cX8_tries 43 = .ok (.aload_n 0, 1) := dk_42 (dk_at dksX8_tries_1 19 rfl rfl)
theorem dX8_tries_44 : decode cX8_tries 44 = .ok (.getfield 157, 3) := dk_180 0 157 (dk_at dksX8_tries_1 20 rfl rfl)
theorem dX8_tries_47 : decode cX8_tries 47 = .ok (.i2l, 1) := dk_133 (dk_at dksX8_tries_1 23 rfl rfl)
theorem dX8_tries_48 : decode cX8_tries 48 = .ok (.invokevirtual 180, 3) := dk_182 0 180 (dk_at dksX8_tries_2 0 rfl rfl)
theorem dX8_tries_51 : decode cX8_tries 51 = .ok (.iload_n 2, 1) := dk_28 (dk_at dksX8_tries_2 3 rfl rfl)
theorem dX8_tries_52 : decode cX8_tries 52 = .ok (.ireturn, 1) := dk_172 (dk_at dksX8_tries_2 4 rfl rfl)
abbrev cX8_doesTry : ByteArray := prog_21_method_25_code
def yX8_doesTry : MethodName := ⟨RX8, "doesTry", "(IZ)V"⟩
def dkwX8_doesTry_9 : List UInt8 := [182, 0, 164, 177]
abbrev dktX8_doesTry_9 : List UInt8 := dkwX8_doesTry_9 ++ []
def dkwX8_doesTry_8 : List UInt8 := [180, 0, 131, 4, 96, 181, 0, 131, 42, 89, 180, 0, 134, 28, 184, 0, 160, 96, 181, 0, 134, 42]
abbrev dktX8_doesTry_8 : List UInt8 := dkwX8_doesTry_8 ++ dktX8_doesTry_9
def dkwX8_doesTry_7 : List UInt8 := [5, 96, 21, 4, 79, 42, 180, 0, 38, 7, 42, 180, 0, 131, 104, 6, 96, 28, 184, 0, 160, 79, 42, 89]
abbrev dktX8_doesTry_7 : List UInt8 := dkwX8_doesTry_7 ++ dktX8_doesTry_8
def dkwX8_doesTry_6 : List UInt8 := [42, 180, 0, 38, 7, 42, 180, 0, 131, 104, 4, 96, 29, 79, 42, 180, 0, 38, 7, 42, 180, 0, 131, 104]
abbrev dktX8_doesTry_6 : List UInt8 := dkwX8_doesTry_6 ++ dktX8_doesTry_7
def dkwX8_doesTry_5 : List UInt8 := [7, 42, 27, 7, 182, 0, 106, 4, 96, 182, 0, 109, 42, 180, 0, 38, 7, 42, 180, 0, 131, 104, 27, 79]
abbrev dktX8_doesTry_5 : List UInt8 := dkwX8_doesTry_5 ++ dktX8_doesTry_6
def dkwX8_doesTry_4 : List UInt8 := [29, 96, 21, 4, 42, 27, 16, 7, 29, 96, 182, 0, 106, 184, 0, 100, 182, 0, 109, 167, 0, 17, 42, 27]
abbrev dktX8_doesTry_4 : List UInt8 := dkwX8_doesTry_4 ++ dktX8_doesTry_5
def dkwX8_doesTry_3 : List UInt8 := [184, 0, 160, 182, 0, 109, 42, 27, 3, 42, 180, 0, 157, 182, 0, 109, 28, 153, 0, 29, 42, 27, 16, 7]
abbrev dktX8_doesTry_3 : List UInt8 := dkwX8_doesTry_3 ++ dktX8_doesTry_4
def dkwX8_doesTry_2 : List UInt8 := [184, 0, 100, 79, 42, 27, 4, 4, 182, 0, 109, 42, 27, 5, 21, 4, 182, 0, 109, 42, 27, 6, 28]
abbrev dktX8_doesTry_2 : List UInt8 := dkwX8_doesTry_2 ++ dktX8_doesTry_3
def dkwX8_doesTry_1 : List UInt8 := [46, 21, 4, 28, 182, 0, 153, 181, 0, 157, 42, 180, 0, 32, 5, 42, 180, 0, 32, 5, 46, 21, 4]
abbrev dktX8_doesTry_1 : List UInt8 := dkwX8_doesTry_1 ++ dktX8_doesTry_2
def dkwX8_doesTry_0 : List UInt8 := [42, 180, 0, 32, 3, 46, 62, 42, 27, 3, 182, 0, 106, 54, 4, 42, 42, 27, 29, 42, 180, 0, 32, 4]
abbrev dktX8_doesTry_0 : List UInt8 := dkwX8_doesTry_0 ++ dktX8_doesTry_1
theorem dksX8_doesTry_0 : cX8_doesTry.data.toList.drop 0 = dktX8_doesTry_0 := by decide +kernel
theorem dksX8_doesTry_1 : cX8_doesTry.data.toList.drop 24 = dktX8_doesTry_1 := dk_seg dksX8_doesTry_0 24 rfl rfl
theorem dksX8_doesTry_2 : cX8_doesTry.data.toList.drop 47 = dktX8_doesTry_2 := dk_seg dksX8_doesTry_1 23 rfl rfl
theorem dksX8_doesTry_3 : cX8_doesTry.data.toList.drop 70 = dktX8_doesTry_3 := dk_seg dksX8_doesTry_2 23 rfl rfl
theorem dksX8_doesTry_4 : cX8_doesTry.data.toList.drop 94 = dktX8_doesTry_4 := dk_seg dksX8_doesTry_3 24 rfl rfl
theorem dksX8_doesTry_5 : cX8_doesTry.data.toList.drop 118 = dktX8_doesTry_5 := dk_seg dksX8_doesTry_4 24 rfl rfl
theorem dksX8_doesTry_6 : cX8_doesTry.data.toList.drop 142 = dktX8_doesTry_6 := dk_seg dksX8_doesTry_5 24 rfl rfl
theorem dksX8_doesTry_7 : cX8_doesTry.data.toList.drop 166 = dktX8_doesTry_7 := dk_seg dksX8_doesTry_6 24 rfl rfl
theorem dksX8_doesTry_8 : cX8_doesTry.data.toList.drop 190 = dktX8_doesTry_8 := dk_seg dksX8_doesTry_7 24 rfl rfl
theorem dksX8_doesTry_9 : cX8_doesTry.data.toList.drop 212 = dktX8_doesTry_9 := dk_seg dksX8_doesTry_8 22 rfl rfl
theorem dX8_doesTry_0 : decode cX8_doesTry 0 = .ok (.aload_n 0, 1) := dk_42 (dk_at dksX8_doesTry_0 0 rfl rfl)
theorem dX8_doesTry_1 : decode cX8_doesTry 1 = .ok (.getfield 32, 3) := dk_180 0 32 (dk_at dksX8_doesTry_0 1 rfl rfl)
theorem dX8_doesTry_4 : decode cX8_doesTry 4 = .ok (.iconst 0, 1) := dk_3 (dk_at dksX8_doesTry_0 4 rfl rfl)
theorem dX8_doesTry_5 : decode cX8_doesTry 5 = .ok (.iaload, 1) := dk_46 (dk_at dksX8_doesTry_0 5 rfl rfl)
theorem dX8_doesTry_6 : decode cX8_doesTry 6 = .ok (.istore_n 3, 1) := dk_62 (dk_at dksX8_doesTry_0 6 rfl rfl)
theorem dX8_doesTry_7 : decode cX8_doesTry 7 = .ok (.aload_n 0, 1) := dk_42 (dk_at dksX8_doesTry_0 7 rfl rfl)
theorem dX8_doesTry_8 : decode cX8_doesTry 8 = .ok (.iload_n 1, 1) := dk_27 (dk_at dksX8_doesTry_0 8 rfl rfl)
theorem dX8_doesTry_9 : decode cX8_doesTry 9 = .ok (.iconst 0, 1) := dk_3 (dk_at dksX8_doesTry_0 9 rfl rfl)
theorem dX8_doesTry_10 : decode cX8_doesTry 10 = .ok (.invokevirtual 106, 3) := dk_182 0 106 (dk_at dksX8_doesTry_0 10 rfl rfl)
theorem dX8_doesTry_13 : decode cX8_doesTry 13 = .ok (.istore 4, 2) := dk_54 4 (dk_at dksX8_doesTry_0 13 rfl rfl)
theorem dX8_doesTry_15 : decode cX8_doesTry 15 = .ok (.aload_n 0, 1) := dk_42 (dk_at dksX8_doesTry_0 15 rfl rfl)
theorem dX8_doesTry_16 : decode cX8_doesTry 16 = .ok (.aload_n 0, 1) := dk_42 (dk_at dksX8_doesTry_0 16 rfl rfl)
theorem dX8_doesTry_17 : decode cX8_doesTry 17 = .ok (.iload_n 1, 1) := dk_27 (dk_at dksX8_doesTry_0 17 rfl rfl)
theorem dX8_doesTry_18 : decode cX8_doesTry 18 = .ok (.iload_n 3, 1) := dk_29 (dk_at dksX8_doesTry_0 18 rfl rfl)
theorem dX8_doesTry_19 : decode cX8_doesTry 19 = .ok (.aload_n 0, 1) := dk_42 (dk_at dksX8_doesTry_0 19 rfl rfl)
theorem dX8_doesTry_20 : decode cX8_doesTry 20 = .ok (.getfield 32, 3) := dk_180 0 32 (dk_at dksX8_doesTry_0 20 rfl rfl)
theorem dX8_doesTry_23 : decode cX8_doesTry 23 = .ok (.iconst 1, 1) := dk_4 (dk_at dksX8_doesTry_0 23 rfl rfl)
theorem dX8_doesTry_24 : decode cX8_doesTry 24 = .ok (.iaload, 1) := dk_46 (dk_at dksX8_doesTry_1 0 rfl rfl)
theorem dX8_doesTry_25 : decode cX8_doesTry 25 = .ok (.iload 4, 2) := dk_21 4 (dk_at dksX8_doesTry_1 1 rfl rfl)
theorem dX8_doesTry_27 : decode cX8_doesTry 27 = .ok (.iload_n 2, 1) := dk_28 (dk_at dksX8_doesTry_1 3 rfl rfl)
theorem dX8_doesTry_28 : decode cX8_doesTry 28 = .ok (.invokevirtual 153, 3) := dk_182 0 153 (dk_at dksX8_doesTry_1 4 rfl rfl)
theorem dX8_doesTry_31 : decode cX8_doesTry 31 = .ok (.putfield 157, 3) := dk_181 0 157 (dk_at dksX8_doesTry_1 7 rfl rfl)
theorem dX8_doesTry_34 : decode cX8_doesTry 34 = .ok (.aload_n 0, 1) := dk_42 (dk_at dksX8_doesTry_1 10 rfl rfl)
theorem dX8_doesTry_35 : decode cX8_doesTry 35 = .ok (.getfield 32, 3) := dk_180 0 32 (dk_at dksX8_doesTry_1 11 rfl rfl)
theorem dX8_doesTry_38 : decode cX8_doesTry 38 = .ok (.iconst 2, 1) := dk_5 (dk_at dksX8_doesTry_1 14 rfl rfl)
theorem dX8_doesTry_39 : decode cX8_doesTry 39 = .ok (.aload_n 0, 1) := dk_42 (dk_at dksX8_doesTry_1 15 rfl rfl)
theorem dX8_doesTry_40 : decode cX8_doesTry 40 = .ok (.getfield 32, 3) := dk_180 0 32 (dk_at dksX8_doesTry_1 16 rfl rfl)
theorem dX8_doesTry_43 : decode cX8_doesTry 43 = .ok (.iconst 2, 1) := dk_5 (dk_at dksX8_doesTry_1 19 rfl rfl)
theorem dX8_doesTry_44 : decode cX8_doesTry 44 = .ok (.iaload, 1) := dk_46 (dk_at dksX8_doesTry_1 20 rfl rfl)
theorem dX8_doesTry_45 : decode cX8_doesTry 45 = .ok (.iload 4, 2) := dk_21 4 (dk_at dksX8_doesTry_1 21 rfl rfl)
theorem dX8_doesTry_47 : decode cX8_doesTry 47 = .ok (.invokestatic 100, 3) := dk_184 0 100 (dk_at dksX8_doesTry_2 0 rfl rfl)
theorem dX8_doesTry_50 : decode cX8_doesTry 50 = .ok (.iastore, 1) := dk_79 (dk_at dksX8_doesTry_2 3 rfl rfl)
theorem dX8_doesTry_51 : decode cX8_doesTry 51 = .ok (.aload_n 0, 1) := dk_42 (dk_at dksX8_doesTry_2 4 rfl rfl)
theorem dX8_doesTry_52 : decode cX8_doesTry 52 = .ok (.iload_n 1, 1) := dk_27 (dk_at dksX8_doesTry_2 5 rfl rfl)
theorem dX8_doesTry_53 : decode cX8_doesTry 53 = .ok (.iconst 1, 1) := dk_4 (dk_at dksX8_doesTry_2 6 rfl rfl)
theorem dX8_doesTry_54 : decode cX8_doesTry 54 = .ok (.iconst 1, 1) := dk_4 (dk_at dksX8_doesTry_2 7 rfl rfl)
theorem dX8_doesTry_55 : decode cX8_doesTry 55 = .ok (.invokevirtual 109, 3) := dk_182 0 109 (dk_at dksX8_doesTry_2 8 rfl rfl)
theorem dX8_doesTry_58 : decode cX8_doesTry 58 = .ok (.aload_n 0, 1) := dk_42 (dk_at dksX8_doesTry_2 11 rfl rfl)
theorem dX8_doesTry_59 : decode cX8_doesTry 59 = .ok (.iload_n 1, 1) := dk_27 (dk_at dksX8_doesTry_2 12 rfl rfl)
theorem dX8_doesTry_60 : decode cX8_doesTry 60 = .ok (.iconst 2, 1) := dk_5 (dk_at dksX8_doesTry_2 13 rfl rfl)
theorem dX8_doesTry_61 : decode cX8_doesTry 61 = .ok (.iload 4, 2) := dk_21 4 (dk_at dksX8_doesTry_2 14 rfl rfl)
theorem dX8_doesTry_63 : decode cX8_doesTry 63 = .ok (.invokevirtual 109, 3) := dk_182 0 109 (dk_at dksX8_doesTry_2 16 rfl rfl)
theorem dX8_doesTry_66 : decode cX8_doesTry 66 = .ok (.aload_n 0, 1) := dk_42 (dk_at dksX8_doesTry_2 19 rfl rfl)
theorem dX8_doesTry_67 : decode cX8_doesTry 67 = .ok (.iload_n 1, 1) := dk_27 (dk_at dksX8_doesTry_2 20 rfl rfl)
theorem dX8_doesTry_68 : decode cX8_doesTry 68 = .ok (.iconst 3, 1) := dk_6 (dk_at dksX8_doesTry_2 21 rfl rfl)
theorem dX8_doesTry_69 : decode cX8_doesTry 69 = .ok (.iload_n 2, 1) := dk_28 (dk_at dksX8_doesTry_2 22 rfl rfl)
theorem dX8_doesTry_70 : decode cX8_doesTry 70 = .ok (.invokestatic 160, 3) := dk_184 0 160 (dk_at dksX8_doesTry_3 0 rfl rfl)
theorem dX8_doesTry_73 : decode cX8_doesTry 73 = .ok (.invokevirtual 109, 3) := dk_182 0 109 (dk_at dksX8_doesTry_3 3 rfl rfl)
theorem dX8_doesTry_76 : decode cX8_doesTry 76 = .ok (.aload_n 0, 1) := dk_42 (dk_at dksX8_doesTry_3 6 rfl rfl)
theorem dX8_doesTry_77 : decode cX8_doesTry 77 = .ok (.iload_n 1, 1) := dk_27 (dk_at dksX8_doesTry_3 7 rfl rfl)
theorem dX8_doesTry_78 : decode cX8_doesTry 78 = .ok (.iconst 0, 1) := dk_3 (dk_at dksX8_doesTry_3 8 rfl rfl)
theorem dX8_doesTry_79 : decode cX8_doesTry 79 = .ok (.aload_n 0, 1) := dk_42 (dk_at dksX8_doesTry_3 9 rfl rfl)
theorem dX8_doesTry_80 : decode cX8_doesTry 80 = .ok (.getfield 157, 3) := dk_180 0 157 (dk_at dksX8_doesTry_3 10 rfl rfl)
theorem dX8_doesTry_83 : decode cX8_doesTry 83 = .ok (.invokevirtual 109, 3) := dk_182 0 109 (dk_at dksX8_doesTry_3 13 rfl rfl)
theorem dX8_doesTry_86 : decode cX8_doesTry 86 = .ok (.iload_n 2, 1) := dk_28 (dk_at dksX8_doesTry_3 16 rfl rfl)
theorem dX8_doesTry_87 : decode cX8_doesTry 87 = .ok (.ifCond .eq 29, 3) := dk_153 0 29 (dk_at dksX8_doesTry_3 17 rfl rfl)
theorem dX8_doesTry_90 : decode cX8_doesTry 90 = .ok (.aload_n 0, 1) := dk_42 (dk_at dksX8_doesTry_3 20 rfl rfl)
theorem dX8_doesTry_91 : decode cX8_doesTry 91 = .ok (.iload_n 1, 1) := dk_27 (dk_at dksX8_doesTry_3 21 rfl rfl)
theorem dX8_doesTry_92 : decode cX8_doesTry 92 = .ok (.bipush 7, 2) := dk_16 7 (dk_at dksX8_doesTry_3 22 rfl rfl)
theorem dX8_doesTry_94 : decode cX8_doesTry 94 = .ok (.iload_n 3, 1) := dk_29 (dk_at dksX8_doesTry_4 0 rfl rfl)
theorem dX8_doesTry_95 : decode cX8_doesTry 95 = .ok (.iadd, 1) := dk_96 (dk_at dksX8_doesTry_4 1 rfl rfl)
theorem dX8_doesTry_96 : decode cX8_doesTry 96 = .ok (.iload 4, 2) := dk_21 4 (dk_at dksX8_doesTry_4 2 rfl rfl)
theorem dX8_doesTry_98 : decode cX8_doesTry 98 = .ok (.aload_n 0, 1) := dk_42 (dk_at dksX8_doesTry_4 4 rfl rfl)
theorem dX8_doesTry_99 : decode cX8_doesTry 99 = .ok (.iload_n 1, 1) := dk_27 (dk_at dksX8_doesTry_4 5 rfl rfl)
theorem dX8_doesTry_100 : decode cX8_doesTry 100 = .ok (.bipush 7, 2) := dk_16 7 (dk_at dksX8_doesTry_4 6 rfl rfl)
theorem dX8_doesTry_102 : decode cX8_doesTry 102 = .ok (.iload_n 3, 1) := dk_29 (dk_at dksX8_doesTry_4 8 rfl rfl)
theorem dX8_doesTry_103 : decode cX8_doesTry 103 = .ok (.iadd, 1) := dk_96 (dk_at dksX8_doesTry_4 9 rfl rfl)
theorem dX8_doesTry_104 : decode cX8_doesTry 104 = .ok (.invokevirtual 106, 3) := dk_182 0 106 (dk_at dksX8_doesTry_4 10 rfl rfl)
theorem dX8_doesTry_107 : decode cX8_doesTry 107 = .ok (.invokestatic 100, 3) := dk_184 0 100 (dk_at dksX8_doesTry_4 13 rfl rfl)
theorem dX8_doesTry_110 : decode cX8_doesTry 110 = .ok (.invokevirtual 109, 3) := dk_182 0 109 (dk_at dksX8_doesTry_4 16 rfl rfl)
theorem dX8_doesTry_113 : decode cX8_doesTry 113 = .ok (.goto 17, 3) := dk_167 0 17 (dk_at dksX8_doesTry_4 19 rfl rfl)
theorem dX8_doesTry_116 : decode cX8_doesTry 116 = .ok (.aload_n 0, 1) := dk_42 (dk_at dksX8_doesTry_4 22 rfl rfl)
theorem dX8_doesTry_117 : decode cX8_doesTry 117 = .ok (.iload_n 1, 1) := dk_27 (dk_at dksX8_doesTry_4 23 rfl rfl)
theorem dX8_doesTry_118 : decode cX8_doesTry 118 = .ok (.iconst 4, 1) := dk_7 (dk_at dksX8_doesTry_5 0 rfl rfl)
theorem dX8_doesTry_119 : decode cX8_doesTry 119 = .ok (.aload_n 0, 1) := dk_42 (dk_at dksX8_doesTry_5 1 rfl rfl)
theorem dX8_doesTry_120 : decode cX8_doesTry 120 = .ok (.iload_n 1, 1) := dk_27 (dk_at dksX8_doesTry_5 2 rfl rfl)
theorem dX8_doesTry_121 : decode cX8_doesTry 121 = .ok (.iconst 4, 1) := dk_7 (dk_at dksX8_doesTry_5 3 rfl rfl)
theorem dX8_doesTry_122 : decode cX8_doesTry 122 = .ok (.invokevirtual 106, 3) := dk_182 0 106 (dk_at dksX8_doesTry_5 4 rfl rfl)
theorem dX8_doesTry_125 : decode cX8_doesTry 125 = .ok (.iconst 1, 1) := dk_4 (dk_at dksX8_doesTry_5 7 rfl rfl)
theorem dX8_doesTry_126 : decode cX8_doesTry 126 = .ok (.iadd, 1) := dk_96 (dk_at dksX8_doesTry_5 8 rfl rfl)
theorem dX8_doesTry_127 : decode cX8_doesTry 127 = .ok (.invokevirtual 109, 3) := dk_182 0 109 (dk_at dksX8_doesTry_5 9 rfl rfl)
theorem dX8_doesTry_130 : decode cX8_doesTry 130 = .ok (.aload_n 0, 1) := dk_42 (dk_at dksX8_doesTry_5 12 rfl rfl)
theorem dX8_doesTry_131 : decode cX8_doesTry 131 = .ok (.getfield 38, 3) := dk_180 0 38 (dk_at dksX8_doesTry_5 13 rfl rfl)
theorem dX8_doesTry_134 : decode cX8_doesTry 134 = .ok (.iconst 4, 1) := dk_7 (dk_at dksX8_doesTry_5 16 rfl rfl)
theorem dX8_doesTry_135 : decode cX8_doesTry 135 = .ok (.aload_n 0, 1) := dk_42 (dk_at dksX8_doesTry_5 17 rfl rfl)
theorem dX8_doesTry_136 : decode cX8_doesTry 136 = .ok (.getfield 131, 3) := dk_180 0 131 (dk_at dksX8_doesTry_5 18 rfl rfl)
theorem dX8_doesTry_139 : decode cX8_doesTry 139 = .ok (.imul, 1) := dk_104 (dk_at dksX8_doesTry_5 21 rfl rfl)
theorem dX8_doesTry_140 : decode cX8_doesTry 140 = .ok (.iload_n 1, 1) := dk_27 (dk_at dksX8_doesTry_5 22 rfl rfl)
theorem dX8_doesTry_141 : decode cX8_doesTry 141 = .ok (.iastore, 1) := dk_79 (dk_at dksX8_doesTry_5 23 rfl rfl)
theorem dX8_doesTry_142 : decode cX8_doesTry 142 = .ok (.aload_n 0, 1) := dk_42 (dk_at dksX8_doesTry_6 0 rfl rfl)
theorem dX8_doesTry_143 : decode cX8_doesTry 143 = .ok (.getfield 38, 3) := dk_180 0 38 (dk_at dksX8_doesTry_6 1 rfl rfl)
theorem dX8_doesTry_146 : decode cX8_doesTry 146 = .ok (.iconst 4, 1) := dk_7 (dk_at dksX8_doesTry_6 4 rfl rfl)
theorem dX8_doesTry_147 : decode cX8_doesTry 147 = .ok (.aload_n 0, 1) := dk_42 (dk_at dksX8_doesTry_6 5 rfl rfl)
theorem dX8_doesTry_148 : decode cX8_doesTry 148 = .ok (.getfield 131, 3) := dk_180 0 131 (dk_at dksX8_doesTry_6 6 rfl rfl)
theorem dX8_doesTry_151 : decode cX8_doesTry 151 = .ok (.imul, 1) := dk_104 (dk_at dksX8_doesTry_6 9 rfl rfl)
theorem dX8_doesTry_152 : decode cX8_doesTry 152 = .ok (.iconst 1, 1) := dk_4 (dk_at dksX8_doesTry_6 10 rfl rfl)
theorem dX8_doesTry_153 : decode cX8_doesTry 153 = .ok (.iadd, 1) := dk_96 (dk_at dksX8_doesTry_6 11 rfl rfl)
theorem dX8_doesTry_154 : decode cX8_doesTry 154 = .ok (.iload_n 3, 1) := dk_29 (dk_at dksX8_doesTry_6 12 rfl rfl)
theorem dX8_doesTry_155 : decode cX8_doesTry 155 = .ok (.iastore, 1) := dk_79 (dk_at dksX8_doesTry_6 13 rfl rfl)
theorem dX8_doesTry_156 : decode cX8_doesTry 156 = .ok (.aload_n 0, 1) := dk_42 (dk_at dksX8_doesTry_6 14 rfl rfl)
theorem dX8_doesTry_157 : decode cX8_doesTry 157 = .ok (.getfield 38, 3) := dk_180 0 38 (dk_at dksX8_doesTry_6 15 rfl rfl)
theorem dX8_doesTry_160 : decode cX8_doesTry 160 = .ok (.iconst 4, 1) := dk_7 (dk_at dksX8_doesTry_6 18 rfl rfl)
theorem dX8_doesTry_161 : decode cX8_doesTry 161 = .ok (.aload_n 0, 1) := dk_42 (dk_at dksX8_doesTry_6 19 rfl rfl)
theorem dX8_doesTry_162 : decode cX8_doesTry 162 = .ok (.getfield 131, 3) := dk_180 0 131 (dk_at dksX8_doesTry_6 20 rfl rfl)
theorem dX8_doesTry_165 : decode cX8_doesTry 165 = .ok (.imul, 1) := dk_104 (dk_at dksX8_doesTry_6 23 rfl rfl)
theorem dX8_doesTry_166 : decode cX8_doesTry 166 = .ok (.iconst 2, 1) := dk_5 (dk_at dksX8_doesTry_7 0 rfl rfl)
theorem dX8_doesTry_167 : decode cX8_doesTry 167 = .ok (.iadd, 1) := dk_96 (dk_at dksX8_doesTry_7 1 rfl rfl)
theorem dX8_doesTry_168 : decode cX8_doesTry 168 = .ok (.iload 4, 2) := dk_21 4 (dk_at dksX8_doesTry_7 2 rfl rfl)
theorem dX8_doesTry_170 : decode cX8_doesTry 170 = .ok (.iastore, 1) := dk_79 (dk_at dksX8_doesTry_7 4 rfl rfl)
theorem dX8_doesTry_171 : decode cX8_doesTry 171 = .ok (.aload_n 0, 1) := dk_42 (dk_at dksX8_doesTry_7 5 rfl rfl)
theorem dX8_doesTry_172 : decode cX8_doesTry 172 = .ok (.getfield 38, 3) := dk_180 0 38 (dk_at dksX8_doesTry_7 6 rfl rfl)
theorem dX8_doesTry_175 : decode cX8_doesTry 175 = .ok (.iconst 4, 1) := dk_7 (dk_at dksX8_doesTry_7 9 rfl rfl)
theorem dX8_doesTry_176 : decode cX8_doesTry 176 = .ok (.aload_n 0, 1) := dk_42 (dk_at dksX8_doesTry_7 10 rfl rfl)
theorem dX8_doesTry_177 : decode cX8_doesTry 177 = .ok (.getfield 131, 3) := dk_180 0 131 (dk_at dksX8_doesTry_7 11 rfl rfl)
theorem dX8_doesTry_180 : decode cX8_doesTry 180 = .ok (.imul, 1) := dk_104 (dk_at dksX8_doesTry_7 14 rfl rfl)
theorem dX8_doesTry_181 : decode cX8_doesTry 181 = .ok (.iconst 3, 1) := dk_6 (dk_at dksX8_doesTry_7 15 rfl rfl)
theorem dX8_doesTry_182 : decode cX8_doesTry 182 = .ok (.iadd, 1) := dk_96 (dk_at dksX8_doesTry_7 16 rfl rfl)
theorem dX8_doesTry_183 : decode cX8_doesTry 183 = .ok (.iload_n 2, 1) := dk_28 (dk_at dksX8_doesTry_7 17 rfl rfl)
theorem dX8_doesTry_184 : decode cX8_doesTry 184 = .ok (.invokestatic 160, 3) := dk_184 0 160 (dk_at dksX8_doesTry_7 18 rfl rfl)
theorem dX8_doesTry_187 : decode cX8_doesTry 187 = .ok (.iastore, 1) := dk_79 (dk_at dksX8_doesTry_7 21 rfl rfl)
theorem dX8_doesTry_188 : decode cX8_doesTry 188 = .ok (.aload_n 0, 1) := dk_42 (dk_at dksX8_doesTry_7 22 rfl rfl)
theorem dX8_doesTry_189 : decode cX8_doesTry 189 = .ok (.dup, 1) := dk_89 (dk_at dksX8_doesTry_7 23 rfl rfl)
theorem dX8_doesTry_190 : decode cX8_doesTry 190 = .ok (.getfield 131, 3) := dk_180 0 131 (dk_at dksX8_doesTry_8 0 rfl rfl)
theorem dX8_doesTry_193 : decode cX8_doesTry 193 = .ok (.iconst 1, 1) := dk_4 (dk_at dksX8_doesTry_8 3 rfl rfl)
theorem dX8_doesTry_194 : decode cX8_doesTry 194 = .ok (.iadd, 1) := dk_96 (dk_at dksX8_doesTry_8 4 rfl rfl)
theorem dX8_doesTry_195 : decode cX8_doesTry 195 = .ok (.putfield 131, 3) := dk_181 0 131 (dk_at dksX8_doesTry_8 5 rfl rfl)
theorem dX8_doesTry_198 : decode cX8_doesTry 198 = .ok (.aload_n 0, 1) := dk_42 (dk_at dksX8_doesTry_8 8 rfl rfl)
theorem dX8_doesTry_199 : decode cX8_doesTry 199 = .ok (.dup, 1) := dk_89 (dk_at dksX8_doesTry_8 9 rfl rfl)
theorem dX8_doesTry_200 : decode cX8_doesTry 200 = .ok (.getfield 134, 3) := dk_180 0 134 (dk_at dksX8_doesTry_8 10 rfl rfl)
theorem dX8_doesTry_203 : decode cX8_doesTry 203 = .ok (.iload_n 2, 1) := dk_28 (dk_at dksX8_doesTry_8 13 rfl rfl)
theorem dX8_doesTry_204 : decode cX8_doesTry 204 = .ok (.invokestatic 160, 3) := dk_184 0 160 (dk_at dksX8_doesTry_8 14 rfl rfl)
theorem dX8_doesTry_207 : decode cX8_doesTry 207 = .ok (.iadd, 1) := dk_96 (dk_at dksX8_doesTry_8 17 rfl rfl)
theorem dX8_doesTry_208 : decode cX8_doesTry 208 = .ok (.putfield 134, 3) := dk_181 0 134 (dk_at dksX8_doesTry_8 18 rfl rfl)
theorem dX8_doesTry_211 : decode cX8_doesTry 211 = .ok (.aload_n 0, 1) := dk_42 (dk_at dksX8_doesTry_8 21 rfl rfl)
theorem dX8_doesTry_212 : decode cX8_doesTry 212 = .ok (.invokevirtual 164, 3) := dk_182 0 164 (dk_at dksX8_doesTry_9 0 rfl rfl)
theorem dX8_doesTry_215 : decode cX8_doesTry 215 = .ok (.return_, 1) := dk_177 (dk_at dksX8_doesTry_9 3 rfl rfl)
abbrev cX8_asksThen : ByteArray := prog_21_method_24_code
def yX8_asksThen : MethodName := ⟨RX8, "asksThen", "(IIIIZ)I"⟩
def dkwX8_asksThen_1 : List UInt8 := [159, 0, 10, 21, 6, 16, 40, 164, 0, 7, 3, 167, 0, 5, 21, 6, 172]
abbrev dktX8_asksThen_1 : List UInt8 := dkwX8_asksThen_1 ++ []
def dkwX8_asksThen_0 : List UInt8 := [21, 4, 42, 27, 28, 21, 5, 153, 0, 7, 4, 167, 0, 4, 5, 182, 0, 125, 96, 54, 6, 29, 5]
abbrev dktX8_asksThen_0 : List UInt8 := dkwX8_asksThen_0 ++ dktX8_asksThen_1
theorem dksX8_asksThen_0 : cX8_asksThen.data.toList.drop 0 = dktX8_asksThen_0 := by decide +kernel
theorem dksX8_asksThen_1 : cX8_asksThen.data.toList.drop 23 = dktX8_asksThen_1 := dk_seg dksX8_asksThen_0 23 rfl rfl
theorem dX8_asksThen_0 : decode cX8_asksThen 0 = .ok (.iload 4, 2) := dk_21 4 (dk_at dksX8_asksThen_0 0 rfl rfl)
theorem dX8_asksThen_2 : decode cX8_asksThen 2 = .ok (.aload_n 0, 1) := dk_42 (dk_at dksX8_asksThen_0 2 rfl rfl)
theorem dX8_asksThen_3 : decode cX8_asksThen 3 = .ok (.iload_n 1, 1) := dk_27 (dk_at dksX8_asksThen_0 3 rfl rfl)
theorem dX8_asksThen_4 : decode cX8_asksThen 4 = .ok (.iload_n 2, 1) := dk_28 (dk_at dksX8_asksThen_0 4 rfl rfl)
theorem dX8_asksThen_5 : decode cX8_asksThen 5 = .ok (.iload 5, 2) := dk_21 5 (dk_at dksX8_asksThen_0 5 rfl rfl)
theorem dX8_asksThen_7 : decode cX8_asksThen 7 = .ok (.ifCond .eq 7, 3) := dk_153 0 7 (dk_at dksX8_asksThen_0 7 rfl rfl)
theorem dX8_asksThen_10 : decode cX8_asksThen 10 = .ok (.iconst 1, 1) := dk_4 (dk_at dksX8_asksThen_0 10 rfl rfl)
theorem dX8_asksThen_11 : decode cX8_asksThen 11 = .ok (.goto 4, 3) := dk_167 0 4 (dk_at dksX8_asksThen_0 11 rfl rfl)
theorem dX8_asksThen_14 : decode cX8_asksThen 14 = .ok (.iconst 2, 1) := dk_5 (dk_at dksX8_asksThen_0 14 rfl rfl)
theorem dX8_asksThen_15 : decode cX8_asksThen 15 = .ok (.invokevirtual 125, 3) := dk_182 0 125 (dk_at dksX8_asksThen_0 15 rfl rfl)
theorem dX8_asksThen_18 : decode cX8_asksThen 18 = .ok (.iadd, 1) := dk_96 (dk_at dksX8_asksThen_0 18 rfl rfl)
theorem dX8_asksThen_19 : decode cX8_asksThen 19 = .ok (.istore 6, 2) := dk_54 6 (dk_at dksX8_asksThen_0 19 rfl rfl)
theorem dX8_asksThen_21 : decode cX8_asksThen 21 = .ok (.iload_n 3, 1) := dk_29 (dk_at dksX8_asksThen_0 21 rfl rfl)
theorem dX8_asksThen_22 : decode cX8_asksThen 22 = .ok (.iconst 2, 1) := dk_5 (dk_at dksX8_asksThen_0 22 rfl rfl)
theorem dX8_asksThen_23 : decode cX8_asksThen 23 = .ok (.if_icmp .eq 10, 3) := dk_159 0 10 (dk_at dksX8_asksThen_1 0 rfl rfl)
theorem dX8_asksThen_26 : decode cX8_asksThen 26 = .ok (.iload 6, 2) := dk_21 6 (dk_at dksX8_asksThen_1 3 rfl rfl)
theorem dX8_asksThen_28 : decode cX8_asksThen 28 = .ok (.bipush 40, 2) := dk_16 40 (dk_at dksX8_asksThen_1 5 rfl rfl)
theorem dX8_asksThen_30 : decode cX8_asksThen 30 = .ok (.if_icmp .le 7, 3) := dk_164 0 7 (dk_at dksX8_asksThen_1 7 rfl rfl)
theorem dX8_asksThen_33 : decode cX8_asksThen 33 = .ok (.iconst 0, 1) := dk_3 (dk_at dksX8_asksThen_1 10 rfl rfl)
theorem dX8_asksThen_34 : decode cX8_asksThen 34 = .ok (.goto 5, 3) := dk_167 0 5 (dk_at dksX8_asksThen_1 11 rfl rfl)
theorem dX8_asksThen_37 : decode cX8_asksThen 37 = .ok (.iload 6, 2) := dk_21 6 (dk_at dksX8_asksThen_1 14 rfl rfl)
theorem dX8_asksThen_39 : decode cX8_asksThen 39 = .ok (.ireturn, 1) := dk_172 (dk_at dksX8_asksThen_1 16 rfl rfl)
abbrev cX8_goesOn : ByteArray := prog_21_method_23_code
def yX8_goesOn : MethodName := ⟨RX8, "goesOn", "()V"⟩
def dkwX8_goesOn_2 : List UInt8 := [96, 79, 42, 182, 0, 128, 167, 255, 203, 177]
abbrev dktX8_goesOn_2 : List UInt8 := dkwX8_goesOn_2 ++ []
def dkwX8_goesOn_1 : List UInt8 := [180, 0, 32, 4, 46, 5, 160, 0, 10, 42, 182, 0, 150, 167, 255, 220, 42, 180, 0, 32, 4, 92, 46, 4]
abbrev dktX8_goesOn_1 : List UInt8 := dkwX8_goesOn_1 ++ dktX8_goesOn_2
def dkwX8_goesOn_0 : List UInt8 := [42, 180, 0, 84, 158, 0, 52, 42, 182, 0, 113, 154, 0, 45, 42, 182, 0, 147, 2, 160, 0, 37, 42]
abbrev dktX8_goesOn_0 : List UInt8 := dkwX8_goesOn_0 ++ dktX8_goesOn_1
theorem dksX8_goesOn_0 : cX8_goesOn.data.toList.drop 0 = dktX8_goesOn_0 := by decide +kernel
theorem dksX8_goesOn_1 : cX8_goesOn.data.toList.drop 23 = dktX8_goesOn_1 := dk_seg dksX8_goesOn_0 23 rfl rfl
theorem dksX8_goesOn_2 : cX8_goesOn.data.toList.drop 47 = dktX8_goesOn_2 := dk_seg dksX8_goesOn_1 24 rfl rfl
theorem dX8_goesOn_0 : decode cX8_goesOn 0 = .ok (.aload_n 0, 1) := dk_42 (dk_at dksX8_goesOn_0 0 rfl rfl)
theorem dX8_goesOn_1 : decode cX8_goesOn 1 = .ok (.getfield 84, 3) := dk_180 0 84 (dk_at dksX8_goesOn_0 1 rfl rfl)
theorem dX8_goesOn_4 : decode cX8_goesOn 4 = .ok (.ifCond .le 52, 3) := dk_158 0 52 (dk_at dksX8_goesOn_0 4 rfl rfl)
theorem dX8_goesOn_7 : decode cX8_goesOn 7 = .ok (.aload_n 0, 1) := dk_42 (dk_at dksX8_goesOn_0 7 rfl rfl)
theorem dX8_goesOn_8 : decode cX8_goesOn 8 = .ok (.invokevirtual 113, 3) := dk_182 0 113 (dk_at dksX8_goesOn_0 8 rfl rfl)
theorem dX8_goesOn_11 : decode cX8_goesOn 11 = .ok (.ifCond .ne 45, 3) := dk_154 0 45 (dk_at dksX8_goesOn_0 11 rfl rfl)
theorem dX8_goesOn_14 : decode cX8_goesOn 14 = .ok (.aload_n 0, 1) := dk_42 (dk_at dksX8_goesOn_0 14 rfl rfl)
theorem dX8_goesOn_15 : decode cX8_goesOn 15 = .ok (.invokevirtual 147, 3) := dk_182 0 147 (dk_at dksX8_goesOn_0 15 rfl rfl)
theorem dX8_goesOn_18 : decode cX8_goesOn 18 = .ok (.iconst (-1), 1) := dk_2 (dk_at dksX8_goesOn_0 18 rfl rfl)
theorem dX8_goesOn_19 : decode cX8_goesOn 19 = .ok (.if_icmp .ne 37, 3) := dk_160 0 37 (dk_at dksX8_goesOn_0 19 rfl rfl)
theorem dX8_goesOn_22 : decode cX8_goesOn 22 = .ok (.aload_n 0, 1) := dk_42 (dk_at dksX8_goesOn_0 22 rfl rfl)
theorem dX8_goesOn_23 : decode cX8_goesOn 23 = .ok (.getfield 32, 3) := dk_180 0 32 (dk_at dksX8_goesOn_1 0 rfl rfl)
theorem dX8_goesOn_26 : decode cX8_goesOn 26 = .ok (.iconst 1, 1) := dk_4 (dk_at dksX8_goesOn_1 3 rfl rfl)
theorem dX8_goesOn_27 : decode cX8_goesOn 27 = .ok (.iaload, 1) := dk_46 (dk_at dksX8_goesOn_1 4 rfl rfl)
theorem dX8_goesOn_28 : decode cX8_goesOn 28 = .ok (.iconst 2, 1) := dk_5 (dk_at dksX8_goesOn_1 5 rfl rfl)
theorem dX8_goesOn_29 : decode cX8_goesOn 29 = .ok (.if_icmp .ne 10, 3) := dk_160 0 10 (dk_at dksX8_goesOn_1 6 rfl rfl)
theorem dX8_goesOn_32 : decode cX8_goesOn 32 = .ok (.aload_n 0, 1) := dk_42 (dk_at dksX8_goesOn_1 9 rfl rfl)
theorem dX8_goesOn_33 : decode cX8_goesOn 33 = .ok (.invokevirtual 150, 3) := dk_182 0 150 (dk_at dksX8_goesOn_1 10 rfl rfl)
theorem dX8_goesOn_36 : decode cX8_goesOn 36 = .ok (.goto (-36), 3) := dk_167 255 220 (dk_at dksX8_goesOn_1 13 rfl rfl)
theorem dX8_goesOn_39 : decode cX8_goesOn 39 = .ok (.aload_n 0, 1) := dk_42 (dk_at dksX8_goesOn_1 16 rfl rfl)
theorem dX8_goesOn_40 : decode cX8_goesOn 40 = .ok (.getfield 32, 3) := dk_180 0 32 (dk_at dksX8_goesOn_1 17 rfl rfl)
theorem dX8_goesOn_43 : decode cX8_goesOn 43 = .ok (.iconst 1, 1) := dk_4 (dk_at dksX8_goesOn_1 20 rfl rfl)
theorem dX8_goesOn_44 : decode cX8_goesOn 44 = .ok (.dup2, 1) := dk_92 (dk_at dksX8_goesOn_1 21 rfl rfl)
theorem dX8_goesOn_45 : decode cX8_goesOn 45 = .ok (.iaload, 1) := dk_46 (dk_at dksX8_goesOn_1 22 rfl rfl)
theorem dX8_goesOn_46 : decode cX8_goesOn 46 = .ok (.iconst 1, 1) := dk_4 (dk_at dksX8_goesOn_1 23 rfl rfl)
theorem dX8_goesOn_47 : decode cX8_goesOn 47 = .ok (.iadd, 1) := dk_96 (dk_at dksX8_goesOn_2 0 rfl rfl)
theorem dX8_goesOn_48 : decode cX8_goesOn 48 = .ok (.iastore, 1) := dk_79 (dk_at dksX8_goesOn_2 1 rfl rfl)
theorem dX8_goesOn_49 : decode cX8_goesOn 49 = .ok (.aload_n 0, 1) := dk_42 (dk_at dksX8_goesOn_2 2 rfl rfl)
theorem dX8_goesOn_50 : decode cX8_goesOn 50 = .ok (.invokevirtual 128, 3) := dk_182 0 128 (dk_at dksX8_goesOn_2 3 rfl rfl)
theorem dX8_goesOn_53 : decode cX8_goesOn 53 = .ok (.goto (-53), 3) := dk_167 255 203 (dk_at dksX8_goesOn_2 6 rfl rfl)
theorem dX8_goesOn_56 : decode cX8_goesOn 56 = .ok (.return_, 1) := dk_177 (dk_at dksX8_goesOn_2 9 rfl rfl)
abbrev cX8_liftEnds : ByteArray := prog_21_method_22_code
def yX8_liftEnds : MethodName := ⟨RX8, "liftEnds", "()V"⟩
def dkwX8_liftEnds_2 : List UInt8 := [4, 96, 79, 42, 182, 0, 137, 177]
abbrev dktX8_liftEnds_2 : List UInt8 := dkwX8_liftEnds_2 ++ []
def dkwX8_liftEnds_1 : List UInt8 := [154, 0, 11, 42, 27, 16, 6, 4, 182, 0, 109, 132, 1, 1, 167, 255, 220, 42, 180, 0, 32, 3, 92, 46]
abbrev dktX8_liftEnds_1 : List UInt8 := dkwX8_liftEnds_1 ++ dktX8_liftEnds_2
def dkwX8_liftEnds_0 : List UInt8 := [3, 60, 27, 42, 180, 0, 84, 162, 0, 34, 42, 27, 16, 7, 42, 180, 0, 32, 3, 46, 96, 182, 0, 106]
abbrev dktX8_liftEnds_0 : List UInt8 := dkwX8_liftEnds_0 ++ dktX8_liftEnds_1
theorem dksX8_liftEnds_0 : cX8_liftEnds.data.toList.drop 0 = dktX8_liftEnds_0 := by decide +kernel
theorem dksX8_liftEnds_1 : cX8_liftEnds.data.toList.drop 24 = dktX8_liftEnds_1 := dk_seg dksX8_liftEnds_0 24 rfl rfl
theorem dksX8_liftEnds_2 : cX8_liftEnds.data.toList.drop 48 = dktX8_liftEnds_2 := dk_seg dksX8_liftEnds_1 24 rfl rfl
theorem dX8_liftEnds_0 : decode cX8_liftEnds 0 = .ok (.iconst 0, 1) := dk_3 (dk_at dksX8_liftEnds_0 0 rfl rfl)
theorem dX8_liftEnds_1 : decode cX8_liftEnds 1 = .ok (.istore_n 1, 1) := dk_60 (dk_at dksX8_liftEnds_0 1 rfl rfl)
theorem dX8_liftEnds_2 : decode cX8_liftEnds 2 = .ok (.iload_n 1, 1) := dk_27 (dk_at dksX8_liftEnds_0 2 rfl rfl)
theorem dX8_liftEnds_3 : decode cX8_liftEnds 3 = .ok (.aload_n 0, 1) := dk_42 (dk_at dksX8_liftEnds_0 3 rfl rfl)
theorem dX8_liftEnds_4 : decode cX8_liftEnds 4 = .ok (.getfield 84, 3) := dk_180 0 84 (dk_at dksX8_liftEnds_0 4 rfl rfl)
theorem dX8_liftEnds_7 : decode cX8_liftEnds 7 = .ok (.if_icmp .ge 34, 3) := dk_162 0 34 (dk_at dksX8_liftEnds_0 7 rfl rfl)
theorem dX8_liftEnds_10 : decode cX8_liftEnds 10 = .ok (.aload_n 0, 1) := dk_42 (dk_at dksX8_liftEnds_0 10 rfl rfl)
theorem dX8_liftEnds_11 : decode cX8_liftEnds 11 = .ok (.iload_n 1, 1) := dk_27 (dk_at dksX8_liftEnds_0 11 rfl rfl)
theorem dX8_liftEnds_12 : decode cX8_liftEnds 12 = .ok (.bipush 7, 2) := dk_16 7 (dk_at dksX8_liftEnds_0 12 rfl rfl)
theorem dX8_liftEnds_14 : decode cX8_liftEnds 14 = .ok (.aload_n 0, 1) := dk_42 (dk_at dksX8_liftEnds_0 14 rfl rfl)
theorem dX8_liftEnds_15 : decode cX8_liftEnds 15 = .ok (.getfield 32, 3) := dk_180 0 32 (dk_at dksX8_liftEnds_0 15 rfl rfl)
theorem dX8_liftEnds_18 : decode cX8_liftEnds 18 = .ok (.iconst 0, 1) := dk_3 (dk_at dksX8_liftEnds_0 18 rfl rfl)
theorem dX8_liftEnds_19 : decode cX8_liftEnds 19 = .ok (.iaload, 1) := dk_46 (dk_at dksX8_liftEnds_0 19 rfl rfl)
theorem dX8_liftEnds_20 : decode cX8_liftEnds 20 = .ok (.iadd, 1) := dk_96 (dk_at dksX8_liftEnds_0 20 rfl rfl)
theorem dX8_liftEnds_21 : decode cX8_liftEnds 21 = .ok (.invokevirtual 106, 3) := dk_182 0 106 (dk_at dksX8_liftEnds_0 21 rfl rfl)
theorem dX8_liftEnds_24 : decode cX8_liftEnds 24 = .ok (.ifCond .ne 11, 3) := dk_154 0 11 (dk_at dksX8_liftEnds_1 0 rfl rfl)
theorem dX8_liftEnds_27 : decode cX8_liftEnds 27 = .ok (.aload_n 0, 1) := dk_42 (dk_at dksX8_liftEnds_1 3 rfl rfl)
theorem dX8_liftEnds_28 : decode cX8_liftEnds 28 = .ok (.iload_n 1, 1) := dk_27 (dk_at dksX8_liftEnds_1 4 rfl rfl)
theorem dX8_liftEnds_29 : decode cX8_liftEnds 29 = .ok (.bipush 6, 2) := dk_16 6 (dk_at dksX8_liftEnds_1 5 rfl rfl)
theorem dX8_liftEnds_31 : decode cX8_liftEnds 31 = .ok (.iconst 1, 1) := dk_4 (dk_at dksX8_liftEnds_1 7 rfl rfl)
theorem dX8_liftEnds_32 : decode cX8_liftEnds 32 = .ok (.invokevirtual 109, 3) := dk_182 0 109 (dk_at dksX8_liftEnds_1 8 rfl rfl)
theorem dX8_liftEnds_35 : decode cX8_liftEnds 35 = .ok (.iinc 1 1, 3) := dk_132 1 1 (dk_at dksX8_liftEnds_1 11 rfl rfl)
theorem dX8_liftEnds_38 : decode cX8_liftEnds 38 = .ok (.goto (-36), 3) := dk_167 255 220 (dk_at dksX8_liftEnds_1 14 rfl rfl)
theorem dX8_liftEnds_41 : decode cX8_liftEnds 41 = .ok (.aload_n 0, 1) := dk_42 (dk_at dksX8_liftEnds_1 17 rfl rfl)
theorem dX8_liftEnds_42 : decode cX8_liftEnds 42 = .ok (.getfield 32, 3) := dk_180 0 32 (dk_at dksX8_liftEnds_1 18 rfl rfl)
theorem dX8_liftEnds_45 : decode cX8_liftEnds 45 = .ok (.iconst 0, 1) := dk_3 (dk_at dksX8_liftEnds_1 21 rfl rfl)
theorem dX8_liftEnds_46 : decode cX8_liftEnds 46 = .ok (.dup2, 1) := dk_92 (dk_at dksX8_liftEnds_1 22 rfl rfl)
theorem dX8_liftEnds_47 : decode cX8_liftEnds 47 = .ok (.iaload, 1) := dk_46 (dk_at dksX8_liftEnds_1 23 rfl rfl)
theorem dX8_liftEnds_48 : decode cX8_liftEnds 48 = .ok (.iconst 1, 1) := dk_4 (dk_at dksX8_liftEnds_2 0 rfl rfl)
theorem dX8_liftEnds_49 : decode cX8_liftEnds 49 = .ok (.iadd, 1) := dk_96 (dk_at dksX8_liftEnds_2 1 rfl rfl)
theorem dX8_liftEnds_50 : decode cX8_liftEnds 50 = .ok (.iastore, 1) := dk_79 (dk_at dksX8_liftEnds_2 2 rfl rfl)
theorem dX8_liftEnds_51 : decode cX8_liftEnds 51 = .ok (.aload_n 0, 1) := dk_42 (dk_at dksX8_liftEnds_2 3 rfl rfl)
theorem dX8_liftEnds_52 : decode cX8_liftEnds 52 = .ok (.invokevirtual 137, 3) := dk_182 0 137 (dk_at dksX8_liftEnds_2 4 rfl rfl)
theorem dX8_liftEnds_55 : decode cX8_liftEnds 55 = .ok (.return_, 1) := dk_177 (dk_at dksX8_liftEnds_2 7 rfl rfl)
abbrev cX8_tried : ByteArray := prog_21_method_54_code
def yX8_tried : MethodName := ⟨RX8, "tried", "(II)I"⟩
def dkwX8_tried_1 : List UInt8 := [20, 1, 3, 184, 0, 87, 153, 0, 16, 42, 180, 0, 38, 7, 27, 104, 28, 96, 46, 167, 0, 4, 2, 172]
abbrev dktX8_tried_1 : List UInt8 := dkwX8_tried_1 ++ []
def dkwX8_tried_0 : List UInt8 := [42, 3, 181, 0, 77, 27, 133, 9, 42, 180, 0, 131, 4, 100, 133, 184, 0, 87, 153, 0, 28, 28, 133, 9]
abbrev dktX8_tried_0 : List UInt8 := dkwX8_tried_0 ++ dktX8_tried_1
theorem dksX8_tried_0 : cX8_tried.data.toList.drop 0 = dktX8_tried_0 := by decide +kernel
theorem dksX8_tried_1 : cX8_tried.data.toList.drop 24 = dktX8_tried_1 := dk_seg dksX8_tried_0 24 rfl rfl
theorem dX8_tried_0 : decode cX8_tried 0 = .ok (.aload_n 0, 1) := dk_42 (dk_at dksX8_tried_0 0 rfl rfl)
theorem dX8_tried_1 : decode cX8_tried 1 = .ok (.iconst 0, 1) := dk_3 (dk_at dksX8_tried_0 1 rfl rfl)
theorem dX8_tried_2 : decode cX8_tried 2 = .ok (.putfield 77, 3) := dk_181 0 77 (dk_at dksX8_tried_0 2 rfl rfl)
theorem dX8_tried_5 : decode cX8_tried 5 = .ok (.iload_n 1, 1) := dk_27 (dk_at dksX8_tried_0 5 rfl rfl)
theorem dX8_tried_6 : decode cX8_tried 6 = .ok (.i2l, 1) := dk_133 (dk_at dksX8_tried_0 6 rfl rfl)
theorem dX8_tried_7 : decode cX8_tried 7 = .ok (.lconst 0, 1) := dk_9 (dk_at dksX8_tried_0 7 rfl rfl)
theorem dX8_tried_8 : decode cX8_tried 8 = .ok (.aload_n 0, 1) := dk_42 (dk_at dksX8_tried_0 8 rfl rfl)
theorem dX8_tried_9 : decode cX8_tried 9 = .ok (.getfield 131, 3) := dk_180 0 131 (dk_at dksX8_tried_0 9 rfl rfl)
theorem dX8_tried_12 : decode cX8_tried 12 = .ok (.iconst 1, 1) := dk_4 (dk_at dksX8_tried_0 12 rfl rfl)
theorem dX8_tried_13 : decode cX8_tried 13 = .ok (.isub, 1) := dk_100 (dk_at dksX8_tried_0 13 rfl rfl)
theorem dX8_tried_14 : decode cX8_tried 14 = .ok (.i2l, 1) := dk_133 (dk_at dksX8_tried_0 14 rfl rfl)
theorem dX8_tried_15 : decode cX8_tried 15 = .ok (.invokestatic 87, 3) := dk_184 0 87 (dk_at dksX8_tried_0 15 rfl rfl)
theorem dX8_tried_18 : decode cX8_tried 18 = .ok (.ifCond .eq 28, 3) := dk_153 0 28 (dk_at dksX8_tried_0 18 rfl rfl)
theorem dX8_tried_21 : decode cX8_tried 21 = .ok (.iload_n 2, 1) := dk_28 (dk_at dksX8_tried_0 21 rfl rfl)
theorem dX8_tried_22 : decode cX8_tried 22 = .ok (.i2l, 1) := dk_133 (dk_at dksX8_tried_0 22 rfl rfl)
theorem dX8_tried_23 : decode cX8_tried 23 = .ok (.lconst 0, 1) := dk_9 (dk_at dksX8_tried_0 23 rfl rfl)
theorem dX8_tried_24 : decode cX8_tried 24 = .ok (.ldc2_w 259, 3) := dk_20 1 3 (dk_at dksX8_tried_1 0 rfl rfl)
theorem dX8_tried_27 : decode cX8_tried 27 = .ok (.invokestatic 87, 3) := dk_184 0 87 (dk_at dksX8_tried_1 3 rfl rfl)
theorem dX8_tried_30 : decode cX8_tried 30 = .ok (.ifCond .eq 16, 3) := dk_153 0 16 (dk_at dksX8_tried_1 6 rfl rfl)
theorem dX8_tried_33 : decode cX8_tried 33 = .ok (.aload_n 0, 1) := dk_42 (dk_at dksX8_tried_1 9 rfl rfl)
theorem dX8_tried_34 : decode cX8_tried 34 = .ok (.getfield 38, 3) := dk_180 0 38 (dk_at dksX8_tried_1 10 rfl rfl)
theorem dX8_tried_37 : decode cX8_tried 37 = .ok (.iconst 4, 1) := dk_7 (dk_at dksX8_tried_1 13 rfl rfl)
theorem dX8_tried_38 : decode cX8_tried 38 = .ok (.iload_n 1, 1) := dk_27 (dk_at dksX8_tried_1 14 rfl rfl)
theorem dX8_tried_39 : decode cX8_tried 39 = .ok (.imul, 1) := dk_104 (dk_at dksX8_tried_1 15 rfl rfl)
theorem dX8_tried_40 : decode cX8_tried 40 = .ok (.iload_n 2, 1) := dk_28 (dk_at dksX8_tried_1 16 rfl rfl)
theorem dX8_tried_41 : decode cX8_tried 41 = .ok (.iadd, 1) := dk_96 (dk_at dksX8_tried_1 17 rfl rfl)
theorem dX8_tried_42 : decode cX8_tried 42 = .ok (.iaload, 1) := dk_46 (dk_at dksX8_tried_1 18 rfl rfl)
theorem dX8_tried_43 : decode cX8_tried 43 = .ok (.goto 4, 3) := dk_167 0 4 (dk_at dksX8_tried_1 19 rfl rfl)
theorem dX8_tried_46 : decode cX8_tried 46 = .ok (.iconst (-1), 1) := dk_2 (dk_at dksX8_tried_1 22 rfl rfl)
theorem dX8_tried_47 : decode cX8_tried 47 = .ok (.ireturn, 1) := dk_172 (dk_at dksX8_tried_1 23 rfl rfl)
abbrev cX8_place : ByteArray := prog_21_method_55_code
def yX8_place : MethodName := ⟨RX8, "place", "(I)I"⟩
def dkwX8_place_1 : List UInt8 := [172]
abbrev dktX8_place_1 : List UInt8 := dkwX8_place_1 ++ []
def dkwX8_place_0 : List UInt8 := [42, 3, 181, 0, 77, 42, 27, 182, 0, 233, 154, 0, 5, 2, 172, 42, 182, 1, 5, 42, 27, 182, 0, 177]
abbrev dktX8_place_0 : List UInt8 := dkwX8_place_0 ++ dktX8_place_1
theorem dksX8_place_0 : cX8_place.data.toList.drop 0 = dktX8_place_0 := by decide +kernel
theorem dksX8_place_1 : cX8_place.data.toList.drop 24 = dktX8_place_1 := dk_seg dksX8_place_0 24 rfl rfl
theorem dX8_place_0 : decode cX8_place 0 = .ok (.aload_n 0, 1) := dk_42 (dk_at dksX8_place_0 0 rfl rfl)
theorem dX8_place_1 : decode cX8_place 1 = .ok (.iconst 0, 1) := dk_3 (dk_at dksX8_place_0 1 rfl rfl)
theorem dX8_place_2 : decode cX8_place 2 = .ok (.putfield 77, 3) := dk_181 0 77 (dk_at dksX8_place_0 2 rfl rfl)
theorem dX8_place_5 : decode cX8_place 5 = .ok (.aload_n 0, 1) := dk_42 (dk_at dksX8_place_0 5 rfl rfl)
theorem dX8_place_6 : decode cX8_place 6 = .ok (.iload_n 1, 1) := dk_27 (dk_at dksX8_place_0 6 rfl rfl)
theorem dX8_place_7 : decode cX8_place 7 = .ok (.invokevirtual 233, 3) := dk_182 0 233 (dk_at dksX8_place_0 7 rfl rfl)
theorem dX8_place_10 : decode cX8_place 10 = .ok (.ifCond .ne 5, 3) := dk_154 0 5 (dk_at dksX8_place_0 10 rfl rfl)
theorem dX8_place_13 : decode cX8_place 13 = .ok (.iconst (-1), 1) := dk_2 (dk_at dksX8_place_0 13 rfl rfl)
theorem dX8_place_14 : decode cX8_place 14 = .ok (.ireturn, 1) := dk_172 (dk_at dksX8_place_0 14 rfl rfl)
theorem dX8_place_15 : decode cX8_place 15 = .ok (.aload_n 0, 1) := dk_42 (dk_at dksX8_place_0 15 rfl rfl)
theorem dX8_place_16 : decode cX8_place 16 = .ok (.invokevirtual 261, 3) := dk_182 1 5 (dk_at dksX8_place_0 16 rfl rfl)
theorem dX8_place_19 : decode cX8_place 19 = .ok (.aload_n 0, 1) := dk_42 (dk_at dksX8_place_0 19 rfl rfl)
theorem dX8_place_20 : decode cX8_place 20 = .ok (.iload_n 1, 1) := dk_27 (dk_at dksX8_place_0 20 rfl rfl)
theorem dX8_place_21 : decode cX8_place 21 = .ok (.invokevirtual 177, 3) := dk_182 0 177 (dk_at dksX8_place_0 21 rfl rfl)
theorem dX8_place_24 : decode cX8_place 24 = .ok (.ireturn, 1) := dk_172 (dk_at dksX8_place_1 0 rfl rfl)
abbrev cX8_entersPlaces : ByteArray := prog_21_method_31_code
def yX8_entersPlaces : MethodName := ⟨RX8, "entersPlaces", "()V"⟩
def dkwX8_entersPlaces_2 : List UInt8 := [132, 1, 1, 167, 255, 214, 177]
abbrev dktX8_entersPlaces_2 : List UInt8 := dkwX8_entersPlaces_2 ++ []
def dkwX8_entersPlaces_1 : List UInt8 := [162, 0, 24, 42, 28, 182, 0, 177, 27, 160, 0, 9, 42, 28, 133, 182, 0, 180, 132, 2, 1, 167, 255, 230]
abbrev dktX8_entersPlaces_1 : List UInt8 := dkwX8_entersPlaces_1 ++ dktX8_entersPlaces_2
def dkwX8_entersPlaces_0 : List UInt8 := [42, 3, 181, 0, 81, 3, 60, 27, 42, 180, 0, 84, 162, 0, 40, 3, 61, 28, 42, 180, 0, 84]
abbrev dktX8_entersPlaces_0 : List UInt8 := dkwX8_entersPlaces_0 ++ dktX8_entersPlaces_1
theorem dksX8_entersPlaces_0 : cX8_entersPlaces.data.toList.drop 0 = dktX8_entersPlaces_0 := by decide +kernel
theorem dksX8_entersPlaces_1 : cX8_entersPlaces.data.toList.drop 22 = dktX8_entersPlaces_1 := dk_seg dksX8_entersPlaces_0 22 rfl rfl
theorem dksX8_entersPlaces_2 : cX8_entersPlaces.data.toList.drop 46 = dktX8_entersPlaces_2 := dk_seg dksX8_entersPlaces_1 24 rfl rfl
theorem dX8_entersPlaces_0 : decode cX8_entersPlaces 0 = .ok (.aload_n 0, 1) := dk_42 (dk_at dksX8_entersPlaces_0 0 rfl rfl)
theorem dX8_entersPlaces_1 : decode cX8_entersPlaces 1 = .ok (.iconst 0, 1) := dk_3 (dk_at dksX8_entersPlaces_0 1 rfl rfl)
theorem dX8_entersPlaces_2 : decode cX8_entersPlaces 2 = .ok (.putfield 81, 3) := dk_181 0 81 (dk_at dksX8_entersPlaces_0 2 rfl rfl)
theorem dX8_entersPlaces_5 : decode cX8_entersPlaces 5 = .ok (.iconst 0, 1) := dk_3 (dk_at dksX8_entersPlaces_0 5 rfl rfl)
theorem dX8_entersPlaces_6 : decode cX8_entersPlaces 6 = .ok (.istore_n 1, 1) := dk_60 (dk_at dksX8_entersPlaces_0 6 rfl rfl)
theorem dX8_entersPlaces_7 : decode cX8_entersPlaces 7 = .ok (.iload_n 1, 1) := dk_27 (dk_at dksX8_entersPlaces_0 7 rfl rfl)
theorem dX8_entersPlaces_8 : decode cX8_entersPlaces 8 = .ok (.aload_n 0, 1) := dk_42 (dk_at dksX8_entersPlaces_0 8 rfl rfl)
theorem dX8_entersPlaces_9 : decode cX8_entersPlaces 9 = .ok (.getfield 84, 3) := dk_180 0 84 (dk_at dksX8_entersPlaces_0 9 rfl rfl)
theorem dX8_entersPlaces_12 : decode cX8_entersPlaces 12 = .ok (.if_icmp .ge 40, 3) := dk_162 0 40 (dk_at dksX8_entersPlaces_0 12 rfl rfl)
theorem dX8_entersPlaces_15 : decode cX8_entersPlaces 15 = .ok (.iconst 0, 1) := dk_3 (dk_at dksX8_entersPlaces_0 15 rfl rfl)
theorem dX8_entersPlaces_16 : decode cX8_entersPlaces 16 = .ok (.istore_n 2, 1) := dk_61 (dk_at dksX8_entersPlaces_0 16 rfl rfl)
theorem dX8_entersPlaces_17 : decode cX8_entersPlaces 17 = .ok (.iload_n 2, 1) := dk_28 (dk_at dksX8_entersPlaces_0 17 rfl rfl)
theorem dX8_entersPlaces_18 : decode cX8_entersPlaces 18 = .ok (.aload_n 0, 1) := dk_42 (dk_at dksX8_entersPlaces_0 18 rfl rfl)
theorem dX8_entersPlaces_19 : decode cX8_entersPlaces 19 = .ok (.getfield 84, 3) := dk_180 0 84 (dk_at dksX8_entersPlaces_0 19 rfl rfl)
theorem dX8_entersPlaces_22 : decode cX8_entersPlaces 22 = .ok (.if_icmp .ge 24, 3) := dk_162 0 24 (dk_at dksX8_entersPlaces_1 0 rfl rfl)
theorem dX8_entersPlaces_25 : decode cX8_entersPlaces 25 = .ok (.aload_n 0, 1) := dk_42 (dk_at dksX8_entersPlaces_1 3 rfl rfl)
theorem dX8_entersPlaces_26 : decode cX8_entersPlaces 26 = .ok (.iload_n 2, 1) := dk_28 (dk_at dksX8_entersPlaces_1 4 rfl rfl)
theorem dX8_entersPlaces_27 : decode cX8_entersPlaces 27 = .ok (.invokevirtual 177, 3) := dk_182 0 177 (dk_at dksX8_entersPlaces_1 5 rfl rfl)
theorem dX8_entersPlaces_30 : decode cX8_entersPlaces 30 = .ok (.iload_n 1, 1) := dk_27 (dk_at dksX8_entersPlaces_1 8 rfl rfl)
theorem dX8_entersPlaces_31 : decode cX8_entersPlaces 31 = .ok (.if_icmp .ne 9, 3) := dk_160 0 9 (dk_at dksX8_entersPlaces_1 9 rfl rfl)
theorem dX8_entersPlaces_34 : decode cX8_entersPlaces 34 = .ok (.aload_n 0, 1) := dk_42 (dk_at dksX8_entersPlaces_1 12 rfl rfl)
theorem dX8_entersPlaces_35 : decode cX8_entersPlaces 35 = .ok (.iload_n 2, 1) := dk_28 (dk_at dksX8_entersPlaces_1 13 rfl rfl)
theorem dX8_entersPlaces_36 : decode cX8_entersPlaces 36 = .ok (.i2l, 1) := dk_133 (dk_at dksX8_entersPlaces_1 14 rfl rfl)
theorem dX8_entersPlaces_37 : decode cX8_entersPlaces 37 = .ok (.invokevirtual 180, 3) := dk_182 0 180 (dk_at dksX8_entersPlaces_1 15 rfl rfl)
theorem dX8_entersPlaces_40 : decode cX8_entersPlaces 40 = .ok (.iinc 2 1, 3) := dk_132 2 1 (dk_at dksX8_entersPlaces_1 18 rfl rfl)
theorem dX8_entersPlaces_43 : decode cX8_entersPlaces 43 = .ok (.goto (-26), 3) := dk_167 255 230 (dk_at dksX8_entersPlaces_1 21 rfl rfl)
theorem dX8_entersPlaces_46 : decode cX8_entersPlaces 46 = .ok (.iinc 1 1, 3) := dk_132 1 1 (dk_at dksX8_entersPlaces_2 0 rfl rfl)
theorem dX8_entersPlaces_49 : decode cX8_entersPlaces 49 = .ok (.goto (-42), 3) := dk_167 255 214 (dk_at dksX8_entersPlaces_2 3 rfl rfl)
theorem dX8_entersPlaces_52 : decode cX8_entersPlaces 52 = .ok (.return_, 1) := dk_177 (dk_at dksX8_entersPlaces_2 6 rfl rfl)
abbrev cX8_aheadOf : ByteArray := prog_21_method_30_code
def yX8_aheadOf : MethodName := ⟨RX8, "aheadOf", "(I)I"⟩
def dkwX8_aheadOf_1 : List UInt8 := [153, 0, 7, 4, 167, 0, 4, 3, 184, 0, 160, 96, 61, 132, 3, 1, 167, 255, 220, 28, 172]
abbrev dktX8_aheadOf_1 : List UInt8 := dkwX8_aheadOf_1 ++ []
def dkwX8_aheadOf_0 : List UInt8 := [3, 61, 3, 62, 29, 42, 180, 0, 84, 162, 0, 34, 28, 29, 27, 159, 0, 16, 42, 29, 27, 182, 0, 174]
abbrev dktX8_aheadOf_0 : List UInt8 := dkwX8_aheadOf_0 ++ dktX8_aheadOf_1
theorem dksX8_aheadOf_0 : cX8_aheadOf.data.toList.drop 0 = dktX8_aheadOf_0 := by decide +kernel
theorem dksX8_aheadOf_1 : cX8_aheadOf.data.toList.drop 24 = dktX8_aheadOf_1 := dk_seg dksX8_aheadOf_0 24 rfl rfl
theorem dX8_aheadOf_0 : decode cX8_aheadOf 0 = .ok (.iconst 0, 1) := dk_3 (dk_at dksX8_aheadOf_0 0 rfl rfl)
theorem dX8_aheadOf_1 : decode cX8_aheadOf 1 = .ok (.istore_n 2, 1) := dk_61 (dk_at dksX8_aheadOf_0 1 rfl rfl)
theorem dX8_aheadOf_2 : decode cX8_aheadOf 2 = .ok (.iconst 0, 1) := dk_3 (dk_at dksX8_aheadOf_0 2 rfl rfl)
theorem dX8_aheadOf_3 : decode cX8_aheadOf 3 = .ok (.istore_n 3, 1) := dk_62 (dk_at dksX8_aheadOf_0 3 rfl rfl)
theorem dX8_aheadOf_4 : decode cX8_aheadOf 4 = .ok (.iload_n 3, 1) := dk_29 (dk_at dksX8_aheadOf_0 4 rfl rfl)
theorem dX8_aheadOf_5 : decode cX8_aheadOf 5 = .ok (.aload_n 0, 1) := dk_42 (dk_at dksX8_aheadOf_0 5 rfl rfl)
theorem dX8_aheadOf_6 : decode cX8_aheadOf 6 = .ok (.getfield 84, 3) := dk_180 0 84 (dk_at dksX8_aheadOf_0 6 rfl rfl)
theorem dX8_aheadOf_9 : decode cX8_aheadOf 9 = .ok (.if_icmp .ge 34, 3) := dk_162 0 34 (dk_at dksX8_aheadOf_0 9 rfl rfl)
theorem dX8_aheadOf_12 : decode cX8_aheadOf 12 = .ok (.iload_n 2, 1) := dk_28 (dk_at dksX8_aheadOf_0 12 rfl rfl)
theorem dX8_aheadOf_13 : decode cX8_aheadOf 13 = .ok (.iload_n 3, 1) := dk_29 (dk_at dksX8_aheadOf_0 13 rfl rfl)
theorem dX8_aheadOf_14 : decode cX8_aheadOf 14 = .ok (.iload_n 1, 1) := dk_27 (dk_at dksX8_aheadOf_0 14 rfl rfl)
theorem dX8_aheadOf_15 : decode cX8_aheadOf 15 = .ok (.if_icmp .eq 16, 3) := dk_159 0 16 (dk_at dksX8_aheadOf_0 15 rfl rfl)
theorem dX8_aheadOf_18 : decode cX8_aheadOf 18 = .ok (.aload_n 0, 1) := dk_42 (dk_at dksX8_aheadOf_0 18 rfl rfl)
theorem dX8_aheadOf_19 : decode cX8_aheadOf 19 = .ok (.iload_n 3, 1) := dk_29 (dk_at dksX8_aheadOf_0 19 rfl rfl)
theorem dX8_aheadOf_20 : decode cX8_aheadOf 20 = .ok (.iload_n 1, 1) := dk_27 (dk_at dksX8_aheadOf_0 20 rfl rfl)
theorem dX8_aheadOf_21 : decode cX8_aheadOf 21 = .ok (.invokevirtual 174, 3) := dk_182 0 174 (dk_at dksX8_aheadOf_0 21 rfl rfl)
theorem dX8_aheadOf_24 : decode cX8_aheadOf 24 = .ok (.ifCond .eq 7, 3) := dk_153 0 7 (dk_at dksX8_aheadOf_1 0 rfl rfl)
theorem dX8_aheadOf_27 : decode cX8_aheadOf 27 = .ok (.iconst 1, 1) := dk_4 (dk_at dksX8_aheadOf_1 3 rfl rfl)
theorem dX8_aheadOf_28 : decode cX8_aheadOf 28 = .ok (.goto 4, 3) := dk_167 0 4 (dk_at dksX8_aheadOf_1 4 rfl rfl)
theorem dX8_aheadOf_31 : decode cX8_aheadOf 31 = .ok (.iconst 0, 1) := dk_3 (dk_at dksX8_aheadOf_1 7 rfl rfl)
theorem dX8_aheadOf_32 : decode cX8_aheadOf 32 = .ok (.invokestatic 160, 3) := dk_184 0 160 (dk_at dksX8_aheadOf_1 8 rfl rfl)
theorem dX8_aheadOf_35 : decode cX8_aheadOf 35 = .ok (.iadd, 1) := dk_96 (dk_at dksX8_aheadOf_1 11 rfl rfl)
theorem dX8_aheadOf_36 : decode cX8_aheadOf 36 = .ok (.istore_n 2, 1) := dk_61 (dk_at dksX8_aheadOf_1 12 rfl rfl)
theorem dX8_aheadOf_37 : decode cX8_aheadOf 37 = .ok (.iinc 3 1, 3) := dk_132 3 1 (dk_at dksX8_aheadOf_1 13 rfl rfl)
theorem dX8_aheadOf_40 : decode cX8_aheadOf 40 = .ok (.goto (-36), 3) := dk_167 255 220 (dk_at dksX8_aheadOf_1 16 rfl rfl)
theorem dX8_aheadOf_43 : decode cX8_aheadOf 43 = .ok (.iload_n 2, 1) := dk_28 (dk_at dksX8_aheadOf_1 19 rfl rfl)
theorem dX8_aheadOf_44 : decode cX8_aheadOf 44 = .ok (.ireturn, 1) := dk_172 (dk_at dksX8_aheadOf_1 20 rfl rfl)
abbrev cX8_isAhead : ByteArray := prog_21_method_29_code
def yX8_isAhead : MethodName := ⟨RX8, "isAhead", "(II)Z"⟩
def dkwX8_isAhead_2 : List UInt8 := [182, 0, 171, 153, 0, 7, 4, 167, 0, 4, 3, 172]
abbrev dktX8_isAhead_2 : List UInt8 := dkwX8_isAhead_2 ++ []
def dkwX8_isAhead_1 : List UInt8 := [42, 28, 182, 0, 167, 163, 0, 25, 42, 27, 182, 0, 167, 42, 28, 182, 0, 167, 160, 0, 16, 42, 27, 28]
abbrev dktX8_isAhead_1 : List UInt8 := dkwX8_isAhead_1 ++ dktX8_isAhead_2
def dkwX8_isAhead_0 : List UInt8 := [42, 27, 182, 0, 121, 42, 28, 182, 0, 121, 159, 0, 9, 42, 28, 182, 0, 121, 172, 42, 27, 182, 0, 167]
abbrev dktX8_isAhead_0 : List UInt8 := dkwX8_isAhead_0 ++ dktX8_isAhead_1
theorem dksX8_isAhead_0 : cX8_isAhead.data.toList.drop 0 = dktX8_isAhead_0 := by decide +kernel
theorem dksX8_isAhead_1 : cX8_isAhead.data.toList.drop 24 = dktX8_isAhead_1 := dk_seg dksX8_isAhead_0 24 rfl rfl
theorem dksX8_isAhead_2 : cX8_isAhead.data.toList.drop 48 = dktX8_isAhead_2 := dk_seg dksX8_isAhead_1 24 rfl rfl
theorem dX8_isAhead_0 : decode cX8_isAhead 0 = .ok (.aload_n 0, 1) := dk_42 (dk_at dksX8_isAhead_0 0 rfl rfl)
theorem dX8_isAhead_1 : decode cX8_isAhead 1 = .ok (.iload_n 1, 1) := dk_27 (dk_at dksX8_isAhead_0 1 rfl rfl)
theorem dX8_isAhead_2 : decode cX8_isAhead 2 = .ok (.invokevirtual 121, 3) := dk_182 0 121 (dk_at dksX8_isAhead_0 2 rfl rfl)
theorem dX8_isAhead_5 : decode cX8_isAhead 5 = .ok (.aload_n 0, 1) := dk_42 (dk_at dksX8_isAhead_0 5 rfl rfl)
theorem dX8_isAhead_6 : decode cX8_isAhead 6 = .ok (.iload_n 2, 1) := dk_28 (dk_at dksX8_isAhead_0 6 rfl rfl)
theorem dX8_isAhead_7 : decode cX8_isAhead 7 = .ok (.invokevirtual 121, 3) := dk_182 0 121 (dk_at dksX8_isAhead_0 7 rfl rfl)
theorem dX8_isAhead_10 : decode cX8_isAhead 10 = .ok (.if_icmp .eq 9, 3) := dk_159 0 9 (dk_at dksX8_isAhead_0 10 rfl rfl)
theorem dX8_isAhead_13 : decode cX8_isAhead 13 = .ok (.aload_n 0, 1) := dk_42 (dk_at dksX8_isAhead_0 13 rfl rfl)
theorem dX8_isAhead_14 : decode cX8_isAhead 14 = .ok (.iload_n 2, 1) := dk_28 (dk_at dksX8_isAhead_0 14 rfl rfl)
theorem dX8_isAhead_15 : decode cX8_isAhead 15 = .ok (.invokevirtual 121, 3) := dk_182 0 121 (dk_at dksX8_isAhead_0 15 rfl rfl)
theorem dX8_isAhead_18 : decode cX8_isAhead 18 = .ok (.ireturn, 1) := dk_172 (dk_at dksX8_isAhead_0 18 rfl rfl)
theorem dX8_isAhead_19 : decode cX8_isAhead 19 = .ok (.aload_n 0, 1) := dk_42 (dk_at dksX8_isAhead_0 19 rfl rfl)
theorem dX8_isAhead_20 : decode cX8_isAhead 20 = .ok (.iload_n 1, 1) := dk_27 (dk_at dksX8_isAhead_0 20 rfl rfl)
theorem dX8_isAhead_21 : decode cX8_isAhead 21 = .ok (.invokevirtual 167, 3) := dk_182 0 167 (dk_at dksX8_isAhead_0 21 rfl rfl)
theorem dX8_isAhead_24 : decode cX8_isAhead 24 = .ok (.aload_n 0, 1) := dk_42 (dk_at dksX8_isAhead_1 0 rfl rfl)
theorem dX8_isAhead_25 : decode cX8_isAhead 25 = .ok (.iload_n 2, 1) := dk_28 (dk_at dksX8_isAhead_1 1 rfl rfl)
theorem dX8_isAhead_26 : decode cX8_isAhead 26 = .ok (.invokevirtual 167, 3) := dk_182 0 167 (dk_at dksX8_isAhead_1 2 rfl rfl)
theorem dX8_isAhead_29 : decode cX8_isAhead 29 = .ok (.if_icmp .gt 25, 3) := dk_163 0 25 (dk_at dksX8_isAhead_1 5 rfl rfl)
theorem dX8_isAhead_32 : decode cX8_isAhead 32 = .ok (.aload_n 0, 1) := dk_42 (dk_at dksX8_isAhead_1 8 rfl rfl)
theorem dX8_isAhead_33 : decode cX8_isAhead 33 = .ok (.iload_n 1, 1) := dk_27 (dk_at dksX8_isAhead_1 9 rfl rfl)
theorem dX8_isAhead_34 : decode cX8_isAhead 34 = .ok (.invokevirtual 167, 3) := dk_182 0 167 (dk_at dksX8_isAhead_1 10 rfl rfl)
theorem dX8_isAhead_37 : decode cX8_isAhead 37 = .ok (.aload_n 0, 1) := dk_42 (dk_at dksX8_isAhead_1 13 rfl rfl)
theorem dX8_isAhead_38 : decode cX8_isAhead 38 = .ok (.iload_n 2, 1) := dk_28 (dk_at dksX8_isAhead_1 14 rfl rfl)
theorem dX8_isAhead_39 : decode cX8_isAhead 39 = .ok (.invokevirtual 167, 3) := dk_182 0 167 (dk_at dksX8_isAhead_1 15 rfl rfl)
theorem dX8_isAhead_42 : decode cX8_isAhead 42 = .ok (.if_icmp .ne 16, 3) := dk_160 0 16 (dk_at dksX8_isAhead_1 18 rfl rfl)
theorem dX8_isAhead_45 : decode cX8_isAhead 45 = .ok (.aload_n 0, 1) := dk_42 (dk_at dksX8_isAhead_1 21 rfl rfl)
theorem dX8_isAhead_46 : decode cX8_isAhead 46 = .ok (.iload_n 1, 1) := dk_27 (dk_at dksX8_isAhead_1 22 rfl rfl)
theorem dX8_isAhead_47 : decode cX8_isAhead 47 = .ok (.iload_n 2, 1) := dk_28 (dk_at dksX8_isAhead_1 23 rfl rfl)
theorem dX8_isAhead_48 : decode cX8_isAhead 48 = .ok (.invokevirtual 171, 3) := dk_182 0 171 (dk_at dksX8_isAhead_2 0 rfl rfl)
theorem dX8_isAhead_51 : decode cX8_isAhead 51 = .ok (.ifCond .eq 7, 3) := dk_153 0 7 (dk_at dksX8_isAhead_2 3 rfl rfl)
theorem dX8_isAhead_54 : decode cX8_isAhead 54 = .ok (.iconst 1, 1) := dk_4 (dk_at dksX8_isAhead_2 6 rfl rfl)
theorem dX8_isAhead_55 : decode cX8_isAhead 55 = .ok (.goto 4, 3) := dk_167 0 4 (dk_at dksX8_isAhead_2 7 rfl rfl)
theorem dX8_isAhead_58 : decode cX8_isAhead 58 = .ok (.iconst 0, 1) := dk_3 (dk_at dksX8_isAhead_2 10 rfl rfl)
theorem dX8_isAhead_59 : decode cX8_isAhead 59 = .ok (.ireturn, 1) := dk_172 (dk_at dksX8_isAhead_2 11 rfl rfl)
abbrev cX8_isLighter : ByteArray := prog_21_method_28_code
def yX8_isLighter : MethodName := ⟨RX8, "isLighter", "(II)Z"⟩
def dkwX8_isLighter_2 : List UInt8 := [167, 0, 4, 3, 172]
abbrev dktX8_isLighter_2 : List UInt8 := dkwX8_isLighter_2 ++ []
def dkwX8_isLighter_1 : List UInt8 := [180, 0, 13, 28, 46, 160, 0, 22, 42, 180, 0, 17, 27, 46, 42, 180, 0, 17, 28, 46, 162, 0, 7, 4]
abbrev dktX8_isLighter_1 : List UInt8 := dkwX8_isLighter_1 ++ dktX8_isLighter_2
def dkwX8_isLighter_0 : List UInt8 := [42, 180, 0, 13, 27, 46, 42, 180, 0, 13, 28, 46, 161, 0, 33, 42, 180, 0, 13, 27, 46, 42]
abbrev dktX8_isLighter_0 : List UInt8 := dkwX8_isLighter_0 ++ dktX8_isLighter_1
theorem dksX8_isLighter_0 : cX8_isLighter.data.toList.drop 0 = dktX8_isLighter_0 := by decide +kernel
theorem dksX8_isLighter_1 : cX8_isLighter.data.toList.drop 22 = dktX8_isLighter_1 := dk_seg dksX8_isLighter_0 22 rfl rfl
theorem dksX8_isLighter_2 : cX8_isLighter.data.toList.drop 46 = dktX8_isLighter_2 := dk_seg dksX8_isLighter_1 24 rfl rfl
theorem dX8_isLighter_0 : decode cX8_isLighter 0 = .ok (.aload_n 0, 1) := dk_42 (dk_at dksX8_isLighter_0 0 rfl rfl)
theorem dX8_isLighter_1 : decode cX8_isLighter 1 = .ok (.getfield 13, 3) := dk_180 0 13 (dk_at dksX8_isLighter_0 1 rfl rfl)
theorem dX8_isLighter_4 : decode cX8_isLighter 4 = .ok (.iload_n 1, 1) := dk_27 (dk_at dksX8_isLighter_0 4 rfl rfl)
theorem dX8_isLighter_5 : decode cX8_isLighter 5 = .ok (.iaload, 1) := dk_46 (dk_at dksX8_isLighter_0 5 rfl rfl)
theorem dX8_isLighter_6 : decode cX8_isLighter 6 = .ok (.aload_n 0, 1) := dk_42 (dk_at dksX8_isLighter_0 6 rfl rfl)
theorem dX8_isLighter_7 : decode cX8_isLighter 7 = .ok (.getfield 13, 3) := dk_180 0 13 (dk_at dksX8_isLighter_0 7 rfl rfl)
theorem dX8_isLighter_10 : decode cX8_isLighter 10 = .ok (.iload_n 2, 1) := dk_28 (dk_at dksX8_isLighter_0 10 rfl rfl)
theorem dX8_isLighter_11 : decode cX8_isLighter 11 = .ok (.iaload, 1) := dk_46 (dk_at dksX8_isLighter_0 11 rfl rfl)
theorem dX8_isLighter_12 : decode cX8_isLighter 12 = .ok (.if_icmp .lt 33, 3) := dk_161 0 33 (dk_at dksX8_isLighter_0 12 rfl rfl)
theorem dX8_isLighter_15 : decode cX8_isLighter 15 = .ok (.aload_n 0, 1) := dk_42 (dk_at dksX8_isLighter_0 15 rfl rfl)
theorem dX8_isLighter_16 : decode cX8_isLighter 16 = .ok (.getfield 13, 3) := dk_180 0 13 (dk_at dksX8_isLighter_0 16 rfl rfl)
theorem dX8_isLighter_19 : decode cX8_isLighter 19 = .ok (.iload_n 1, 1) := dk_27 (dk_at dksX8_isLighter_0 19 rfl rfl)
theorem dX8_isLighter_20 : decode cX8_isLighter 20 = .ok (.iaload, 1) := dk_46 (dk_at dksX8_isLighter_0 20 rfl rfl)
theorem dX8_isLighter_21 : decode cX8_isLighter 21 = .ok (.aload_n 0, 1) := dk_42 (dk_at dksX8_isLighter_0 21 rfl rfl)
theorem dX8_isLighter_22 : decode cX8_isLighter 22 = .ok (.getfield 13, 3) := dk_180 0 13 (dk_at dksX8_isLighter_1 0 rfl rfl)
theorem dX8_isLighter_25 : decode cX8_isLighter 25 = .ok (.iload_n 2, 1) := dk_28 (dk_at dksX8_isLighter_1 3 rfl rfl)
theorem dX8_isLighter_26 : decode cX8_isLighter 26 = .ok (.iaload, 1) := dk_46 (dk_at dksX8_isLighter_1 4 rfl rfl)
theorem dX8_isLighter_27 : decode cX8_isLighter 27 = .ok (.if_icmp .ne 22, 3) := dk_160 0 22 (dk_at dksX8_isLighter_1 5 rfl rfl)
theorem dX8_isLighter_30 : decode cX8_isLighter 30 = .ok (.aload_n 0, 1) := dk_42 (dk_at dksX8_isLighter_1 8 rfl rfl)
theorem dX8_isLighter_31 : decode cX8_isLighter 31 = .ok (.getfield 17, 3) := dk_180 0 17 (dk_at dksX8_isLighter_1 9 rfl rfl)
theorem dX8_isLighter_34 : decode cX8_isLighter 34 = .ok (.iload_n 1, 1) := dk_27 (dk_at dksX8_isLighter_1 12 rfl rfl)
theorem dX8_isLighter_35 : decode cX8_isLighter 35 = .ok (.iaload, 1) := dk_46 (dk_at dksX8_isLighter_1 13 rfl rfl)
theorem dX8_isLighter_36 : decode cX8_isLighter 36 = .ok (.aload_n 0, 1) := dk_42 (dk_at dksX8_isLighter_1 14 rfl rfl)
theorem dX8_isLighter_37 : decode cX8_isLighter 37 = .ok (.getfield 17, 3) := dk_180 0 17 (dk_at dksX8_isLighter_1 15 rfl rfl)
theorem dX8_isLighter_40 : decode cX8_isLighter 40 = .ok (.iload_n 2, 1) := dk_28 (dk_at dksX8_isLighter_1 18 rfl rfl)
theorem dX8_isLighter_41 : decode cX8_isLighter 41 = .ok (.iaload, 1) := dk_46 (dk_at dksX8_isLighter_1 19 rfl rfl)
theorem dX8_isLighter_42 : decode cX8_isLighter 42 = .ok (.if_icmp .ge 7, 3) := dk_162 0 7 (dk_at dksX8_isLighter_1 20 rfl rfl)
theorem dX8_isLighter_45 : decode cX8_isLighter 45 = .ok (.iconst 1, 1) := dk_4 (dk_at dksX8_isLighter_1 23 rfl rfl)
theorem dX8_isLighter_46 : decode cX8_isLighter 46 = .ok (.goto 4, 3) := dk_167 0 4 (dk_at dksX8_isLighter_2 0 rfl rfl)
theorem dX8_isLighter_49 : decode cX8_isLighter 49 = .ok (.iconst 0, 1) := dk_3 (dk_at dksX8_isLighter_2 3 rfl rfl)
theorem dX8_isLighter_50 : decode cX8_isLighter 50 = .ok (.ireturn, 1) := dk_172 (dk_at dksX8_isLighter_2 4 rfl rfl)
abbrev cX8_slot : ByteArray := prog_21_method_56_code
def yX8_slot : MethodName := ⟨RX8, "slot", "(II)I"⟩
def dkwX8_slot_4 : List UInt8 := [172]
abbrev dktX8_slot_4 : List UInt8 := dkwX8_slot_4 ++ []
def dkwX8_slot_3 : List UInt8 := [21, 5, 167, 0, 5, 21, 4, 54, 4, 132, 5, 255, 167, 255, 217, 42, 27, 3, 29, 182, 0, 109, 21, 4]
abbrev dktX8_slot_3 : List UInt8 := dkwX8_slot_3 ++ dktX8_slot_4
def dkwX8_slot_2 : List UInt8 := [27, 182, 0, 249, 161, 0, 35, 42, 27, 3, 21, 5, 182, 0, 109, 42, 27, 182, 0, 252, 28, 160, 0, 8]
abbrev dktX8_slot_2 : List UInt8 := dkwX8_slot_2 ++ dktX8_slot_3
def dkwX8_slot_1 : List UInt8 := [154, 0, 6, 16, 254, 172, 42, 27, 3, 182, 0, 106, 62, 16, 253, 54, 4, 16, 40, 54, 5, 21, 5, 42]
abbrev dktX8_slot_1 : List UInt8 := dkwX8_slot_1 ++ dktX8_slot_2
def dkwX8_slot_0 : List UInt8 := [42, 3, 181, 0, 77, 42, 27, 182, 0, 233, 153, 0, 7, 28, 156, 0, 5, 2, 172, 42, 27, 182, 0, 140]
abbrev dktX8_slot_0 : List UInt8 := dkwX8_slot_0 ++ dktX8_slot_1
theorem dksX8_slot_0 : cX8_slot.data.toList.drop 0 = dktX8_slot_0 := by decide +kernel
theorem dksX8_slot_1 : cX8_slot.data.toList.drop 24 = dktX8_slot_1 := dk_seg dksX8_slot_0 24 rfl rfl
theorem dksX8_slot_2 : cX8_slot.data.toList.drop 48 = dktX8_slot_2 := dk_seg dksX8_slot_1 24 rfl rfl
theorem dksX8_slot_3 : cX8_slot.data.toList.drop 72 = dktX8_slot_3 := dk_seg dksX8_slot_2 24 rfl rfl
theorem dksX8_slot_4 : cX8_slot.data.toList.drop 96 = dktX8_slot_4 := dk_seg dksX8_slot_3 24 rfl rfl
theorem dX8_slot_0 : decode cX8_slot 0 = .ok (.aload_n 0, 1) := dk_42 (dk_at dksX8_slot_0 0 rfl rfl)
theorem dX8_slot_1 : decode cX8_slot 1 = .ok (.iconst 0, 1) := dk_3 (dk_at dksX8_slot_0 1 rfl rfl)
theorem dX8_slot_2 : decode cX8_slot 2 = .ok (.putfield 77, 3) := dk_181 0 77 (dk_at dksX8_slot_0 2 rfl rfl)
theorem dX8_slot_5 : decode cX8_slot 5 = .ok (.aload_n 0, 1) := dk_42 (dk_at dksX8_slot_0 5 rfl rfl)
theorem dX8_slot_6 : decode cX8_slot 6 = .ok (.iload_n 1, 1) := dk_27 (dk_at dksX8_slot_0 6 rfl rfl)
theorem dX8_slot_7 : decode cX8_slot 7 = .ok (.invokevirtual 233, 3) := dk_182 0 233 (dk_at dksX8_slot_0 7 rfl rfl)
theorem dX8_slot_10 : decode cX8_slot 10 = .ok (.ifCond .eq 7, 3) := dk_153 0 7 (dk_at dksX8_slot_0 10 rfl rfl)
theorem dX8_slot_13 : decode cX8_slot 13 = .ok (.iload_n 2, 1) := dk_28 (dk_at dksX8_slot_0 13 rfl rfl)
theorem dX8_slot_14 : decode cX8_slot 14 = .ok (.ifCond .ge 5, 3) := dk_156 0 5 (dk_at dksX8_slot_0 14 rfl rfl)
theorem dX8_slot_17 : decode cX8_slot 17 = .ok (.iconst (-1), 1) := dk_2 (dk_at dksX8_slot_0 17 rfl rfl)
theorem dX8_slot_18 : decode cX8_slot 18 = .ok (.ireturn, 1) := dk_172 (dk_at dksX8_slot_0 18 rfl rfl)
theorem dX8_slot_19 : decode cX8_slot 19 = .ok (.aload_n 0, 1) := dk_42 (dk_at dksX8_slot_0 19 rfl rfl)
theorem dX8_slot_20 : decode cX8_slot 20 = .ok (.iload_n 1, 1) := dk_27 (dk_at dksX8_slot_0 20 rfl rfl)
theorem dX8_slot_21 : decode cX8_slot 21 = .ok (.invokevirtual 140, 3) := dk_182 0 140 (dk_at dksX8_slot_0 21 rfl rfl)
theorem dX8_slot_24 : decode cX8_slot 24 = .ok (.ifCond .ne 6, 3) := dk_154 0 6 (dk_at dksX8_slot_1 0 rfl rfl)
theorem dX8_slot_27 : decode cX8_slot 27 = .ok (.bipush (-2), 2) := dk_16 254 (dk_at dksX8_slot_1 3 rfl rfl)
theorem dX8_slot_29 : decode cX8_slot 29 = .ok (.ireturn, 1) := dk_172 (dk_at dksX8_slot_1 5 rfl rfl)
theorem dX8_slot_30 : decode cX8_slot 30 = .ok (.aload_n 0, 1) := dk_42 (dk_at dksX8_slot_1 6 rfl rfl)
theorem dX8_slot_31 : decode cX8_slot 31 = .ok (.iload_n 1, 1) := dk_27 (dk_at dksX8_slot_1 7 rfl rfl)
theorem dX8_slot_32 : decode cX8_slot 32 = .ok (.iconst 0, 1) := dk_3 (dk_at dksX8_slot_1 8 rfl rfl)
theorem dX8_slot_33 : decode cX8_slot 33 = .ok (.invokevirtual 106, 3) := dk_182 0 106 (dk_at dksX8_slot_1 9 rfl rfl)
theorem dX8_slot_36 : decode cX8_slot 36 = .ok (.istore_n 3, 1) := dk_62 (dk_at dksX8_slot_1 12 rfl rfl)
theorem dX8_slot_37 : decode cX8_slot 37 = .ok (.bipush (-3), 2) := dk_16 253 (dk_at dksX8_slot_1 13 rfl rfl)
theorem dX8_slot_39 : decode cX8_slot 39 = .ok (.istore 4, 2) := dk_54 4 (dk_at dksX8_slot_1 15 rfl rfl)
theorem dX8_slot_41 : decode cX8_slot 41 = .ok (.bipush 40, 2) := dk_16 40 (dk_at dksX8_slot_1 17 rfl rfl)
theorem dX8_slot_43 : decode cX8_slot 43 = .ok (.istore 5, 2) := dk_54 5 (dk_at dksX8_slot_1 19 rfl rfl)
theorem dX8_slot_45 : decode cX8_slot 45 = .ok (.iload 5, 2) := dk_21 5 (dk_at dksX8_slot_1 21 rfl rfl)
theorem dX8_slot_47 : decode cX8_slot 47 = .ok (.aload_n 0, 1) := dk_42 (dk_at dksX8_slot_1 23 rfl rfl)
theorem dX8_slot_48 : decode cX8_slot 48 = .ok (.iload_n 1, 1) := dk_27 (dk_at dksX8_slot_2 0 rfl rfl)
theorem dX8_slot_49 : decode cX8_slot 49 = .ok (.invokevirtual 249, 3) := dk_182 0 249 (dk_at dksX8_slot_2 1 rfl rfl)
theorem dX8_slot_52 : decode cX8_slot 52 = .ok (.if_icmp .lt 35, 3) := dk_161 0 35 (dk_at dksX8_slot_2 4 rfl rfl)
theorem dX8_slot_55 : decode cX8_slot 55 = .ok (.aload_n 0, 1) := dk_42 (dk_at dksX8_slot_2 7 rfl rfl)
theorem dX8_slot_56 : decode cX8_slot 56 = .ok (.iload_n 1, 1) := dk_27 (dk_at dksX8_slot_2 8 rfl rfl)
theorem dX8_slot_57 : decode cX8_slot 57 = .ok (.iconst 0, 1) := dk_3 (dk_at dksX8_slot_2 9 rfl rfl)
theorem dX8_slot_58 : decode cX8_slot 58 = .ok (.iload 5, 2) := dk_21 5 (dk_at dksX8_slot_2 10 rfl rfl)
theorem dX8_slot_60 : decode cX8_slot 60 = .ok (.invokevirtual 109, 3) := dk_182 0 109 (dk_at dksX8_slot_2 12 rfl rfl)
theorem dX8_slot_63 : decode cX8_slot 63 = .ok (.aload_n 0, 1) := dk_42 (dk_at dksX8_slot_2 15 rfl rfl)
theorem dX8_slot_64 : decode cX8_slot 64 = .ok (.iload_n 1, 1) := dk_27 (dk_at dksX8_slot_2 16 rfl rfl)
theorem dX8_slot_65 : decode cX8_slot 65 = .ok (.invokevirtual 252, 3) := dk_182 0 252 (dk_at dksX8_slot_2 17 rfl rfl)
theorem dX8_slot_68 : decode cX8_slot 68 = .ok (.iload_n 2, 1) := dk_28 (dk_at dksX8_slot_2 20 rfl rfl)
theorem dX8_slot_69 : decode cX8_slot 69 = .ok (.if_icmp .ne 8, 3) := dk_160 0 8 (dk_at dksX8_slot_2 21 rfl rfl)
theorem dX8_slot_72 : decode cX8_slot 72 = .ok (.iload 5, 2) := dk_21 5 (dk_at dksX8_slot_3 0 rfl rfl)
theorem dX8_slot_74 : decode cX8_slot 74 = .ok (.goto 5, 3) := dk_167 0 5 (dk_at dksX8_slot_3 2 rfl rfl)
theorem dX8_slot_77 : decode cX8_slot 77 = .ok (.iload 4, 2) := dk_21 4 (dk_at dksX8_slot_3 5 rfl rfl)
theorem dX8_slot_79 : decode cX8_slot 79 = .ok (.istore 4, 2) := dk_54 4 (dk_at dksX8_slot_3 7 rfl rfl)
theorem dX8_slot_81 : decode cX8_slot 81 = .ok (.iinc 5 (-1), 3) := dk_132 5 255 (dk_at dksX8_slot_3 9 rfl rfl)
theorem dX8_slot_84 : decode cX8_slot 84 = .ok (.goto (-39), 3) := dk_167 255 217 (dk_at dksX8_slot_3 12 rfl rfl)
theorem dX8_slot_87 : decode cX8_slot 87 = .ok (.aload_n 0, 1) := dk_42 (dk_at dksX8_slot_3 15 rfl rfl)
theorem dX8_slot_88 : decode cX8_slot 88 = .ok (.iload_n 1, 1) := dk_27 (dk_at dksX8_slot_3 16 rfl rfl)
theorem dX8_slot_89 : decode cX8_slot 89 = .ok (.iconst 0, 1) := dk_3 (dk_at dksX8_slot_3 17 rfl rfl)
theorem dX8_slot_90 : decode cX8_slot 90 = .ok (.iload_n 3, 1) := dk_29 (dk_at dksX8_slot_3 18 rfl rfl)
theorem dX8_slot_91 : decode cX8_slot 91 = .ok (.invokevirtual 109, 3) := dk_182 0 109 (dk_at dksX8_slot_3 19 rfl rfl)
theorem dX8_slot_94 : decode cX8_slot 94 = .ok (.iload 4, 2) := dk_21 4 (dk_at dksX8_slot_3 22 rfl rfl)
theorem dX8_slot_96 : decode cX8_slot 96 = .ok (.ireturn, 1) := dk_172 (dk_at dksX8_slot_4 0 rfl rfl)
abbrev cX8_needs : ByteArray := prog_21_method_57_code
def yX8_needs : MethodName := ⟨RX8, "needs", "(II)I"⟩
def dkwX8_needs_5 : List UInt8 := [132, 6, 255, 167, 255, 212, 42, 27, 29, 21, 4, 182, 0, 109, 21, 5, 172]
abbrev dktX8_needs_5 : List UInt8 := dkwX8_needs_5 ++ []
def dkwX8_needs_4 : List UInt8 := [184, 0, 100, 182, 0, 109, 42, 27, 28, 182, 0, 174, 153, 0, 8, 21, 6, 167, 0, 5, 21, 5, 54, 5]
abbrev dktX8_needs_4 : List UInt8 := dkwX8_needs_4 ++ dktX8_needs_5
def dkwX8_needs_3 : List UInt8 := [54, 5, 16, 40, 54, 6, 21, 6, 42, 27, 182, 0, 249, 161, 0, 40, 42, 27, 29, 21, 4, 21, 6]
abbrev dktX8_needs_3 : List UInt8 := dkwX8_needs_3 ++ dktX8_needs_4
def dkwX8_needs_2 : List UInt8 := [16, 254, 172, 16, 7, 42, 180, 0, 32, 3, 46, 96, 62, 42, 27, 29, 182, 0, 106, 54, 4, 16, 253]
abbrev dktX8_needs_2 : List UInt8 := dkwX8_needs_2 ++ dktX8_needs_3
def dkwX8_needs_1 : List UInt8 := [160, 0, 5, 2, 172, 42, 27, 28, 182, 0, 174, 153, 0, 5, 3, 172, 42, 27, 182, 0, 249, 154, 0, 6]
abbrev dktX8_needs_1 : List UInt8 := dkwX8_needs_1 ++ dktX8_needs_2
def dkwX8_needs_0 : List UInt8 := [42, 3, 181, 0, 77, 42, 27, 182, 0, 233, 153, 0, 16, 42, 28, 182, 0, 233, 153, 0, 8, 27, 28]
abbrev dktX8_needs_0 : List UInt8 := dkwX8_needs_0 ++ dktX8_needs_1
theorem dksX8_needs_0 : cX8_needs.data.toList.drop 0 = dktX8_needs_0 := by decide +kernel
theorem dksX8_needs_1 : cX8_needs.data.toList.drop 23 = dktX8_needs_1 := dk_seg dksX8_needs_0 23 rfl rfl
theorem dksX8_needs_2 : cX8_needs.data.toList.drop 47 = dktX8_needs_2 := dk_seg dksX8_needs_1 24 rfl rfl
theorem dksX8_needs_3 : cX8_needs.data.toList.drop 70 = dktX8_needs_3 := dk_seg dksX8_needs_2 23 rfl rfl
theorem dksX8_needs_4 : cX8_needs.data.toList.drop 93 = dktX8_needs_4 := dk_seg dksX8_needs_3 23 rfl rfl
theorem dksX8_needs_5 : cX8_needs.data.toList.drop 117 = dktX8_needs_5 := dk_seg dksX8_needs_4 24 rfl rfl
theorem dX8_needs_0 : decode cX8_needs 0 = .ok (.aload_n 0, 1) := dk_42 (dk_at dksX8_needs_0 0 rfl rfl)
theorem dX8_needs_1 : decode cX8_needs 1 = .ok (.iconst 0, 1) := dk_3 (dk_at dksX8_needs_0 1 rfl rfl)
theorem dX8_needs_2 : decode cX8_needs 2 = .ok (.putfield 77, 3) := dk_181 0 77 (dk_at dksX8_needs_0 2 rfl rfl)
theorem dX8_needs_5 : decode cX8_needs 5 = .ok (.aload_n 0, 1) := dk_42 (dk_at dksX8_needs_0 5 rfl rfl)
theorem dX8_needs_6 : decode cX8_needs 6 = .ok (.iload_n 1, 1) := dk_27 (dk_at dksX8_needs_0 6 rfl rfl)
theorem dX8_needs_7 : decode cX8_needs 7 = .ok (.invokevirtual 233, 3) := dk_182 0 233 (dk_at dksX8_needs_0 7 rfl rfl)
theorem dX8_needs_10 : decode cX8_needs 10 = .ok (.ifCond .eq 16, 3) := dk_153 0 16 (dk_at dksX8_needs_0 10 rfl rfl)
theorem dX8_needs_13 : decode cX8_needs 13 = .ok (.aload_n 0, 1) := dk_42 (dk_at dksX8_needs_0 13 rfl rfl)
theorem dX8_needs_14 : decode cX8_needs 14 = .ok (.iload_n 2, 1) := dk_28 (dk_at dksX8_needs_0 14 rfl rfl)
theorem dX8_needs_15 : decode cX8_needs 15 = .ok (.invokevirtual 233, 3) := dk_182 0 233 (dk_at dksX8_needs_0 15 rfl rfl)
theorem dX8_needs_18 : decode cX8_needs 18 = .ok (.ifCond .eq 8, 3) := dk_153 0 8 (dk_at dksX8_needs_0 18 rfl rfl)
theorem dX8_needs_21 : decode cX8_needs 21 = .ok (.iload_n 1, 1) := dk_27 (dk_at dksX8_needs_0 21 rfl rfl)
theorem dX8_needs_22 : decode cX8_needs 22 = .ok (.iload_n 2, 1) := dk_28 (dk_at dksX8_needs_0 22 rfl rfl)
theorem dX8_needs_23 : decode cX8_needs 23 = .ok (.if_icmp .ne 5, 3) := dk_160 0 5 (dk_at dksX8_needs_1 0 rfl rfl)
theorem dX8_needs_26 : decode cX8_needs 26 = .ok (.iconst (-1), 1) := dk_2 (dk_at dksX8_needs_1 3 rfl rfl)
theorem dX8_needs_27 : decode cX8_needs 27 = .ok (.ireturn, 1) := dk_172 (dk_at dksX8_needs_1 4 rfl rfl)
theorem dX8_needs_28 : decode cX8_needs 28 = .ok (.aload_n 0, 1) := dk_42 (dk_at dksX8_needs_1 5 rfl rfl)
theorem dX8_needs_29 : decode cX8_needs 29 = .ok (.iload_n 1, 1) := dk_27 (dk_at dksX8_needs_1 6 rfl rfl)
theorem dX8_needs_30 : decode cX8_needs 30 = .ok (.iload_n 2, 1) := dk_28 (dk_at dksX8_needs_1 7 rfl rfl)
theorem dX8_needs_31 : decode cX8_needs 31 = .ok (.invokevirtual 174, 3) := dk_182 0 174 (dk_at dksX8_needs_1 8 rfl rfl)
theorem dX8_needs_34 : decode cX8_needs 34 = .ok (.ifCond .eq 5, 3) := dk_153 0 5 (dk_at dksX8_needs_1 11 rfl rfl)
theorem dX8_needs_37 : decode cX8_needs 37 = .ok (.iconst 0, 1) := dk_3 (dk_at dksX8_needs_1 14 rfl rfl)
theorem dX8_needs_38 : decode cX8_needs 38 = .ok (.ireturn, 1) := dk_172 (dk_at dksX8_needs_1 15 rfl rfl)
theorem dX8_needs_39 : decode cX8_needs 39 = .ok (.aload_n 0, 1) := dk_42 (dk_at dksX8_needs_1 16 rfl rfl)
theorem dX8_needs_40 : decode cX8_needs 40 = .ok (.iload_n 1, 1) := dk_27 (dk_at dksX8_needs_1 17 rfl rfl)
theorem dX8_needs_41 : decode cX8_needs 41 = .ok (.invokevirtual 249, 3) := dk_182 0 249 (dk_at dksX8_needs_1 18 rfl rfl)
theorem dX8_needs_44 : decode cX8_needs 44 = .ok (.ifCond .ne 6, 3) := dk_154 0 6 (dk_at dksX8_needs_1 21 rfl rfl)
theorem dX8_needs_47 : decode cX8_needs 47 = .ok (.bipush (-2), 2) := dk_16 254 (dk_at dksX8_needs_2 0 rfl rfl)
theorem dX8_needs_49 : decode cX8_needs 49 = .ok (.ireturn, 1) := dk_172 (dk_at dksX8_needs_2 2 rfl rfl)
theorem dX8_needs_50 : decode cX8_needs 50 = .ok (.bipush 7, 2) := dk_16 7 (dk_at dksX8_needs_2 3 rfl rfl)
theorem dX8_needs_52 : decode cX8_needs 52 = .ok (.aload_n 0, 1) := dk_42 (dk_at dksX8_needs_2 5 rfl rfl)
theorem dX8_needs_53 : decode cX8_needs 53 = .ok (.getfield 32, 3) := dk_180 0 32 (dk_at dksX8_needs_2 6 rfl rfl)
theorem dX8_needs_56 : decode cX8_needs 56 = .ok (.iconst 0, 1) := dk_3 (dk_at dksX8_needs_2 9 rfl rfl)
theorem dX8_needs_57 : decode cX8_needs 57 = .ok (.iaload, 1) := dk_46 (dk_at dksX8_needs_2 10 rfl rfl)
theorem dX8_needs_58 : decode cX8_needs 58 = .ok (.iadd, 1) := dk_96 (dk_at dksX8_needs_2 11 rfl rfl)
theorem dX8_needs_59 : decode cX8_needs 59 = .ok (.istore_n 3, 1) := dk_62 (dk_at dksX8_needs_2 12 rfl rfl)
theorem dX8_needs_60 : decode cX8_needs 60 = .ok (.aload_n 0, 1) := dk_42 (dk_at dksX8_needs_2 13 rfl rfl)
theorem dX8_needs_61 : decode cX8_needs 61 = .ok (.iload_n 1, 1) := dk_27 (dk_at dksX8_needs_2 14 rfl rfl)
theorem dX8_needs_62 : decode cX8_needs 62 = .ok (.iload_n 3, 1) := dk_29 (dk_at dksX8_needs_2 15 rfl rfl)
theorem dX8_needs_63 : decode cX8_needs 63 = .ok (.invokevirtual 106, 3) := dk_182 0 106 (dk_at dksX8_needs_2 16 rfl rfl)
theorem dX8_needs_66 : decode cX8_needs 66 = .ok (.istore 4, 2) := dk_54 4 (dk_at dksX8_needs_2 19 rfl rfl)
theorem dX8_needs_68 : decode cX8_needs 68 = .ok (.bipush (-3), 2) := dk_16 253 (dk_at dksX8_needs_2 21 rfl rfl)
theorem dX8_needs_70 : decode cX8_needs 70 = .ok (.istore 5, 2) := dk_54 5 (dk_at dksX8_needs_3 0 rfl rfl)
theorem dX8_needs_72 : decode cX8_needs 72 = .ok (.bipush 40, 2) := dk_16 40 (dk_at dksX8_needs_3 2 rfl rfl)
theorem dX8_needs_74 : decode cX8_needs 74 = .ok (.istore 6, 2) := dk_54 6 (dk_at dksX8_needs_3 4 rfl rfl)
theorem dX8_needs_76 : decode cX8_needs 76 = .ok (.iload 6, 2) := dk_21 6 (dk_at dksX8_needs_3 6 rfl rfl)
theorem dX8_needs_78 : decode cX8_needs 78 = .ok (.aload_n 0, 1) := dk_42 (dk_at dksX8_needs_3 8 rfl rfl)
theorem dX8_needs_79 : decode cX8_needs 79 = .ok (.iload_n 1, 1) := dk_27 (dk_at dksX8_needs_3 9 rfl rfl)
theorem dX8_needs_80 : decode cX8_needs 80 = .ok (.invokevirtual 249, 3) := dk_182 0 249 (dk_at dksX8_needs_3 10 rfl rfl)
theorem dX8_needs_83 : decode cX8_needs 83 = .ok (.if_icmp .lt 40, 3) := dk_161 0 40 (dk_at dksX8_needs_3 13 rfl rfl)
theorem dX8_needs_86 : decode cX8_needs 86 = .ok (.aload_n 0, 1) := dk_42 (dk_at dksX8_needs_3 16 rfl rfl)
theorem dX8_needs_87 : decode cX8_needs 87 = .ok (.iload_n 1, 1) := dk_27 (dk_at dksX8_needs_3 17 rfl rfl)
theorem dX8_needs_88 : decode cX8_needs 88 = .ok (.iload_n 3, 1) := dk_29 (dk_at dksX8_needs_3 18 rfl rfl)
theorem dX8_needs_89 : decode cX8_needs 89 = .ok (.iload 4, 2) := dk_21 4 (dk_at dksX8_needs_3 19 rfl rfl)
theorem dX8_needs_91 : decode cX8_needs 91 = .ok (.iload 6, 2) := dk_21 6 (dk_at dksX8_needs_3 21 rfl rfl)
theorem dX8_needs_93 : decode cX8_needs 93 = .ok (.invokestatic 100, 3) := dk_184 0 100 (dk_at dksX8_needs_4 0 rfl rfl)
theorem dX8_needs_96 : decode cX8_needs 96 = .ok (.invokevirtual 109, 3) := dk_182 0 109 (dk_at dksX8_needs_4 3 rfl rfl)
theorem dX8_needs_99 : decode cX8_needs 99 = .ok (.aload_n 0, 1) := dk_42 (dk_at dksX8_needs_4 6 rfl rfl)
theorem dX8_needs_100 : decode cX8_needs 100 = .ok (.iload_n 1, 1) := dk_27 (dk_at dksX8_needs_4 7 rfl rfl)
theorem dX8_needs_101 : decode cX8_needs 101 = .ok (.iload_n 2, 1) := dk_28 (dk_at dksX8_needs_4 8 rfl rfl)
theorem dX8_needs_102 : decode cX8_needs 102 = .ok (.invokevirtual 174, 3) := dk_182 0 174 (dk_at dksX8_needs_4 9 rfl rfl)
theorem dX8_needs_105 : decode cX8_needs 105 = .ok (.ifCond .eq 8, 3) := dk_153 0 8 (dk_at dksX8_needs_4 12 rfl rfl)
theorem dX8_needs_108 : decode cX8_needs 108 = .ok (.iload 6, 2) := dk_21 6 (dk_at dksX8_needs_4 15 rfl rfl)
theorem dX8_needs_110 : decode cX8_needs 110 = .ok (.goto 5, 3) := dk_167 0 5 (dk_at dksX8_needs_4 17 rfl rfl)
theorem dX8_needs_113 : decode cX8_needs 113 = .ok (.iload 5, 2) := dk_21 5 (dk_at dksX8_needs_4 20 rfl rfl)
theorem dX8_needs_115 : decode cX8_needs 115 = .ok (.istore 5, 2) := dk_54 5 (dk_at dksX8_needs_4 22 rfl rfl)
theorem dX8_needs_117 : decode cX8_needs 117 = .ok (.iinc 6 (-1), 3) := dk_132 6 255 (dk_at dksX8_needs_5 0 rfl rfl)
theorem dX8_needs_120 : decode cX8_needs 120 = .ok (.goto (-44), 3) := dk_167 255 212 (dk_at dksX8_needs_5 3 rfl rfl)
theorem dX8_needs_123 : decode cX8_needs 123 = .ok (.aload_n 0, 1) := dk_42 (dk_at dksX8_needs_5 6 rfl rfl)
theorem dX8_needs_124 : decode cX8_needs 124 = .ok (.iload_n 1, 1) := dk_27 (dk_at dksX8_needs_5 7 rfl rfl)
theorem dX8_needs_125 : decode cX8_needs 125 = .ok (.iload_n 3, 1) := dk_29 (dk_at dksX8_needs_5 8 rfl rfl)
theorem dX8_needs_126 : decode cX8_needs 126 = .ok (.iload 4, 2) := dk_21 4 (dk_at dksX8_needs_5 9 rfl rfl)
theorem dX8_needs_128 : decode cX8_needs 128 = .ok (.invokevirtual 109, 3) := dk_182 0 109 (dk_at dksX8_needs_5 11 rfl rfl)
theorem dX8_needs_131 : decode cX8_needs 131 = .ok (.iload 5, 2) := dk_21 5 (dk_at dksX8_needs_5 14 rfl rfl)
theorem dX8_needs_133 : decode cX8_needs 133 = .ok (.ireturn, 1) := dk_172 (dk_at dksX8_needs_5 16 rfl rfl)
abbrev cX8_mass : ByteArray := prog_21_method_71_code
def yX8_mass : MethodName := ⟨RX8, "mass", "(I)I"⟩
def dkwX8_mass_1 : List UInt8 := [172]
abbrev dktX8_mass_1 : List UInt8 := dkwX8_mass_1 ++ []
def dkwX8_mass_0 : List UInt8 := [42, 3, 181, 0, 77, 42, 27, 182, 0, 233, 154, 0, 5, 2, 172, 42, 182, 1, 45, 42, 27, 182, 1, 31]
abbrev dktX8_mass_0 : List UInt8 := dkwX8_mass_0 ++ dktX8_mass_1
theorem dksX8_mass_0 : cX8_mass.data.toList.drop 0 = dktX8_mass_0 := by decide +kernel
theorem dksX8_mass_1 : cX8_mass.data.toList.drop 24 = dktX8_mass_1 := dk_seg dksX8_mass_0 24 rfl rfl
theorem dX8_mass_0 : decode cX8_mass 0 = .ok (.aload_n 0, 1) := dk_42 (dk_at dksX8_mass_0 0 rfl rfl)
theorem dX8_mass_1 : decode cX8_mass 1 = .ok (.iconst 0, 1) := dk_3 (dk_at dksX8_mass_0 1 rfl rfl)
theorem dX8_mass_2 : decode cX8_mass 2 = .ok (.putfield 77, 3) := dk_181 0 77 (dk_at dksX8_mass_0 2 rfl rfl)
theorem dX8_mass_5 : decode cX8_mass 5 = .ok (.aload_n 0, 1) := dk_42 (dk_at dksX8_mass_0 5 rfl rfl)
theorem dX8_mass_6 : decode cX8_mass 6 = .ok (.iload_n 1, 1) := dk_27 (dk_at dksX8_mass_0 6 rfl rfl)
theorem dX8_mass_7 : decode cX8_mass 7 = .ok (.invokevirtual 233, 3) := dk_182 0 233 (dk_at dksX8_mass_0 7 rfl rfl)
theorem dX8_mass_10 : decode cX8_mass 10 = .ok (.ifCond .ne 5, 3) := dk_154 0 5 (dk_at dksX8_mass_0 10 rfl rfl)
theorem dX8_mass_13 : decode cX8_mass 13 = .ok (.iconst (-1), 1) := dk_2 (dk_at dksX8_mass_0 13 rfl rfl)
theorem dX8_mass_14 : decode cX8_mass 14 = .ok (.ireturn, 1) := dk_172 (dk_at dksX8_mass_0 14 rfl rfl)
theorem dX8_mass_15 : decode cX8_mass 15 = .ok (.aload_n 0, 1) := dk_42 (dk_at dksX8_mass_0 15 rfl rfl)
theorem dX8_mass_16 : decode cX8_mass 16 = .ok (.invokevirtual 301, 3) := dk_182 1 45 (dk_at dksX8_mass_0 16 rfl rfl)
theorem dX8_mass_19 : decode cX8_mass 19 = .ok (.aload_n 0, 1) := dk_42 (dk_at dksX8_mass_0 19 rfl rfl)
theorem dX8_mass_20 : decode cX8_mass 20 = .ok (.iload_n 1, 1) := dk_27 (dk_at dksX8_mass_0 20 rfl rfl)
theorem dX8_mass_21 : decode cX8_mass 21 = .ok (.invokevirtual 287, 3) := dk_182 1 31 (dk_at dksX8_mass_0 21 rfl rfl)
theorem dX8_mass_24 : decode cX8_mass 24 = .ok (.ireturn, 1) := dk_172 (dk_at dksX8_mass_1 0 rfl rfl)
abbrev cX8_aimsMass : ByteArray := prog_21_method_58_code
def yX8_aimsMass : MethodName := ⟨RX8, "aimsMass", "()V"⟩
def dkwX8_aimsMass_1 : List UInt8 := [167, 255, 236, 177]
abbrev dktX8_aimsMass_1 : List UInt8 := dkwX8_aimsMass_1 ++ []
def dkwX8_aimsMass_0 : List UInt8 := [3, 60, 27, 16, 121, 162, 0, 20, 42, 180, 0, 56, 27, 17, 3, 232, 27, 104, 79, 132, 1, 1]
abbrev dktX8_aimsMass_0 : List UInt8 := dkwX8_aimsMass_0 ++ dktX8_aimsMass_1
theorem dksX8_aimsMass_0 : cX8_aimsMass.data.toList.drop 0 = dktX8_aimsMass_0 := by decide +kernel
theorem dksX8_aimsMass_1 : cX8_aimsMass.data.toList.drop 22 = dktX8_aimsMass_1 := dk_seg dksX8_aimsMass_0 22 rfl rfl
theorem dX8_aimsMass_0 : decode cX8_aimsMass 0 = .ok (.iconst 0, 1) := dk_3 (dk_at dksX8_aimsMass_0 0 rfl rfl)
theorem dX8_aimsMass_1 : decode cX8_aimsMass 1 = .ok (.istore_n 1, 1) := dk_60 (dk_at dksX8_aimsMass_0 1 rfl rfl)
theorem dX8_aimsMass_2 : decode cX8_aimsMass 2 = .ok (.iload_n 1, 1) := dk_27 (dk_at dksX8_aimsMass_0 2 rfl rfl)
theorem dX8_aimsMass_3 : decode cX8_aimsMass 3 = .ok (.bipush 121, 2) := dk_16 121 (dk_at dksX8_aimsMass_0 3 rfl rfl)
theorem dX8_aimsMass_5 : decode cX8_aimsMass 5 = .ok (.if_icmp .ge 20, 3) := dk_162 0 20 (dk_at dksX8_aimsMass_0 5 rfl rfl)
theorem dX8_aimsMass_8 : decode cX8_aimsMass 8 = .ok (.aload_n 0, 1) := dk_42 (dk_at dksX8_aimsMass_0 8 rfl rfl)
theorem dX8_aimsMass_9 : decode cX8_aimsMass 9 = .ok (.getfield 56, 3) := dk_180 0 56 (dk_at dksX8_aimsMass_0 9 rfl rfl)
theorem dX8_aimsMass_12 : decode cX8_aimsMass 12 = .ok (.iload_n 1, 1) := dk_27 (dk_at dksX8_aimsMass_0 12 rfl rfl)
theorem dX8_aimsMass_13 : decode cX8_aimsMass 13 = .ok (.sipush 1000, 3) := dk_17 3 232 (dk_at dksX8_aimsMass_0 13 rfl rfl)
theorem dX8_aimsMass_16 : decode cX8_aimsMass 16 = .ok (.iload_n 1, 1) := dk_27 (dk_at dksX8_aimsMass_0 16 rfl rfl)
theorem dX8_aimsMass_17 : decode cX8_aimsMass 17 = .ok (.imul, 1) := dk_104 (dk_at dksX8_aimsMass_0 17 rfl rfl)
theorem dX8_aimsMass_18 : decode cX8_aimsMass 18 = .ok (.iastore, 1) := dk_79 (dk_at dksX8_aimsMass_0 18 rfl rfl)
theorem dX8_aimsMass_19 : decode cX8_aimsMass 19 = .ok (.iinc 1 1, 3) := dk_132 1 1 (dk_at dksX8_aimsMass_0 19 rfl rfl)
theorem dX8_aimsMass_22 : decode cX8_aimsMass 22 = .ok (.goto (-20), 3) := dk_167 255 236 (dk_at dksX8_aimsMass_1 0 rfl rfl)
theorem dX8_aimsMass_25 : decode cX8_aimsMass 25 = .ok (.return_, 1) := dk_177 (dk_at dksX8_aimsMass_1 3 rfl rfl)
abbrev cX8_planNow : ByteArray := prog_21_method_65_code
def yX8_planNow : MethodName := ⟨RX8, "planNow", "(I)I"⟩
def dkwX8_planNow_2 : List UInt8 := [27, 7, 182, 0, 106, 42, 27, 16, 7, 28, 96, 182, 0, 106, 42, 27, 182, 1, 24, 182, 1, 14, 172]
abbrev dktX8_planNow_2 : List UInt8 := dkwX8_planNow_2 ++ []
def dkwX8_planNow_1 : List UInt8 := [46, 172, 42, 180, 0, 32, 3, 46, 61, 42, 27, 28, 42, 27, 182, 1, 21, 42, 27, 3, 182, 0, 106, 42]
abbrev dktX8_planNow_1 : List UInt8 := dkwX8_planNow_1 ++ dktX8_planNow_2
def dkwX8_planNow_0 : List UInt8 := [42, 27, 182, 0, 121, 154, 0, 10, 42, 182, 0, 113, 153, 0, 14, 42, 180, 0, 56, 42, 27, 182, 0, 167]
abbrev dktX8_planNow_0 : List UInt8 := dkwX8_planNow_0 ++ dktX8_planNow_1
theorem dksX8_planNow_0 : cX8_planNow.data.toList.drop 0 = dktX8_planNow_0 := by decide +kernel
theorem dksX8_planNow_1 : cX8_planNow.data.toList.drop 24 = dktX8_planNow_1 := dk_seg dksX8_planNow_0 24 rfl rfl
theorem dksX8_planNow_2 : cX8_planNow.data.toList.drop 48 = dktX8_planNow_2 := dk_seg dksX8_planNow_1 24 rfl rfl
theorem dX8_planNow_0 : decode cX8_planNow 0 = .ok (.aload_n 0, 1) := dk_42 (dk_at dksX8_planNow_0 0 rfl rfl)
theorem dX8_planNow_1 : decode cX8_planNow 1 = .ok (.iload_n 1, 1) := dk_27 (dk_at dksX8_planNow_0 1 rfl rfl)
theorem dX8_planNow_2 : decode cX8_planNow 2 = .ok (.invokevirtual 121, 3) := dk_182 0 121 (dk_at dksX8_planNow_0 2 rfl rfl)
theorem dX8_planNow_5 : decode cX8_planNow 5 = .ok (.ifCond .ne 10, 3) := dk_154 0 10 (dk_at dksX8_planNow_0 5 rfl rfl)
theorem dX8_planNow_8 : decode cX8_planNow 8 = .ok (.aload_n 0, 1) := dk_42 (dk_at dksX8_planNow_0 8 rfl rfl)
theorem dX8_planNow_9 : decode cX8_planNow 9 = .ok (.invokevirtual 113, 3) := dk_182 0 113 (dk_at dksX8_planNow_0 9 rfl rfl)
theorem dX8_planNow_12 : decode cX8_planNow 12 = .ok (.ifCond .eq 14, 3) := dk_153 0 14 (dk_at dksX8_planNow_0 12 rfl rfl)
theorem dX8_planNow_15 : decode cX8_planNow 15 = .ok (.aload_n 0, 1) := dk_42 (dk_at dksX8_planNow_0 15 rfl rfl)
theorem dX8_planNow_16 : decode cX8_planNow 16 = .ok (.getfield 56, 3) := dk_180 0 56 (dk_at dksX8_planNow_0 16 rfl rfl)
theorem dX8_planNow_19 : decode cX8_planNow 19 = .ok (.aload_n 0, 1) := dk_42 (dk_at dksX8_planNow_0 19 rfl rfl)
theorem dX8_planNow_20 : decode cX8_planNow 20 = .ok (.iload_n 1, 1) := dk_27 (dk_at dksX8_planNow_0 20 rfl rfl)
theorem dX8_planNow_21 : decode cX8_planNow 21 = .ok (.invokevirtual 167, 3) := dk_182 0 167 (dk_at dksX8_planNow_0 21 rfl rfl)
theorem dX8_planNow_24 : decode cX8_planNow 24 = .ok (.iaload, 1) := dk_46 (dk_at dksX8_planNow_1 0 rfl rfl)
theorem dX8_planNow_25 : decode cX8_planNow 25 = .ok (.ireturn, 1) := dk_172 (dk_at dksX8_planNow_1 1 rfl rfl)
theorem dX8_planNow_26 : decode cX8_planNow 26 = .ok (.aload_n 0, 1) := dk_42 (dk_at dksX8_planNow_1 2 rfl rfl)
theorem dX8_planNow_27 : decode cX8_planNow 27 = .ok (.getfield 32, 3) := dk_180 0 32 (dk_at dksX8_planNow_1 3 rfl rfl)
theorem dX8_planNow_30 : decode cX8_planNow 30 = .ok (.iconst 0, 1) := dk_3 (dk_at dksX8_planNow_1 6 rfl rfl)
theorem dX8_planNow_31 : decode cX8_planNow 31 = .ok (.iaload, 1) := dk_46 (dk_at dksX8_planNow_1 7 rfl rfl)
theorem dX8_planNow_32 : decode cX8_planNow 32 = .ok (.istore_n 2, 1) := dk_61 (dk_at dksX8_planNow_1 8 rfl rfl)
theorem dX8_planNow_33 : decode cX8_planNow 33 = .ok (.aload_n 0, 1) := dk_42 (dk_at dksX8_planNow_1 9 rfl rfl)
theorem dX8_planNow_34 : decode cX8_planNow 34 = .ok (.iload_n 1, 1) := dk_27 (dk_at dksX8_planNow_1 10 rfl rfl)
theorem dX8_planNow_35 : decode cX8_planNow 35 = .ok (.iload_n 2, 1) := dk_28 (dk_at dksX8_planNow_1 11 rfl rfl)
theorem dX8_planNow_36 : decode cX8_planNow 36 = .ok (.aload_n 0, 1) := dk_42 (dk_at dksX8_planNow_1 12 rfl rfl)
theorem dX8_planNow_37 : decode cX8_planNow 37 = .ok (.iload_n 1, 1) := dk_27 (dk_at dksX8_planNow_1 13 rfl rfl)
theorem dX8_planNow_38 : decode cX8_planNow 38 = .ok (.invokevirtual 277, 3) := dk_182 1 21 (dk_at dksX8_planNow_1 14 rfl rfl)
theorem dX8_planNow_41 : decode cX8_planNow 41 = .ok (.aload_n 0, 1) := dk_42 (dk_at dksX8_planNow_1 17 rfl rfl)
theorem dX8_planNow_42 : decode cX8_planNow 42 = .ok (.iload_n 1, 1) := dk_27 (dk_at dksX8_planNow_1 18 rfl rfl)
theorem dX8_planNow_43 : decode cX8_planNow 43 = .ok (.iconst 0, 1) := dk_3 (dk_at dksX8_planNow_1 19 rfl rfl)
theorem dX8_planNow_44 : decode cX8_planNow 44 = .ok (.invokevirtual 106, 3) := dk_182 0 106 (dk_at dksX8_planNow_1 20 rfl rfl)
theorem dX8_planNow_47 : decode cX8_planNow 47 = .ok (.aload_n 0, 1) := dk_42 (dk_at dksX8_planNow_1 23 rfl rfl)
theorem dX8_planNow_48 : decode cX8_planNow 48 = .ok (.iload_n 1, 1) := dk_27 (dk_at dksX8_planNow_2 0 rfl rfl)
theorem dX8_planNow_49 : decode cX8_planNow 49 = .ok (.iconst 4, 1) := dk_7 (dk_at dksX8_planNow_2 1 rfl rfl)
theorem dX8_planNow_50 : decode cX8_planNow 50 = .ok (.invokevirtual 106, 3) := dk_182 0 106 (dk_at dksX8_planNow_2 2 rfl rfl)
theorem dX8_planNow_53 : decode cX8_planNow 53 = .ok (.aload_n 0, 1) := dk_42 (dk_at dksX8_planNow_2 5 rfl rfl)
theorem dX8_planNow_54 : decode cX8_planNow 54 = .ok (.iload_n 1, 1) := dk_27 (dk_at dksX8_planNow_2 6 rfl rfl)
theorem dX8_planNow_55 : decode cX8_planNow 55 = .ok (.bipush 7, 2) := dk_16 7 (dk_at dksX8_planNow_2 7 rfl rfl)
theorem dX8_planNow_57 : decode cX8_planNow 57 = .ok (.iload_n 2, 1) := dk_28 (dk_at dksX8_planNow_2 9 rfl rfl)
theorem dX8_planNow_58 : decode cX8_planNow 58 = .ok (.iadd, 1) := dk_96 (dk_at dksX8_planNow_2 10 rfl rfl)
theorem dX8_planNow_59 : decode cX8_planNow 59 = .ok (.invokevirtual 106, 3) := dk_182 0 106 (dk_at dksX8_planNow_2 11 rfl rfl)
theorem dX8_planNow_62 : decode cX8_planNow 62 = .ok (.aload_n 0, 1) := dk_42 (dk_at dksX8_planNow_2 14 rfl rfl)
theorem dX8_planNow_63 : decode cX8_planNow 63 = .ok (.iload_n 1, 1) := dk_27 (dk_at dksX8_planNow_2 15 rfl rfl)
theorem dX8_planNow_64 : decode cX8_planNow 64 = .ok (.invokevirtual 280, 3) := dk_182 1 24 (dk_at dksX8_planNow_2 16 rfl rfl)
theorem dX8_planNow_67 : decode cX8_planNow 67 = .ok (.invokevirtual 270, 3) := dk_182 1 14 (dk_at dksX8_planNow_2 19 rfl rfl)
theorem dX8_planNow_70 : decode cX8_planNow 70 = .ok (.ireturn, 1) := dk_172 (dk_at dksX8_planNow_2 22 rfl rfl)
abbrev cX8_roundOf : ByteArray := prog_21_method_63_code
def yX8_roundOf : MethodName := ⟨RX8, "roundOf", "(I)I"⟩
def dkwX8_roundOf_0 : List UInt8 := [42, 180, 0, 32, 4, 46, 42, 27, 4, 182, 0, 106, 96, 172]
abbrev dktX8_roundOf_0 : List UInt8 := dkwX8_roundOf_0 ++ []
theorem dksX8_roundOf_0 : cX8_roundOf.data.toList.drop 0 = dktX8_roundOf_0 := by decide +kernel
theorem dX8_roundOf_0 : decode cX8_roundOf 0 = .ok (.aload_n 0, 1) := dk_42 (dk_at dksX8_roundOf_0 0 rfl rfl)
theorem dX8_roundOf_1 : decode cX8_roundOf 1 = .ok (.getfield 32, 3) := dk_180 0 32 (dk_at dksX8_roundOf_0 1 rfl rfl)
theorem dX8_roundOf_4 : decode cX8_roundOf 4 = .ok (.iconst 1, 1) := dk_4 (dk_at dksX8_roundOf_0 4 rfl rfl)
theorem dX8_roundOf_5 : decode cX8_roundOf 5 = .ok (.iaload, 1) := dk_46 (dk_at dksX8_roundOf_0 5 rfl rfl)
theorem dX8_roundOf_6 : decode cX8_roundOf 6 = .ok (.aload_n 0, 1) := dk_42 (dk_at dksX8_roundOf_0 6 rfl rfl)
theorem dX8_roundOf_7 : decode cX8_roundOf 7 = .ok (.iload_n 1, 1) := dk_27 (dk_at dksX8_roundOf_0 7 rfl rfl)
theorem dX8_roundOf_8 : decode cX8_roundOf 8 = .ok (.iconst 1, 1) := dk_4 (dk_at dksX8_roundOf_0 8 rfl rfl)
theorem dX8_roundOf_9 : decode cX8_roundOf 9 = .ok (.invokevirtual 106, 3) := dk_182 0 106 (dk_at dksX8_roundOf_0 9 rfl rfl)
theorem dX8_roundOf_12 : decode cX8_roundOf 12 = .ok (.iadd, 1) := dk_96 (dk_at dksX8_roundOf_0 12 rfl rfl)
theorem dX8_roundOf_13 : decode cX8_roundOf 13 = .ok (.ireturn, 1) := dk_172 (dk_at dksX8_roundOf_0 13 rfl rfl)
abbrev cX8_sumAhead : ByteArray := prog_21_method_64_code
def yX8_sumAhead : MethodName := ⟨RX8, "sumAhead", "(I)I"⟩
def dkwX8_sumAhead_1 : List UInt8 := [96, 61, 132, 3, 1, 167, 255, 231, 28, 172]
abbrev dktX8_sumAhead_1 : List UInt8 := dkwX8_sumAhead_1 ++ []
def dkwX8_sumAhead_0 : List UInt8 := [3, 61, 3, 62, 29, 42, 180, 0, 32, 3, 46, 162, 0, 21, 28, 42, 27, 16, 7, 29, 96, 182, 0, 106]
abbrev dktX8_sumAhead_0 : List UInt8 := dkwX8_sumAhead_0 ++ dktX8_sumAhead_1
theorem dksX8_sumAhead_0 : cX8_sumAhead.data.toList.drop 0 = dktX8_sumAhead_0 := by decide +kernel
theorem dksX8_sumAhead_1 : cX8_sumAhead.data.toList.drop 24 = dktX8_sumAhead_1 := dk_seg dksX8_sumAhead_0 24 rfl rfl
theorem dX8_sumAhead_0 : decode cX8_sumAhead 0 = .ok (.iconst 0, 1) := dk_3 (dk_at dksX8_sumAhead_0 0 rfl rfl)
theorem dX8_sumAhead_1 : decode cX8_sumAhead 1 = .ok (.istore_n 2, 1) := dk_61 (dk_at dksX8_sumAhead_0 1 rfl rfl)
theorem dX8_sumAhead_2 : decode cX8_sumAhead 2 = .ok (.iconst 0, 1) := dk_3 (dk_at dksX8_sumAhead_0 2 rfl rfl)
theorem dX8_sumAhead_3 : decode cX8_sumAhead 3 = .ok (.istore_n 3, 1) := dk_62 (dk_at dksX8_sumAhead_0 3 rfl rfl)
theorem dX8_sumAhead_4 : decode cX8_sumAhead 4 = .ok (.iload_n 3, 1) := dk_29 (dk_at dksX8_sumAhead_0 4 rfl rfl)
theorem dX8_sumAhead_5 : decode cX8_sumAhead 5 = .ok (.aload_n 0, 1) := dk_42 (dk_at dksX8_sumAhead_0 5 rfl rfl)
theorem dX8_sumAhead_6 : decode cX8_sumAhead 6 = .ok (.getfield 32, 3) := dk_180 0 32 (dk_at dksX8_sumAhead_0 6 rfl rfl)
theorem dX8_sumAhead_9 : decode cX8_sumAhead 9 = .ok (.iconst 0, 1) := dk_3 (dk_at dksX8_sumAhead_0 9 rfl rfl)
theorem dX8_sumAhead_10 : decode cX8_sumAhead 10 = .ok (.iaload, 1) := dk_46 (dk_at dksX8_sumAhead_0 10 rfl rfl)
theorem dX8_sumAhead_11 : decode cX8_sumAhead 11 = .ok (.if_icmp .ge 21, 3) := dk_162 0 21 (dk_at dksX8_sumAhead_0 11 rfl rfl)
theorem dX8_sumAhead_14 : decode cX8_sumAhead 14 = .ok (.iload_n 2, 1) := dk_28 (dk_at dksX8_sumAhead_0 14 rfl rfl)
theorem dX8_sumAhead_15 : decode cX8_sumAhead 15 = .ok (.aload_n 0, 1) := dk_42 (dk_at dksX8_sumAhead_0 15 rfl rfl)
theorem dX8_sumAhead_16 : decode cX8_sumAhead 16 = .ok (.iload_n 1, 1) := dk_27 (dk_at dksX8_sumAhead_0 16 rfl rfl)
theorem dX8_sumAhead_17 : decode cX8_sumAhead 17 = .ok (.bipush 7, 2) := dk_16 7 (dk_at dksX8_sumAhead_0 17 rfl rfl)
theorem dX8_sumAhead_19 : decode cX8_sumAhead 19 = .ok (.iload_n 3, 1) := dk_29 (dk_at dksX8_sumAhead_0 19 rfl rfl)
theorem dX8_sumAhead_20 : decode cX8_sumAhead 20 = .ok (.iadd, 1) := dk_96 (dk_at dksX8_sumAhead_0 20 rfl rfl)
theorem dX8_sumAhead_21 : decode cX8_sumAhead 21 = .ok (.invokevirtual 106, 3) := dk_182 0 106 (dk_at dksX8_sumAhead_0 21 rfl rfl)
theorem dX8_sumAhead_24 : decode cX8_sumAhead 24 = .ok (.iadd, 1) := dk_96 (dk_at dksX8_sumAhead_1 0 rfl rfl)
theorem dX8_sumAhead_25 : decode cX8_sumAhead 25 = .ok (.istore_n 2, 1) := dk_61 (dk_at dksX8_sumAhead_1 1 rfl rfl)
theorem dX8_sumAhead_26 : decode cX8_sumAhead 26 = .ok (.iinc 3 1, 3) := dk_132 3 1 (dk_at dksX8_sumAhead_1 2 rfl rfl)
theorem dX8_sumAhead_29 : decode cX8_sumAhead 29 = .ok (.goto (-25), 3) := dk_167 255 231 (dk_at dksX8_sumAhead_1 5 rfl rfl)
theorem dX8_sumAhead_32 : decode cX8_sumAhead 32 = .ok (.iload_n 2, 1) := dk_28 (dk_at dksX8_sumAhead_1 8 rfl rfl)
theorem dX8_sumAhead_33 : decode cX8_sumAhead 33 = .ok (.ireturn, 1) := dk_172 (dk_at dksX8_sumAhead_1 9 rfl rfl)
abbrev cX8_planned : ByteArray := prog_21_method_61_code
def yX8_planned : MethodName := ⟨RX8, "planned", "(IIIIIII)I"⟩
def dkwX8_planned_4 : List UInt8 := [184, 1, 18, 172]
abbrev dktX8_planned_4 : List UInt8 := dkwX8_planned_4 ++ []
def dkwX8_planned_3 : List UInt8 := [96, 21, 6, 21, 7, 182, 1, 14, 54, 9, 42, 27, 28, 21, 4, 21, 5, 182, 0, 245, 21, 8, 21, 9]
abbrev dktX8_planned_3 : List UInt8 := dkwX8_planned_3 ++ dktX8_planned_4
def dkwX8_planned_2 : List UInt8 := [182, 1, 14, 54, 8, 42, 27, 28, 29, 4, 96, 42, 27, 28, 29, 21, 4, 3, 182, 0, 153, 21, 5, 4]
abbrev dktX8_planned_2 : List UInt8 := dkwX8_planned_2 ++ dktX8_planned_3
def dkwX8_planned_1 : List UInt8 := [29, 4, 96, 42, 27, 28, 29, 21, 4, 4, 182, 0, 153, 21, 5, 21, 6, 21, 4, 184, 0, 100, 21, 7]
abbrev dktX8_planned_1 : List UInt8 := dkwX8_planned_1 ++ dktX8_planned_2
def dkwX8_planned_0 : List UInt8 := [21, 4, 153, 0, 8, 29, 6, 160, 0, 14, 42, 27, 28, 21, 6, 21, 7, 182, 1, 11, 172, 42, 27, 28]
abbrev dktX8_planned_0 : List UInt8 := dkwX8_planned_0 ++ dktX8_planned_1
theorem dksX8_planned_0 : cX8_planned.data.toList.drop 0 = dktX8_planned_0 := by decide +kernel
theorem dksX8_planned_1 : cX8_planned.data.toList.drop 24 = dktX8_planned_1 := dk_seg dksX8_planned_0 24 rfl rfl
theorem dksX8_planned_2 : cX8_planned.data.toList.drop 48 = dktX8_planned_2 := dk_seg dksX8_planned_1 24 rfl rfl
theorem dksX8_planned_3 : cX8_planned.data.toList.drop 72 = dktX8_planned_3 := dk_seg dksX8_planned_2 24 rfl rfl
theorem dksX8_planned_4 : cX8_planned.data.toList.drop 96 = dktX8_planned_4 := dk_seg dksX8_planned_3 24 rfl rfl
theorem dX8_planned_0 : decode cX8_planned 0 = .ok (.iload 4, 2) := dk_21 4 (dk_at dksX8_planned_0 0 rfl rfl)
theorem dX8_planned_2 : decode cX8_planned 2 = .ok (.ifCond .eq 8, 3) := dk_153 0 8 (dk_at dksX8_planned_0 2 rfl rfl)
theorem dX8_planned_5 : decode cX8_planned 5 = .ok (.iload_n 3, 1) := dk_29 (dk_at dksX8_planned_0 5 rfl rfl)
theorem dX8_planned_6 : decode cX8_planned 6 = .ok (.iconst 3, 1) := dk_6 (dk_at dksX8_planned_0 6 rfl rfl)
theorem dX8_planned_7 : decode cX8_planned 7 = .ok (.if_icmp .ne 14, 3) := dk_160 0 14 (dk_at dksX8_planned_0 7 rfl rfl)
theorem dX8_planned_10 : decode cX8_planned 10 = .ok (.aload_n 0, 1) := dk_42 (dk_at dksX8_planned_0 10 rfl rfl)
theorem dX8_planned_11 : decode cX8_planned 11 = .ok (.iload_n 1, 1) := dk_27 (dk_at dksX8_planned_0 11 rfl rfl)
theorem dX8_planned_12 : decode cX8_planned 12 = .ok (.iload_n 2, 1) := dk_28 (dk_at dksX8_planned_0 12 rfl rfl)
theorem dX8_planned_13 : decode cX8_planned 13 = .ok (.iload 6, 2) := dk_21 6 (dk_at dksX8_planned_0 13 rfl rfl)
theorem dX8_planned_15 : decode cX8_planned 15 = .ok (.iload 7, 2) := dk_21 7 (dk_at dksX8_planned_0 15 rfl rfl)
theorem dX8_planned_17 : decode cX8_planned 17 = .ok (.invokevirtual 267, 3) := dk_182 1 11 (dk_at dksX8_planned_0 17 rfl rfl)
theorem dX8_planned_20 : decode cX8_planned 20 = .ok (.ireturn, 1) := dk_172 (dk_at dksX8_planned_0 20 rfl rfl)
theorem dX8_planned_21 : decode cX8_planned 21 = .ok (.aload_n 0, 1) := dk_42 (dk_at dksX8_planned_0 21 rfl rfl)
theorem dX8_planned_22 : decode cX8_planned 22 = .ok (.iload_n 1, 1) := dk_27 (dk_at dksX8_planned_0 22 rfl rfl)
theorem dX8_planned_23 : decode cX8_planned 23 = .ok (.iload_n 2, 1) := dk_28 (dk_at dksX8_planned_0 23 rfl rfl)
theorem dX8_planned_24 : decode cX8_planned 24 = .ok (.iload_n 3, 1) := dk_29 (dk_at dksX8_planned_1 0 rfl rfl)
theorem dX8_planned_25 : decode cX8_planned 25 = .ok (.iconst 1, 1) := dk_4 (dk_at dksX8_planned_1 1 rfl rfl)
theorem dX8_planned_26 : decode cX8_planned 26 = .ok (.iadd, 1) := dk_96 (dk_at dksX8_planned_1 2 rfl rfl)
theorem dX8_planned_27 : decode cX8_planned 27 = .ok (.aload_n 0, 1) := dk_42 (dk_at dksX8_planned_1 3 rfl rfl)
theorem dX8_planned_28 : decode cX8_planned 28 = .ok (.iload_n 1, 1) := dk_27 (dk_at dksX8_planned_1 4 rfl rfl)
theorem dX8_planned_29 : decode cX8_planned 29 = .ok (.iload_n 2, 1) := dk_28 (dk_at dksX8_planned_1 5 rfl rfl)
theorem dX8_planned_30 : decode cX8_planned 30 = .ok (.iload_n 3, 1) := dk_29 (dk_at dksX8_planned_1 6 rfl rfl)
theorem dX8_planned_31 : decode cX8_planned 31 = .ok (.iload 4, 2) := dk_21 4 (dk_at dksX8_planned_1 7 rfl rfl)
theorem dX8_planned_33 : decode cX8_planned 33 = .ok (.iconst 1, 1) := dk_4 (dk_at dksX8_planned_1 9 rfl rfl)
theorem dX8_planned_34 : decode cX8_planned 34 = .ok (.invokevirtual 153, 3) := dk_182 0 153 (dk_at dksX8_planned_1 10 rfl rfl)
theorem dX8_planned_37 : decode cX8_planned 37 = .ok (.iload 5, 2) := dk_21 5 (dk_at dksX8_planned_1 13 rfl rfl)
theorem dX8_planned_39 : decode cX8_planned 39 = .ok (.iload 6, 2) := dk_21 6 (dk_at dksX8_planned_1 15 rfl rfl)
theorem dX8_planned_41 : decode cX8_planned 41 = .ok (.iload 4, 2) := dk_21 4 (dk_at dksX8_planned_1 17 rfl rfl)
theorem dX8_planned_43 : decode cX8_planned 43 = .ok (.invokestatic 100, 3) := dk_184 0 100 (dk_at dksX8_planned_1 19 rfl rfl)
theorem dX8_planned_46 : decode cX8_planned 46 = .ok (.iload 7, 2) := dk_21 7 (dk_at dksX8_planned_1 22 rfl rfl)
theorem dX8_planned_48 : decode cX8_planned 48 = .ok (.invokevirtual 270, 3) := dk_182 1 14 (dk_at dksX8_planned_2 0 rfl rfl)
theorem dX8_planned_51 : decode cX8_planned 51 = .ok (.istore 8, 2) := dk_54 8 (dk_at dksX8_planned_2 3 rfl rfl)
theorem dX8_planned_53 : decode cX8_planned 53 = .ok (.aload_n 0, 1) := dk_42 (dk_at dksX8_planned_2 5 rfl rfl)
theorem dX8_planned_54 : decode cX8_planned 54 = .ok (.iload_n 1, 1) := dk_27 (dk_at dksX8_planned_2 6 rfl rfl)
theorem dX8_planned_55 : decode cX8_planned 55 = .ok (.iload_n 2, 1) := dk_28 (dk_at dksX8_planned_2 7 rfl rfl)
theorem dX8_planned_56 : decode cX8_planned 56 = .ok (.iload_n 3, 1) := dk_29 (dk_at dksX8_planned_2 8 rfl rfl)
theorem dX8_planned_57 : decode cX8_planned 57 = .ok (.iconst 1, 1) := dk_4 (dk_at dksX8_planned_2 9 rfl rfl)
theorem dX8_planned_58 : decode cX8_planned 58 = .ok (.iadd, 1) := dk_96 (dk_at dksX8_planned_2 10 rfl rfl)
theorem dX8_planned_59 : decode cX8_planned 59 = .ok (.aload_n 0, 1) := dk_42 (dk_at dksX8_planned_2 11 rfl rfl)
theorem dX8_planned_60 : decode cX8_planned 60 = .ok (.iload_n 1, 1) := dk_27 (dk_at dksX8_planned_2 12 rfl rfl)
theorem dX8_planned_61 : decode cX8_planned 61 = .ok (.iload_n 2, 1) := dk_28 (dk_at dksX8_planned_2 13 rfl rfl)
theorem dX8_planned_62 : decode cX8_planned 62 = .ok (.iload_n 3, 1) := dk_29 (dk_at dksX8_planned_2 14 rfl rfl)
theorem dX8_planned_63 : decode cX8_planned 63 = .ok (.iload 4, 2) := dk_21 4 (dk_at dksX8_planned_2 15 rfl rfl)
theorem dX8_planned_65 : decode cX8_planned 65 = .ok (.iconst 0, 1) := dk_3 (dk_at dksX8_planned_2 17 rfl rfl)
theorem dX8_planned_66 : decode cX8_planned 66 = .ok (.invokevirtual 153, 3) := dk_182 0 153 (dk_at dksX8_planned_2 18 rfl rfl)
theorem dX8_planned_69 : decode cX8_planned 69 = .ok (.iload 5, 2) := dk_21 5 (dk_at dksX8_planned_2 21 rfl rfl)
theorem dX8_planned_71 : decode cX8_planned 71 = .ok (.iconst 1, 1) := dk_4 (dk_at dksX8_planned_2 23 rfl rfl)
theorem dX8_planned_72 : decode cX8_planned 72 = .ok (.iadd, 1) := dk_96 (dk_at dksX8_planned_3 0 rfl rfl)
theorem dX8_planned_73 : decode cX8_planned 73 = .ok (.iload 6, 2) := dk_21 6 (dk_at dksX8_planned_3 1 rfl rfl)
theorem dX8_planned_75 : decode cX8_planned 75 = .ok (.iload 7, 2) := dk_21 7 (dk_at dksX8_planned_3 3 rfl rfl)
theorem dX8_planned_77 : decode cX8_planned 77 = .ok (.invokevirtual 270, 3) := dk_182 1 14 (dk_at dksX8_planned_3 5 rfl rfl)
theorem dX8_planned_80 : decode cX8_planned 80 = .ok (.istore 9, 2) := dk_54 9 (dk_at dksX8_planned_3 8 rfl rfl)
theorem dX8_planned_82 : decode cX8_planned 82 = .ok (.aload_n 0, 1) := dk_42 (dk_at dksX8_planned_3 10 rfl rfl)
theorem dX8_planned_83 : decode cX8_planned 83 = .ok (.iload_n 1, 1) := dk_27 (dk_at dksX8_planned_3 11 rfl rfl)
theorem dX8_planned_84 : decode cX8_planned 84 = .ok (.iload_n 2, 1) := dk_28 (dk_at dksX8_planned_3 12 rfl rfl)
theorem dX8_planned_85 : decode cX8_planned 85 = .ok (.iload 4, 2) := dk_21 4 (dk_at dksX8_planned_3 13 rfl rfl)
theorem dX8_planned_87 : decode cX8_planned 87 = .ok (.iload 5, 2) := dk_21 5 (dk_at dksX8_planned_3 15 rfl rfl)
theorem dX8_planned_89 : decode cX8_planned 89 = .ok (.invokevirtual 245, 3) := dk_182 0 245 (dk_at dksX8_planned_3 17 rfl rfl)
theorem dX8_planned_92 : decode cX8_planned 92 = .ok (.iload 8, 2) := dk_21 8 (dk_at dksX8_planned_3 20 rfl rfl)
theorem dX8_planned_94 : decode cX8_planned 94 = .ok (.iload 9, 2) := dk_21 9 (dk_at dksX8_planned_3 22 rfl rfl)
theorem dX8_planned_96 : decode cX8_planned 96 = .ok (.invokestatic 274, 3) := dk_184 1 18 (dk_at dksX8_planned_4 0 rfl rfl)
theorem dX8_planned_99 : decode cX8_planned 99 = .ok (.ireturn, 1) := dk_172 (dk_at dksX8_planned_4 3 rfl rfl)
abbrev cX8_plannedBehind : ByteArray := prog_21_method_62_code
def yX8_plannedBehind : MethodName := ⟨RX8, "plannedBehind", "(IIII)I"⟩
def dkwX8_plannedBehind_2 : List UInt8 := [96, 182, 1, 14, 172]
abbrev dktX8_plannedBehind_2 : List UInt8 := dkwX8_plannedBehind_2 ++ []
def dkwX8_plannedBehind_1 : List UInt8 := [46, 167, 0, 27, 42, 27, 28, 4, 96, 3, 42, 27, 28, 4, 96, 3, 182, 0, 125, 3, 3, 21, 4, 29]
abbrev dktX8_plannedBehind_1 : List UInt8 := dkwX8_plannedBehind_1 ++ dktX8_plannedBehind_2
def dkwX8_plannedBehind_0 : List UInt8 := [29, 154, 0, 10, 42, 180, 0, 56, 3, 46, 172, 28, 5, 160, 0, 15, 42, 180, 0, 56, 21, 4, 29, 96]
abbrev dktX8_plannedBehind_0 : List UInt8 := dkwX8_plannedBehind_0 ++ dktX8_plannedBehind_1
theorem dksX8_plannedBehind_0 : cX8_plannedBehind.data.toList.drop 0 = dktX8_plannedBehind_0 := by decide +kernel
theorem dksX8_plannedBehind_1 : cX8_plannedBehind.data.toList.drop 24 = dktX8_plannedBehind_1 := dk_seg dksX8_plannedBehind_0 24 rfl rfl
theorem dksX8_plannedBehind_2 : cX8_plannedBehind.data.toList.drop 48 = dktX8_plannedBehind_2 := dk_seg dksX8_plannedBehind_1 24 rfl rfl
theorem dX8_plannedBehind_0 : decode cX8_plannedBehind 0 = .ok (.iload_n 3, 1) := dk_29 (dk_at dksX8_plannedBehind_0 0 rfl rfl)
theorem dX8_plannedBehind_1 : decode cX8_plannedBehind 1 = .ok (.ifCond .ne 10, 3) := dk_154 0 10 (dk_at dksX8_plannedBehind_0 1 rfl rfl)
theorem dX8_plannedBehind_4 : decode cX8_plannedBehind 4 = .ok (.aload_n 0, 1) := dk_42 (dk_at dksX8_plannedBehind_0 4 rfl rfl)
theorem dX8_plannedBehind_5 : decode cX8_plannedBehind 5 = .ok (.getfield 56, 3) := dk_180 0 56 (dk_at dksX8_plannedBehind_0 5 rfl rfl)
theorem dX8_plannedBehind_8 : decode cX8_plannedBehind 8 = .ok (.iconst 0, 1) := dk_3 (dk_at dksX8_plannedBehind_0 8 rfl rfl)
theorem dX8_plannedBehind_9 : decode cX8_plannedBehind 9 = .ok (.iaload, 1) := dk_46 (dk_at dksX8_plannedBehind_0 9 rfl rfl)
theorem dX8_plannedBehind_10 : decode cX8_plannedBehind 10 = .ok (.ireturn, 1) := dk_172 (dk_at dksX8_plannedBehind_0 10 rfl rfl)
theorem dX8_plannedBehind_11 : decode cX8_plannedBehind 11 = .ok (.iload_n 2, 1) := dk_28 (dk_at dksX8_plannedBehind_0 11 rfl rfl)
theorem dX8_plannedBehind_12 : decode cX8_plannedBehind 12 = .ok (.iconst 2, 1) := dk_5 (dk_at dksX8_plannedBehind_0 12 rfl rfl)
theorem dX8_plannedBehind_13 : decode cX8_plannedBehind 13 = .ok (.if_icmp .ne 15, 3) := dk_160 0 15 (dk_at dksX8_plannedBehind_0 13 rfl rfl)
theorem dX8_plannedBehind_16 : decode cX8_plannedBehind 16 = .ok (.aload_n 0, 1) := dk_42 (dk_at dksX8_plannedBehind_0 16 rfl rfl)
theorem dX8_plannedBehind_17 : decode cX8_plannedBehind 17 = .ok (.getfield 56, 3) := dk_180 0 56 (dk_at dksX8_plannedBehind_0 17 rfl rfl)
theorem dX8_plannedBehind_20 : decode cX8_plannedBehind 20 = .ok (.iload 4, 2) := dk_21 4 (dk_at dksX8_plannedBehind_0 20 rfl rfl)
theorem dX8_plannedBehind_22 : decode cX8_plannedBehind 22 = .ok (.iload_n 3, 1) := dk_29 (dk_at dksX8_plannedBehind_0 22 rfl rfl)
theorem dX8_plannedBehind_23 : decode cX8_plannedBehind 23 = .ok (.iadd, 1) := dk_96 (dk_at dksX8_plannedBehind_0 23 rfl rfl)
theorem dX8_plannedBehind_24 : decode cX8_plannedBehind 24 = .ok (.iaload, 1) := dk_46 (dk_at dksX8_plannedBehind_1 0 rfl rfl)
theorem dX8_plannedBehind_25 : decode cX8_plannedBehind 25 = .ok (.goto 27, 3) := dk_167 0 27 (dk_at dksX8_plannedBehind_1 1 rfl rfl)
theorem dX8_plannedBehind_28 : decode cX8_plannedBehind 28 = .ok (.aload_n 0, 1) := dk_42 (dk_at dksX8_plannedBehind_1 4 rfl rfl)
theorem dX8_plannedBehind_29 : decode cX8_plannedBehind 29 = .ok (.iload_n 1, 1) := dk_27 (dk_at dksX8_plannedBehind_1 5 rfl rfl)
theorem dX8_plannedBehind_30 : decode cX8_plannedBehind 30 = .ok (.iload_n 2, 1) := dk_28 (dk_at dksX8_plannedBehind_1 6 rfl rfl)
theorem dX8_plannedBehind_31 : decode cX8_plannedBehind 31 = .ok (.iconst 1, 1) := dk_4 (dk_at dksX8_plannedBehind_1 7 rfl rfl)
theorem dX8_plannedBehind_32 : decode cX8_plannedBehind 32 = .ok (.iadd, 1) := dk_96 (dk_at dksX8_plannedBehind_1 8 rfl rfl)
theorem dX8_plannedBehind_33 : decode cX8_plannedBehind 33 = .ok (.iconst 0, 1) := dk_3 (dk_at dksX8_plannedBehind_1 9 rfl rfl)
theorem dX8_plannedBehind_34 : decode cX8_plannedBehind 34 = .ok (.aload_n 0, 1) := dk_42 (dk_at dksX8_plannedBehind_1 10 rfl rfl)
theorem dX8_plannedBehind_35 : decode cX8_plannedBehind 35 = .ok (.iload_n 1, 1) := dk_27 (dk_at dksX8_plannedBehind_1 11 rfl rfl)
theorem dX8_plannedBehind_36 : decode cX8_plannedBehind 36 = .ok (.iload_n 2, 1) := dk_28 (dk_at dksX8_plannedBehind_1 12 rfl rfl)
theorem dX8_plannedBehind_37 : decode cX8_plannedBehind 37 = .ok (.iconst 1, 1) := dk_4 (dk_at dksX8_plannedBehind_1 13 rfl rfl)
theorem dX8_plannedBehind_38 : decode cX8_plannedBehind 38 = .ok (.iadd, 1) := dk_96 (dk_at dksX8_plannedBehind_1 14 rfl rfl)
theorem dX8_plannedBehind_39 : decode cX8_plannedBehind 39 = .ok (.iconst 0, 1) := dk_3 (dk_at dksX8_plannedBehind_1 15 rfl rfl)
theorem dX8_plannedBehind_40 : decode cX8_plannedBehind 40 = .ok (.invokevirtual 125, 3) := dk_182 0 125 (dk_at dksX8_plannedBehind_1 16 rfl rfl)
theorem dX8_plannedBehind_43 : decode cX8_plannedBehind 43 = .ok (.iconst 0, 1) := dk_3 (dk_at dksX8_plannedBehind_1 19 rfl rfl)
theorem dX8_plannedBehind_44 : decode cX8_plannedBehind 44 = .ok (.iconst 0, 1) := dk_3 (dk_at dksX8_plannedBehind_1 20 rfl rfl)
theorem dX8_plannedBehind_45 : decode cX8_plannedBehind 45 = .ok (.iload 4, 2) := dk_21 4 (dk_at dksX8_plannedBehind_1 21 rfl rfl)
theorem dX8_plannedBehind_47 : decode cX8_plannedBehind 47 = .ok (.iload_n 3, 1) := dk_29 (dk_at dksX8_plannedBehind_1 23 rfl rfl)
theorem dX8_plannedBehind_48 : decode cX8_plannedBehind 48 = .ok (.iadd, 1) := dk_96 (dk_at dksX8_plannedBehind_2 0 rfl rfl)
theorem dX8_plannedBehind_49 : decode cX8_plannedBehind 49 = .ok (.invokevirtual 270, 3) := dk_182 1 14 (dk_at dksX8_plannedBehind_2 1 rfl rfl)
theorem dX8_plannedBehind_52 : decode cX8_plannedBehind 52 = .ok (.ireturn, 1) := dk_172 (dk_at dksX8_plannedBehind_2 4 rfl rfl)
abbrev cX8_expected : ByteArray := prog_21_method_60_code
def yX8_expected : MethodName := ⟨RX8, "expected", "(III)I"⟩
def dkwX8_expected_0 : List UInt8 := [26, 133, 27, 133, 105, 17, 3, 232, 26, 100, 133, 28, 133, 105, 97, 20, 1, 9, 109, 136, 172]
abbrev dktX8_expected_0 : List UInt8 := dkwX8_expected_0 ++ []
theorem dksX8_expected_0 : cX8_expected.data.toList.drop 0 = dktX8_expected_0 := by decide +kernel
theorem dX8_expected_0 : decode cX8_expected 0 = .ok (.iload_n 0, 1) := dk_26 (dk_at dksX8_expected_0 0 rfl rfl)
theorem dX8_expected_1 : decode cX8_expected 1 = .ok (.i2l, 1) := dk_133 (dk_at dksX8_expected_0 1 rfl rfl)
theorem dX8_expected_2 : decode cX8_expected 2 = .ok (.iload_n 1, 1) := dk_27 (dk_at dksX8_expected_0 2 rfl rfl)
theorem dX8_expected_3 : decode cX8_expected 3 = .ok (.i2l, 1) := dk_133 (dk_at dksX8_expected_0 3 rfl rfl)
theorem dX8_expected_4 : decode cX8_expected 4 = .ok (.lmul, 1) := dk_105 (dk_at dksX8_expected_0 4 rfl rfl)
theorem dX8_expected_5 : decode cX8_expected 5 = .ok (.sipush 1000, 3) := dk_17 3 232 (dk_at dksX8_expected_0 5 rfl rfl)
theorem dX8_expected_8 : decode cX8_expected 8 = .ok (.iload_n 0, 1) := dk_26 (dk_at dksX8_expected_0 8 rfl rfl)
theorem dX8_expected_9 : decode cX8_expected 9 = .ok (.isub, 1) := dk_100 (dk_at dksX8_expected_0 9 rfl rfl)
theorem dX8_expected_10 : decode cX8_expected 10 = .ok (.i2l, 1) := dk_133 (dk_at dksX8_expected_0 10 rfl rfl)
theorem dX8_expected_11 : decode cX8_expected 11 = .ok (.iload_n 2, 1) := dk_28 (dk_at dksX8_expected_0 11 rfl rfl)
theorem dX8_expected_12 : decode cX8_expected 12 = .ok (.i2l, 1) := dk_133 (dk_at dksX8_expected_0 12 rfl rfl)
theorem dX8_expected_13 : decode cX8_expected 13 = .ok (.lmul, 1) := dk_105 (dk_at dksX8_expected_0 13 rfl rfl)
theorem dX8_expected_14 : decode cX8_expected 14 = .ok (.ladd, 1) := dk_97 (dk_at dksX8_expected_0 14 rfl rfl)
theorem dX8_expected_15 : decode cX8_expected 15 = .ok (.ldc2_w 265, 3) := dk_20 1 9 (dk_at dksX8_expected_0 15 rfl rfl)
theorem dX8_expected_18 : decode cX8_expected 18 = .ok (.ldiv, 1) := dk_109 (dk_at dksX8_expected_0 18 rfl rfl)
theorem dX8_expected_19 : decode cX8_expected 19 = .ok (.l2i, 1) := dk_136 (dk_at dksX8_expected_0 19 rfl rfl)
theorem dX8_expected_20 : decode cX8_expected 20 = .ok (.ireturn, 1) := dk_172 (dk_at dksX8_expected_0 20 rfl rfl)
abbrev cX8_chance : ByteArray := prog_21_method_73_code
def yX8_chance : MethodName := ⟨RX8, "chance", "(II)I"⟩
def dkwX8_chance_1 : List UInt8 := [182, 1, 34, 167, 0, 4, 2, 172]
abbrev dktX8_chance_1 : List UInt8 := dkwX8_chance_1 ++ []
def dkwX8_chance_0 : List UInt8 := [42, 3, 181, 0, 77, 42, 27, 182, 0, 233, 153, 0, 19, 28, 184, 1, 50, 153, 0, 12, 42, 27, 28]
abbrev dktX8_chance_0 : List UInt8 := dkwX8_chance_0 ++ dktX8_chance_1
theorem dksX8_chance_0 : cX8_chance.data.toList.drop 0 = dktX8_chance_0 := by decide +kernel
theorem dksX8_chance_1 : cX8_chance.data.toList.drop 23 = dktX8_chance_1 := dk_seg dksX8_chance_0 23 rfl rfl
theorem dX8_chance_0 : decode cX8_chance 0 = .ok (.aload_n 0, 1) := dk_42 (dk_at dksX8_chance_0 0 rfl rfl)
theorem dX8_chance_1 : decode cX8_chance 1 = .ok (.iconst 0, 1) := dk_3 (dk_at dksX8_chance_0 1 rfl rfl)
theorem dX8_chance_2 : decode cX8_chance 2 = .ok (.putfield 77, 3) := dk_181 0 77 (dk_at dksX8_chance_0 2 rfl rfl)
theorem dX8_chance_5 : decode cX8_chance 5 = .ok (.aload_n 0, 1) := dk_42 (dk_at dksX8_chance_0 5 rfl rfl)
theorem dX8_chance_6 : decode cX8_chance 6 = .ok (.iload_n 1, 1) := dk_27 (dk_at dksX8_chance_0 6 rfl rfl)
theorem dX8_chance_7 : decode cX8_chance 7 = .ok (.invokevirtual 233, 3) := dk_182 0 233 (dk_at dksX8_chance_0 7 rfl rfl)
theorem dX8_chance_10 : decode cX8_chance 10 = .ok (.ifCond .eq 19, 3) := dk_153 0 19 (dk_at dksX8_chance_0 10 rfl rfl)
theorem dX8_chance_13 : decode cX8_chance 13 = .ok (.iload_n 2, 1) := dk_28 (dk_at dksX8_chance_0 13 rfl rfl)
theorem dX8_chance_14 : decode cX8_chance 14 = .ok (.invokestatic 306, 3) := dk_184 1 50 (dk_at dksX8_chance_0 14 rfl rfl)
theorem dX8_chance_17 : decode cX8_chance 17 = .ok (.ifCond .eq 12, 3) := dk_153 0 12 (dk_at dksX8_chance_0 17 rfl rfl)
theorem dX8_chance_20 : decode cX8_chance 20 = .ok (.aload_n 0, 1) := dk_42 (dk_at dksX8_chance_0 20 rfl rfl)
theorem dX8_chance_21 : decode cX8_chance 21 = .ok (.iload_n 1, 1) := dk_27 (dk_at dksX8_chance_0 21 rfl rfl)
theorem dX8_chance_22 : decode cX8_chance 22 = .ok (.iload_n 2, 1) := dk_28 (dk_at dksX8_chance_0 22 rfl rfl)
theorem dX8_chance_23 : decode cX8_chance 23 = .ok (.invokevirtual 290, 3) := dk_182 1 34 (dk_at dksX8_chance_1 0 rfl rfl)
theorem dX8_chance_26 : decode cX8_chance 26 = .ok (.goto 4, 3) := dk_167 0 4 (dk_at dksX8_chance_1 3 rfl rfl)
theorem dX8_chance_29 : decode cX8_chance 29 = .ok (.iconst (-1), 1) := dk_2 (dk_at dksX8_chance_1 6 rfl rfl)
theorem dX8_chance_30 : decode cX8_chance 30 = .ok (.ireturn, 1) := dk_172 (dk_at dksX8_chance_1 7 rfl rfl)
abbrev cX8_isTotal : ByteArray := prog_21_method_72_code
def yX8_isTotal : MethodName := ⟨RX8, "isTotal", "(I)Z"⟩
def dkwX8_isTotal_0 : List UInt8 := [26, 133, 9, 20, 1, 48, 184, 0, 87, 172]
abbrev dktX8_isTotal_0 : List UInt8 := dkwX8_isTotal_0 ++ []
theorem dksX8_isTotal_0 : cX8_isTotal.data.toList.drop 0 = dktX8_isTotal_0 := by decide +kernel
theorem dX8_isTotal_0 : decode cX8_isTotal 0 = .ok (.iload_n 0, 1) := dk_26 (dk_at dksX8_isTotal_0 0 rfl rfl)
theorem dX8_isTotal_1 : decode cX8_isTotal 1 = .ok (.i2l, 1) := dk_133 (dk_at dksX8_isTotal_0 1 rfl rfl)
theorem dX8_isTotal_2 : decode cX8_isTotal 2 = .ok (.lconst 0, 1) := dk_9 (dk_at dksX8_isTotal_0 2 rfl rfl)
theorem dX8_isTotal_3 : decode cX8_isTotal 3 = .ok (.ldc2_w 304, 3) := dk_20 1 48 (dk_at dksX8_isTotal_0 3 rfl rfl)
theorem dX8_isTotal_6 : decode cX8_isTotal 6 = .ok (.invokestatic 87, 3) := dk_184 0 87 (dk_at dksX8_isTotal_0 6 rfl rfl)
theorem dX8_isTotal_9 : decode cX8_isTotal 9 = .ok (.ireturn, 1) := dk_172 (dk_at dksX8_isTotal_0 9 rfl rfl)
abbrev cX8_chanceOf : ByteArray := prog_21_method_66_code
def yX8_chanceOf : MethodName := ⟨RX8, "chanceOf", "(II)I"⟩
def dkwX8_chanceOf_0 : List UInt8 := [42, 28, 182, 1, 27, 42, 27, 182, 1, 31, 172]
abbrev dktX8_chanceOf_0 : List UInt8 := dkwX8_chanceOf_0 ++ []
theorem dksX8_chanceOf_0 : cX8_chanceOf.data.toList.drop 0 = dktX8_chanceOf_0 := by decide +kernel
theorem dX8_chanceOf_0 : decode cX8_chanceOf 0 = .ok (.aload_n 0, 1) := dk_42 (dk_at dksX8_chanceOf_0 0 rfl rfl)
theorem dX8_chanceOf_1 : decode cX8_chanceOf 1 = .ok (.iload_n 2, 1) := dk_28 (dk_at dksX8_chanceOf_0 1 rfl rfl)
theorem dX8_chanceOf_2 : decode cX8_chanceOf 2 = .ok (.invokevirtual 283, 3) := dk_182 1 27 (dk_at dksX8_chanceOf_0 2 rfl rfl)
theorem dX8_chanceOf_5 : decode cX8_chanceOf 5 = .ok (.aload_n 0, 1) := dk_42 (dk_at dksX8_chanceOf_0 5 rfl rfl)
theorem dX8_chanceOf_6 : decode cX8_chanceOf 6 = .ok (.iload_n 1, 1) := dk_27 (dk_at dksX8_chanceOf_0 6 rfl rfl)
theorem dX8_chanceOf_7 : decode cX8_chanceOf 7 = .ok (.invokevirtual 287, 3) := dk_182 1 31 (dk_at dksX8_chanceOf_0 7 rfl rfl)
theorem dX8_chanceOf_10 : decode cX8_chanceOf 10 = .ok (.ireturn, 1) := dk_172 (dk_at dksX8_chanceOf_0 10 rfl rfl)
abbrev cX8_aimsReach : ByteArray := prog_21_method_59_code
def yX8_aimsReach : MethodName := ⟨RX8, "aimsReach", "(I)V"⟩
def dkwX8_aimsReach_1 : List UInt8 := [3, 79, 132, 2, 1, 167, 255, 229, 177]
abbrev dktX8_aimsReach_1 : List UInt8 := dkwX8_aimsReach_1 ++ []
def dkwX8_aimsReach_0 : List UInt8 := [3, 61, 28, 16, 121, 162, 0, 27, 42, 180, 0, 56, 28, 28, 27, 161, 0, 9, 19, 1, 8, 167, 0, 4]
abbrev dktX8_aimsReach_0 : List UInt8 := dkwX8_aimsReach_0 ++ dktX8_aimsReach_1
theorem dksX8_aimsReach_0 : cX8_aimsReach.data.toList.drop 0 = dktX8_aimsReach_0 := by decide +kernel
theorem dksX8_aimsReach_1 : cX8_aimsReach.data.toList.drop 24 = dktX8_aimsReach_1 := dk_seg dksX8_aimsReach_0 24 rfl rfl
theorem dX8_aimsReach_0 : decode cX8_aimsReach 0 = .ok (.iconst 0, 1) := dk_3 (dk_at dksX8_aimsReach_0 0 rfl rfl)
theorem dX8_aimsReach_1 : decode cX8_aimsReach 1 = .ok (.istore_n 2, 1) := dk_61 (dk_at dksX8_aimsReach_0 1 rfl rfl)
theorem dX8_aimsReach_2 : decode cX8_aimsReach 2 = .ok (.iload_n 2, 1) := dk_28 (dk_at dksX8_aimsReach_0 2 rfl rfl)
theorem dX8_aimsReach_3 : decode cX8_aimsReach 3 = .ok (.bipush 121, 2) := dk_16 121 (dk_at dksX8_aimsReach_0 3 rfl rfl)
theorem dX8_aimsReach_5 : decode cX8_aimsReach 5 = .ok (.if_icmp .ge 27, 3) := dk_162 0 27 (dk_at dksX8_aimsReach_0 5 rfl rfl)
theorem dX8_aimsReach_8 : decode cX8_aimsReach 8 = .ok (.aload_n 0, 1) := dk_42 (dk_at dksX8_aimsReach_0 8 rfl rfl)
theorem dX8_aimsReach_9 : decode cX8_aimsReach 9 = .ok (.getfield 56, 3) := dk_180 0 56 (dk_at dksX8_aimsReach_0 9 rfl rfl)
theorem dX8_aimsReach_12 : decode cX8_aimsReach 12 = .ok (.iload_n 2, 1) := dk_28 (dk_at dksX8_aimsReach_0 12 rfl rfl)
theorem dX8_aimsReach_13 : decode cX8_aimsReach 13 = .ok (.iload_n 2, 1) := dk_28 (dk_at dksX8_aimsReach_0 13 rfl rfl)
theorem dX8_aimsReach_14 : decode cX8_aimsReach 14 = .ok (.iload_n 1, 1) := dk_27 (dk_at dksX8_aimsReach_0 14 rfl rfl)
theorem dX8_aimsReach_15 : decode cX8_aimsReach 15 = .ok (.if_icmp .lt 9, 3) := dk_161 0 9 (dk_at dksX8_aimsReach_0 15 rfl rfl)
theorem dX8_aimsReach_18 : decode cX8_aimsReach 18 = .ok (.ldc_w 264, 3) := dk_19 1 8 (dk_at dksX8_aimsReach_0 18 rfl rfl)
theorem dX8_aimsReach_21 : decode cX8_aimsReach 21 = .ok (.goto 4, 3) := dk_167 0 4 (dk_at dksX8_aimsReach_0 21 rfl rfl)
theorem dX8_aimsReach_24 : decode cX8_aimsReach 24 = .ok (.iconst 0, 1) := dk_3 (dk_at dksX8_aimsReach_1 0 rfl rfl)
theorem dX8_aimsReach_25 : decode cX8_aimsReach 25 = .ok (.iastore, 1) := dk_79 (dk_at dksX8_aimsReach_1 1 rfl rfl)
theorem dX8_aimsReach_26 : decode cX8_aimsReach 26 = .ok (.iinc 2 1, 3) := dk_132 2 1 (dk_at dksX8_aimsReach_1 2 rfl rfl)
theorem dX8_aimsReach_29 : decode cX8_aimsReach 29 = .ok (.goto (-27), 3) := dk_167 255 229 (dk_at dksX8_aimsReach_1 5 rfl rfl)
theorem dX8_aimsReach_32 : decode cX8_aimsReach 32 = .ok (.return_, 1) := dk_177 (dk_at dksX8_aimsReach_1 8 rfl rfl)