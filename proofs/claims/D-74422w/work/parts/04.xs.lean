/-! NextLoadLaw -/
set_option maxRecDepth 100000
def RX0 : String := "NextLoadLaw"
abbrev cX0_row : ByteArray := method_3_code
def yX0_row : MethodName := ⟨RX0, "row", "(LNextLoad;I[J)I"⟩
def dkwX0_row_0 : List UInt8 := [44, 3, 42, 27, 182, 0, 7, 80, 167, 0, 6, 78, 4, 172, 3, 172]
abbrev dktX0_row_0 : List UInt8 := dkwX0_row_0 ++ []
theorem dksX0_row_0 : cX0_row.data.toList.drop 0 = dktX0_row_0 := by decide +kernel
theorem dX0_row_0 : decode cX0_row 0 = .ok (.aload_n 2, 1) := dk_44 (dk_at dksX0_row_0 0 rfl rfl)
theorem dX0_row_1 : decode cX0_row 1 = .ok (.iconst 0, 1) := dk_3 (dk_at dksX0_row_0 1 rfl rfl)
theorem dX0_row_2 : decode cX0_row 2 = .ok (.aload_n 0, 1) := dk_42 (dk_at dksX0_row_0 2 rfl rfl)
theorem dX0_row_3 : decode cX0_row 3 = .ok (.iload_n 1, 1) := dk_27 (dk_at dksX0_row_0 3 rfl rfl)
theorem dX0_row_4 : decode cX0_row 4 = .ok (.invokevirtual 7, 3) := dk_182 0 7 (dk_at dksX0_row_0 4 rfl rfl)
theorem dX0_row_7 : decode cX0_row 7 = .ok (.lastore, 1) := dk_80 (dk_at dksX0_row_0 7 rfl rfl)
theorem dX0_row_8 : decode cX0_row 8 = .ok (.goto 6, 3) := dk_167 0 6 (dk_at dksX0_row_0 8 rfl rfl)
theorem dX0_row_11 : decode cX0_row 11 = .ok (.astore_n 3, 1) := dk_78 (dk_at dksX0_row_0 11 rfl rfl)
theorem dX0_row_12 : decode cX0_row 12 = .ok (.iconst 1, 1) := dk_4 (dk_at dksX0_row_0 12 rfl rfl)
theorem dX0_row_13 : decode cX0_row 13 = .ok (.ireturn, 1) := dk_172 (dk_at dksX0_row_0 13 rfl rfl)
theorem dX0_row_14 : decode cX0_row 14 = .ok (.iconst 0, 1) := dk_3 (dk_at dksX0_row_0 14 rfl rfl)
theorem dX0_row_15 : decode cX0_row 15 = .ok (.ireturn, 1) := dk_172 (dk_at dksX0_row_0 15 rfl rfl)
theorem q109 : (Jvm.Cond.initialized "NextLoadLaw") ∈ lw_all := lw_g (lw_at lw_m1 0 rfl) rfl
theorem q142 : (Jvm.Cond.classLink "NextLoadLaw" (8 : Nat) "NextLoad") ∈ lw_all := lw_g (lw_at lw_m1 33 rfl) rfl
theorem q144 : (Jvm.Cond.methodLink "NextLoadLaw" (15 : Nat) ({ cls := "NextLoad", name := "<init>", desc := "()V" } : Jvm.MethodName)) ∈ lw_all := lw_g (lw_at lw_m1 35 rfl) rfl
theorem q456 : (Jvm.Cond.methodLink "NextLoadLaw" (19 : Nat) ({ cls := "NextLoad", name := "sign", desc := "(I)I" } : Jvm.MethodName)) ∈ lw_all := lw_g (lw_at lw_m2 107 rfl) rfl
theorem q460 : (Jvm.Cond.methodLink "NextLoadLaw" (24 : Nat) ({ cls := "NextLoad", name := "end", desc := "(I)Z" } : Jvm.MethodName)) ∈ lw_all := lw_g (lw_at lw_m2 111 rfl) rfl
theorem q467 : (Jvm.Cond.methodLink "NextLoadLaw" (29 : Nat) ({ cls := "NextLoad", name := "enters", desc := "()I" } : Jvm.MethodName)) ∈ lw_all := lw_g (lw_at lw_m2 118 rfl) rfl
theorem q714 : (Jvm.Cond.methodLink "NextLoadLaw" (34 : Nat) ({ cls := "NextLoad", name := "leaves", desc := "()I" } : Jvm.MethodName)) ∈ lw_all := lw_g (lw_at lw_m3 125 rfl) rfl
theorem q731 : (Jvm.Cond.methodLink "NextLoadLaw" (38 : Nat) ({ cls := "NextLoad", name := "plans", desc := "(IIII)I" } : Jvm.MethodName)) ∈ lw_all := lw_g (lw_at lw_m3 142 rfl) rfl
theorem q751 : (Jvm.Cond.methodLink "NextLoadLaw" (43 : Nat) ({ cls := "NextLoad", name := "tires", desc := "(I)I" } : Jvm.MethodName)) ∈ lw_all := lw_g (lw_at lw_m3 162 rfl) rfl
theorem q756 : (Jvm.Cond.methodLink "NextLoadLaw" (47 : Nat) ({ cls := "NextLoad", name := "begins", desc := "()I" } : Jvm.MethodName)) ∈ lw_all := lw_g (lw_at lw_m3 167 rfl) rfl
theorem q760 : (Jvm.Cond.methodLink "NextLoadLaw" (51 : Nat) ({ cls := "NextLoad", name := "odds", desc := "(IIII)I" } : Jvm.MethodName)) ∈ lw_all := lw_g (lw_at lw_m3 171 rfl) rfl
theorem q773 : (Jvm.Cond.methodLink "NextLoadLaw" (55 : Nat) ({ cls := "NextLoad", name := "lifter", desc := "(III)I" } : Jvm.MethodName)) ∈ lw_all := lw_g (lw_at lw_m3 184 rfl) rfl
theorem q793 : (Jvm.Cond.methodLink "NextLoadLaw" (60 : Nat) ({ cls := "NextLoad", name := "called", desc := "()I" } : Jvm.MethodName)) ∈ lw_all := lw_g (lw_at lw_m3 204 rfl) rfl
theorem q815 : (Jvm.Cond.methodLink "NextLoadLaw" (64 : Nat) ({ cls := "NextLoad", name := "order", desc := "()I" } : Jvm.MethodName)) ∈ lw_all := lw_g (lw_at lw_m3 226 rfl) rfl
theorem q828 : (Jvm.Cond.methodLink "NextLoadLaw" (68 : Nat) ({ cls := "NextLoad", name := "asks", desc := "(II)I" } : Jvm.MethodName)) ∈ lw_all := lw_g (lw_at lw_m3 239 rfl) rfl
theorem q832 : (Jvm.Cond.methodLink "NextLoadLaw" (73 : Nat) ({ cls := "NextLoad", name := "tries", desc := "(Z)I" } : Jvm.MethodName)) ∈ lw_all := lw_g (lw_at lw_m4 3 rfl) rfl
theorem q901 : (Jvm.Cond.methodLink "NextLoadLaw" (78 : Nat) ({ cls := "NextLoad", name := "tried", desc := "(II)I" } : Jvm.MethodName)) ∈ lw_all := lw_g (lw_at lw_m4 72 rfl) rfl
theorem q905 : (Jvm.Cond.methodLink "NextLoadLaw" (82 : Nat) ({ cls := "NextLoad", name := "place", desc := "(I)I" } : Jvm.MethodName)) ∈ lw_all := lw_g (lw_at lw_m4 76 rfl) rfl
theorem q932 : (Jvm.Cond.methodLink "NextLoadLaw" (86 : Nat) ({ cls := "NextLoad", name := "slot", desc := "(II)I" } : Jvm.MethodName)) ∈ lw_all := lw_g (lw_at lw_m4 103 rfl) rfl
theorem q937 : (Jvm.Cond.methodLink "NextLoadLaw" (90 : Nat) ({ cls := "NextLoad", name := "needs", desc := "(II)I" } : Jvm.MethodName)) ∈ lw_all := lw_g (lw_at lw_m4 108 rfl) rfl
theorem q943 : (Jvm.Cond.methodLink "NextLoadLaw" (94 : Nat) ({ cls := "NextLoad", name := "mass", desc := "(I)I" } : Jvm.MethodName)) ∈ lw_all := lw_g (lw_at lw_m4 114 rfl) rfl
theorem q1067 : (Jvm.Cond.methodLink "NextLoadLaw" (98 : Nat) ({ cls := "NextLoad", name := "chance", desc := "(II)I" } : Jvm.MethodName)) ∈ lw_all := lw_g (lw_at lw_m4 238 rfl) rfl
theorem q1085 : (Jvm.Cond.methodLink "NextLoadLaw" (102 : Nat) ({ cls := "NextLoad", name := "likeliest", desc := "(I)I" } : Jvm.MethodName)) ∈ lw_all := lw_g (lw_at lw_m5 16 rfl) rfl
theorem q1094 : (Jvm.Cond.methodLink "NextLoadLaw" (106 : Nat) ({ cls := "NextLoad", name := "beats", desc := "(II)I" } : Jvm.MethodName)) ∈ lw_all := lw_g (lw_at lw_m5 25 rfl) rfl
theorem q1119 : (Jvm.Cond.methodLink "NextLoadLaw" (110 : Nat) ({ cls := "NextLoad", name := "wins", desc := "(I)I" } : Jvm.MethodName)) ∈ lw_all := lw_g (lw_at lw_m5 50 rfl) rfl
theorem q1141 : (Jvm.Cond.methodLink "NextLoadLaw" (114 : Nat) ({ cls := "NextLoad", name := "bombs", desc := "(I)I" } : Jvm.MethodName)) ∈ lw_all := lw_g (lw_at lw_m5 72 rfl) rfl
theorem q1150 : (Jvm.Cond.methodLink "NextLoadLaw" (118 : Nat) ({ cls := "NextLoad", name := "opener", desc := "(III)I" } : Jvm.MethodName)) ∈ lw_all := lw_g (lw_at lw_m5 81 rfl) rfl
theorem q1154 : (Jvm.Cond.methodLink "NextLoadLaw" (122 : Nat) ({ cls := "NextLoad", name := "heavy", desc := "(I)I" } : Jvm.MethodName)) ∈ lw_all := lw_g (lw_at lw_m5 85 rfl) rfl
theorem q1185 : (Jvm.Cond.methodLink "NextLoadLaw" (126 : Nat) ({ cls := "NextLoad", name := "reach", desc := "(II)I" } : Jvm.MethodName)) ∈ lw_all := lw_g (lw_at lw_m5 116 rfl) rfl
theorem q1189 : (Jvm.Cond.methodLink "NextLoadLaw" (130 : Nat) ({ cls := "NextLoad", name := "aim", desc := "(II)I" } : Jvm.MethodName)) ∈ lw_all := lw_g (lw_at lw_m5 120 rfl) rfl
theorem q1193 : (Jvm.Cond.methodLink "NextLoadLaw" (134 : Nat) ({ cls := "NextLoad", name := "against", desc := "(II)I" } : Jvm.MethodName)) ∈ lw_all := lw_g (lw_at lw_m5 124 rfl) rfl
theorem q1197 : (Jvm.Cond.methodLink "NextLoadLaw" (138 : Nat) ({ cls := "NextLoad", name := "gold", desc := "(I)I" } : Jvm.MethodName)) ∈ lw_all := lw_g (lw_at lw_m5 128 rfl) rfl
theorem q1201 : (Jvm.Cond.methodLink "NextLoadLaw" (142 : Nat) ({ cls := "NextLoad", name := "line", desc := "(IIZ)I" } : Jvm.MethodName)) ∈ lw_all := lw_g (lw_at lw_m5 132 rfl) rfl
theorem q1210 : (Jvm.Cond.methodLink "NextLoadLaw" (147 : Nat) ({ cls := "NextLoad", name := "duel", desc := "(II)I" } : Jvm.MethodName)) ∈ lw_all := lw_g (lw_at lw_m5 141 rfl) rfl
theorem q1268 : (Jvm.Cond.methodLink "NextLoadLaw" (151 : Nat) ({ cls := "NextLoad", name := "bluff", desc := "(IIII)I" } : Jvm.MethodName)) ∈ lw_all := lw_g (lw_at lw_m5 199 rfl) rfl
theorem q1272 : (Jvm.Cond.methodLink "NextLoadLaw" (155 : Nat) ({ cls := "NextLoad", name := "plays", desc := "(I)I" } : Jvm.MethodName)) ∈ lw_all := lw_g (lw_at lw_m5 203 rfl) rfl
theorem q1281 : (Jvm.Cond.methodLink "NextLoadLaw" (159 : Nat) ({ cls := "NextLoad", name := "often", desc := "(III)I" } : Jvm.MethodName)) ∈ lw_all := lw_g (lw_at lw_m5 212 rfl) rfl
theorem q1286 : (Jvm.Cond.methodLink "NextLoadLaw" (163 : Nat) ({ cls := "NextLoad", name := "count", desc := "(I)I" } : Jvm.MethodName)) ∈ lw_all := lw_g (lw_at lw_m5 217 rfl) rfl
theorem q1298 : (Jvm.Cond.methodLink "NextLoadLaw" (167 : Nat) ({ cls := "NextLoadLaw", name := "row", desc := "(LNextLoad;I[J)I" } : Jvm.MethodName)) ∈ lw_all := lw_g (lw_at lw_m5 229 rfl) rfl
theorem q1299 : (Jvm.Cond.static ({ cls := "NextLoadLaw", name := "row", desc := "(LNextLoad;I[J)I" } : Jvm.MethodName)) ∈ lw_all := lw_g (lw_at lw_m5 230 rfl) rfl
theorem q1300 : (Jvm.Cond.codeWith ({ cls := "NextLoadLaw", name := "row", desc := "(LNextLoad;I[J)I" } : Jvm.MethodName) method_3_code (4 : Nat) (Option.some Jvm.ClassFile.FieldType.int) [((0 : Nat), (8 : Nat), (11 : Nat), (13 : Nat))]) ∈ lw_all := lw_g (lw_at lw_m5 231 rfl) rfl
theorem q1301 : (Jvm.Cond.classLink "NextLoadLaw" (13 : Nat) "java/util/NoSuchElementException") ∈ lw_all := lw_g (lw_at lw_m5 232 rfl) rfl
theorem q1302 : (Jvm.Cond.methodLink "NextLoadLaw" (7 : Nat) ({ cls := "NextLoad", name := "row", desc := "(I)J" } : Jvm.MethodName)) ∈ lw_all := lw_g (lw_at lw_m5 233 rfl) rfl
theorem q1329 : (Jvm.Cond.classLink "NextLoadLaw" (16 : Nat) "NextLoadModel") ∈ lw_all := lw_g (lw_at lw_m6 20 rfl) rfl
theorem q1331 : (Jvm.Cond.methodLink "NextLoadLaw" (18 : Nat) ({ cls := "NextLoadModel", name := "<init>", desc := "()V" } : Jvm.MethodName)) ∈ lw_all := lw_g (lw_at lw_m6 22 rfl) rfl
theorem q1456 : (Jvm.Cond.methodLink "NextLoadLaw" (173 : Nat) ({ cls := "NextLoadModel", name := "thrown", desc := "()I" } : Jvm.MethodName)) ∈ lw_all := lw_g (lw_at lw_m6 147 rfl) rfl
theorem q1460 : (Jvm.Cond.methodLink "NextLoadLaw" (23 : Nat) ({ cls := "NextLoadModel", name := "sign", desc := "(I)I" } : Jvm.MethodName)) ∈ lw_all := lw_g (lw_at lw_m6 151 rfl) rfl
theorem q1464 : (Jvm.Cond.methodLink "NextLoadLaw" (28 : Nat) ({ cls := "NextLoadModel", name := "end", desc := "(I)Z" } : Jvm.MethodName)) ∈ lw_all := lw_g (lw_at lw_m6 155 rfl) rfl
theorem q1471 : (Jvm.Cond.methodLink "NextLoadLaw" (33 : Nat) ({ cls := "NextLoadModel", name := "enters", desc := "()I" } : Jvm.MethodName)) ∈ lw_all := lw_g (lw_at lw_m6 162 rfl) rfl
theorem q1545 : (Jvm.Cond.methodLink "NextLoadLaw" (37 : Nat) ({ cls := "NextLoadModel", name := "leaves", desc := "()I" } : Jvm.MethodName)) ∈ lw_all := lw_g (lw_at lw_m6 236 rfl) rfl
theorem q1549 : (Jvm.Cond.methodLink "NextLoadLaw" (42 : Nat) ({ cls := "NextLoadModel", name := "plans", desc := "(IIII)I" } : Jvm.MethodName)) ∈ lw_all := lw_g (lw_at lw_m7 0 rfl) rfl
theorem q1563 : (Jvm.Cond.methodLink "NextLoadLaw" (46 : Nat) ({ cls := "NextLoadModel", name := "tires", desc := "(I)I" } : Jvm.MethodName)) ∈ lw_all := lw_g (lw_at lw_m7 14 rfl) rfl
theorem q1568 : (Jvm.Cond.methodLink "NextLoadLaw" (50 : Nat) ({ cls := "NextLoadModel", name := "begins", desc := "()I" } : Jvm.MethodName)) ∈ lw_all := lw_g (lw_at lw_m7 19 rfl) rfl
theorem q1572 : (Jvm.Cond.methodLink "NextLoadLaw" (54 : Nat) ({ cls := "NextLoadModel", name := "odds", desc := "(IIII)I" } : Jvm.MethodName)) ∈ lw_all := lw_g (lw_at lw_m7 23 rfl) rfl
theorem q1585 : (Jvm.Cond.methodLink "NextLoadLaw" (59 : Nat) ({ cls := "NextLoadModel", name := "lifter", desc := "(III)I" } : Jvm.MethodName)) ∈ lw_all := lw_g (lw_at lw_m7 36 rfl) rfl
theorem q1604 : (Jvm.Cond.methodLink "NextLoadLaw" (63 : Nat) ({ cls := "NextLoadModel", name := "called", desc := "()I" } : Jvm.MethodName)) ∈ lw_all := lw_g (lw_at lw_m7 55 rfl) rfl
theorem q1620 : (Jvm.Cond.methodLink "NextLoadLaw" (67 : Nat) ({ cls := "NextLoadModel", name := "order", desc := "()I" } : Jvm.MethodName)) ∈ lw_all := lw_g (lw_at lw_m7 71 rfl) rfl
theorem q1628 : (Jvm.Cond.methodLink "NextLoadLaw" (72 : Nat) ({ cls := "NextLoadModel", name := "asks", desc := "(II)I" } : Jvm.MethodName)) ∈ lw_all := lw_g (lw_at lw_m7 79 rfl) rfl
theorem q1632 : (Jvm.Cond.methodLink "NextLoadLaw" (77 : Nat) ({ cls := "NextLoadModel", name := "tries", desc := "(Z)I" } : Jvm.MethodName)) ∈ lw_all := lw_g (lw_at lw_m7 83 rfl) rfl
theorem q1652 : (Jvm.Cond.methodLink "NextLoadLaw" (81 : Nat) ({ cls := "NextLoadModel", name := "tried", desc := "(II)I" } : Jvm.MethodName)) ∈ lw_all := lw_g (lw_at lw_m7 103 rfl) rfl
theorem q1657 : (Jvm.Cond.methodLink "NextLoadLaw" (85 : Nat) ({ cls := "NextLoadModel", name := "place", desc := "(I)I" } : Jvm.MethodName)) ∈ lw_all := lw_g (lw_at lw_m7 108 rfl) rfl
theorem q1677 : (Jvm.Cond.methodLink "NextLoadLaw" (89 : Nat) ({ cls := "NextLoadModel", name := "slot", desc := "(II)I" } : Jvm.MethodName)) ∈ lw_all := lw_g (lw_at lw_m7 128 rfl) rfl
theorem q1681 : (Jvm.Cond.methodLink "NextLoadLaw" (93 : Nat) ({ cls := "NextLoadModel", name := "needs", desc := "(II)I" } : Jvm.MethodName)) ∈ lw_all := lw_g (lw_at lw_m7 132 rfl) rfl
theorem q1685 : (Jvm.Cond.methodLink "NextLoadLaw" (97 : Nat) ({ cls := "NextLoadModel", name := "mass", desc := "(I)I" } : Jvm.MethodName)) ∈ lw_all := lw_g (lw_at lw_m7 136 rfl) rfl
theorem q1717 : (Jvm.Cond.methodLink "NextLoadLaw" (101 : Nat) ({ cls := "NextLoadModel", name := "chance", desc := "(II)I" } : Jvm.MethodName)) ∈ lw_all := lw_g (lw_at lw_m7 168 rfl) rfl
theorem q1734 : (Jvm.Cond.methodLink "NextLoadLaw" (105 : Nat) ({ cls := "NextLoadModel", name := "likeliest", desc := "(I)I" } : Jvm.MethodName)) ∈ lw_all := lw_g (lw_at lw_m7 185 rfl) rfl
theorem q1742 : (Jvm.Cond.methodLink "NextLoadLaw" (109 : Nat) ({ cls := "NextLoadModel", name := "beats", desc := "(II)I" } : Jvm.MethodName)) ∈ lw_all := lw_g (lw_at lw_m7 193 rfl) rfl
theorem q1754 : (Jvm.Cond.methodLink "NextLoadLaw" (113 : Nat) ({ cls := "NextLoadModel", name := "wins", desc := "(I)I" } : Jvm.MethodName)) ∈ lw_all := lw_g (lw_at lw_m7 205 rfl) rfl
theorem q1767 : (Jvm.Cond.methodLink "NextLoadLaw" (117 : Nat) ({ cls := "NextLoadModel", name := "bombs", desc := "(I)I" } : Jvm.MethodName)) ∈ lw_all := lw_g (lw_at lw_m7 218 rfl) rfl
theorem q1774 : (Jvm.Cond.methodLink "NextLoadLaw" (121 : Nat) ({ cls := "NextLoadModel", name := "opener", desc := "(III)I" } : Jvm.MethodName)) ∈ lw_all := lw_g (lw_at lw_m7 225 rfl) rfl
theorem q1778 : (Jvm.Cond.methodLink "NextLoadLaw" (125 : Nat) ({ cls := "NextLoadModel", name := "heavy", desc := "(I)I" } : Jvm.MethodName)) ∈ lw_all := lw_g (lw_at lw_m7 229 rfl) rfl
theorem q1817 : (Jvm.Cond.methodLink "NextLoadLaw" (129 : Nat) ({ cls := "NextLoadModel", name := "reach", desc := "(II)I" } : Jvm.MethodName)) ∈ lw_all := lw_g (lw_at lw_m8 28 rfl) rfl
theorem q1821 : (Jvm.Cond.methodLink "NextLoadLaw" (133 : Nat) ({ cls := "NextLoadModel", name := "aim", desc := "(II)I" } : Jvm.MethodName)) ∈ lw_all := lw_g (lw_at lw_m8 32 rfl) rfl
theorem q1825 : (Jvm.Cond.methodLink "NextLoadLaw" (137 : Nat) ({ cls := "NextLoadModel", name := "against", desc := "(II)I" } : Jvm.MethodName)) ∈ lw_all := lw_g (lw_at lw_m8 36 rfl) rfl
theorem q1829 : (Jvm.Cond.methodLink "NextLoadLaw" (141 : Nat) ({ cls := "NextLoadModel", name := "gold", desc := "(I)I" } : Jvm.MethodName)) ∈ lw_all := lw_g (lw_at lw_m8 40 rfl) rfl
theorem q1833 : (Jvm.Cond.methodLink "NextLoadLaw" (146 : Nat) ({ cls := "NextLoadModel", name := "line", desc := "(IIZ)I" } : Jvm.MethodName)) ∈ lw_all := lw_g (lw_at lw_m8 44 rfl) rfl
theorem q1841 : (Jvm.Cond.methodLink "NextLoadLaw" (150 : Nat) ({ cls := "NextLoadModel", name := "duel", desc := "(II)I" } : Jvm.MethodName)) ∈ lw_all := lw_g (lw_at lw_m8 52 rfl) rfl
theorem q1891 : (Jvm.Cond.methodLink "NextLoadLaw" (154 : Nat) ({ cls := "NextLoadModel", name := "bluff", desc := "(IIII)I" } : Jvm.MethodName)) ∈ lw_all := lw_g (lw_at lw_m8 102 rfl) rfl
theorem q1895 : (Jvm.Cond.methodLink "NextLoadLaw" (158 : Nat) ({ cls := "NextLoadModel", name := "plays", desc := "(I)I" } : Jvm.MethodName)) ∈ lw_all := lw_g (lw_at lw_m8 106 rfl) rfl
theorem q1908 : (Jvm.Cond.methodLink "NextLoadLaw" (162 : Nat) ({ cls := "NextLoadModel", name := "often", desc := "(III)I" } : Jvm.MethodName)) ∈ lw_all := lw_g (lw_at lw_m8 119 rfl) rfl
theorem q1913 : (Jvm.Cond.methodLink "NextLoadLaw" (166 : Nat) ({ cls := "NextLoadModel", name := "count", desc := "(I)I" } : Jvm.MethodName)) ∈ lw_all := lw_g (lw_at lw_m8 124 rfl) rfl
theorem q1921 : (Jvm.Cond.methodLink "NextLoadLaw" (172 : Nat) ({ cls := "NextLoadModel", name := "row", desc := "(I)J" } : Jvm.MethodName)) ∈ lw_all := lw_g (lw_at lw_m8 132 rfl) rfl

/-! NextLoad$Lifter -/
set_option maxRecDepth 100000
def RX10 : String := "NextLoad$Lifter"
def TX10 : u_T := fun k => match k with
  | 0 => ("NextLoad$Lifter", "body", "I", false)
  | 1 => ("NextLoad$Lifter", "lot", "I", false)
  | 2 => ("NextLoad$Lifter", "table", "[LNextLoad$Table;", true)
  | 3 => ("NextLoad$Lifter", "open", "[I", true)
  | 4 => ("NextLoad$Lifter", "more", "[I", true)
  | _ => ("NextLoad$Lifter", "again", "[I", true)
def tyX10 : Nat → FieldType := fun k => match k with
  | 0 => .int
  | 1 => .int
  | 2 => .array (.object "NextLoad$Table")
  | 3 => .array .int
  | 4 => .array .int
  | _ => .array .int
abbrev wsX100 : List Cond := u_ws RX10 TX10 6
theorem nmX10 : ∀ a, a < 6 → ∀ b, b < 6 → a ≠ b → (TX10 a).2.1 ≠ (TX10 b).2.1 := by decide +kernel
theorem tyX10_ok : ∀ k, k < 6 → parseFieldDescriptor (TX10 k).2.2.1 = some (tyX10 k) := by decide +kernel
abbrev cX10_init : ByteArray := prog_7_method_1_code
def yX10_init : MethodName := ⟨RX10, "<init>", "()V"⟩
def dkwX10_init_2 : List UInt8 := [181, 0, 18, 42, 6, 188, 10, 181, 0, 22, 42, 6, 188, 10, 181, 0, 25, 177]
abbrev dktX10_init_2 : List UInt8 := dkwX10_init_2 ++ []
def dkwX10_init_1 : List UInt8 := [89, 183, 0, 11, 83, 89, 5, 187, 0, 9, 89, 183, 0, 11, 83, 181, 0, 12, 42, 6, 188, 10]
abbrev dktX10_init_1 : List UInt8 := dkwX10_init_1 ++ dktX10_init_2
def dkwX10_init_0 : List UInt8 := [42, 183, 0, 3, 42, 6, 189, 0, 9, 89, 3, 187, 0, 9, 89, 183, 0, 11, 83, 89, 4, 187, 0, 9]
abbrev dktX10_init_0 : List UInt8 := dkwX10_init_0 ++ dktX10_init_1
theorem dksX10_init_0 : cX10_init.data.toList.drop 0 = dktX10_init_0 := by decide +kernel
theorem dksX10_init_1 : cX10_init.data.toList.drop 24 = dktX10_init_1 := dk_seg dksX10_init_0 24 rfl rfl
theorem dksX10_init_2 : cX10_init.data.toList.drop 46 = dktX10_init_2 := dk_seg dksX10_init_1 22 rfl rfl
theorem dX10_init_0 : decode cX10_init 0 = .ok (.aload_n 0, 1) := dk_42 (dk_at dksX10_init_0 0 rfl rfl)
theorem dX10_init_1 : decode cX10_init 1 = .ok (.invokespecial 3, 3) := dk_183 0 3 (dk_at dksX10_init_0 1 rfl rfl)
theorem dX10_init_4 : decode cX10_init 4 = .ok (.aload_n 0, 1) := dk_42 (dk_at dksX10_init_0 4 rfl rfl)
theorem dX10_init_5 : decode cX10_init 5 = .ok (.iconst 3, 1) := dk_6 (dk_at dksX10_init_0 5 rfl rfl)
theorem dX10_init_6 : decode cX10_init 6 = .ok (.anewarray 9, 3) := dk_189 0 9 (dk_at dksX10_init_0 6 rfl rfl)
theorem dX10_init_9 : decode cX10_init 9 = .ok (.dup, 1) := dk_89 (dk_at dksX10_init_0 9 rfl rfl)
theorem dX10_init_10 : decode cX10_init 10 = .ok (.iconst 0, 1) := dk_3 (dk_at dksX10_init_0 10 rfl rfl)
theorem dX10_init_11 : decode cX10_init 11 = .ok (.new 9, 3) := dk_187 0 9 (dk_at dksX10_init_0 11 rfl rfl)
theorem dX10_init_14 : decode cX10_init 14 = .ok (.dup, 1) := dk_89 (dk_at dksX10_init_0 14 rfl rfl)
theorem dX10_init_15 : decode cX10_init 15 = .ok (.invokespecial 11, 3) := dk_183 0 11 (dk_at dksX10_init_0 15 rfl rfl)
theorem dX10_init_18 : decode cX10_init 18 = .ok (.aastore, 1) := dk_83 (dk_at dksX10_init_0 18 rfl rfl)
theorem dX10_init_19 : decode cX10_init 19 = .ok (.dup, 1) := dk_89 (dk_at dksX10_init_0 19 rfl rfl)
theorem dX10_init_20 : decode cX10_init 20 = .ok (.iconst 1, 1) := dk_4 (dk_at dksX10_init_0 20 rfl rfl)
theorem dX10_init_21 : decode cX10_init 21 = .ok (.new 9, 3) := dk_187 0 9 (dk_at dksX10_init_0 21 rfl rfl)
theorem dX10_init_24 : decode cX10_init 24 = .ok (.dup, 1) := dk_89 (dk_at dksX10_init_1 0 rfl rfl)
theorem dX10_init_25 : decode cX10_init 25 = .ok (.invokespecial 11, 3) := dk_183 0 11 (dk_at dksX10_init_1 1 rfl rfl)
theorem dX10_init_28 : decode cX10_init 28 = .ok (.aastore, 1) := dk_83 (dk_at dksX10_init_1 4 rfl rfl)
theorem dX10_init_29 : decode cX10_init 29 = .ok (.dup, 1) := dk_89 (dk_at dksX10_init_1 5 rfl rfl)
theorem dX10_init_30 : decode cX10_init 30 = .ok (.iconst 2, 1) := dk_5 (dk_at dksX10_init_1 6 rfl rfl)
theorem dX10_init_31 : decode cX10_init 31 = .ok (.new 9, 3) := dk_187 0 9 (dk_at dksX10_init_1 7 rfl rfl)
theorem dX10_init_34 : decode cX10_init 34 = .ok (.dup, 1) := dk_89 (dk_at dksX10_init_1 10 rfl rfl)
theorem dX10_init_35 : decode cX10_init 35 = .ok (.invokespecial 11, 3) := dk_183 0 11 (dk_at dksX10_init_1 11 rfl rfl)
theorem dX10_init_38 : decode cX10_init 38 = .ok (.aastore, 1) := dk_83 (dk_at dksX10_init_1 14 rfl rfl)
theorem dX10_init_39 : decode cX10_init 39 = .ok (.putfield 12, 3) := dk_181 0 12 (dk_at dksX10_init_1 15 rfl rfl)
theorem dX10_init_42 : decode cX10_init 42 = .ok (.aload_n 0, 1) := dk_42 (dk_at dksX10_init_1 18 rfl rfl)
theorem dX10_init_43 : decode cX10_init 43 = .ok (.iconst 3, 1) := dk_6 (dk_at dksX10_init_1 19 rfl rfl)
theorem dX10_init_44 : decode cX10_init 44 = .ok (.newarray .int, 2) := dk_188_10 (dk_at dksX10_init_1 20 rfl rfl)
theorem dX10_init_46 : decode cX10_init 46 = .ok (.putfield 18, 3) := dk_181 0 18 (dk_at dksX10_init_2 0 rfl rfl)
theorem dX10_init_49 : decode cX10_init 49 = .ok (.aload_n 0, 1) := dk_42 (dk_at dksX10_init_2 3 rfl rfl)
theorem dX10_init_50 : decode cX10_init 50 = .ok (.iconst 3, 1) := dk_6 (dk_at dksX10_init_2 4 rfl rfl)
theorem dX10_init_51 : decode cX10_init 51 = .ok (.newarray .int, 2) := dk_188_10 (dk_at dksX10_init_2 5 rfl rfl)
theorem dX10_init_53 : decode cX10_init 53 = .ok (.putfield 22, 3) := dk_181 0 22 (dk_at dksX10_init_2 7 rfl rfl)
theorem dX10_init_56 : decode cX10_init 56 = .ok (.aload_n 0, 1) := dk_42 (dk_at dksX10_init_2 10 rfl rfl)
theorem dX10_init_57 : decode cX10_init 57 = .ok (.iconst 3, 1) := dk_6 (dk_at dksX10_init_2 11 rfl rfl)
theorem dX10_init_58 : decode cX10_init 58 = .ok (.newarray .int, 2) := dk_188_10 (dk_at dksX10_init_2 12 rfl rfl)
theorem dX10_init_60 : decode cX10_init 60 = .ok (.putfield 25, 3) := dk_181 0 25 (dk_at dksX10_init_2 14 rfl rfl)
theorem dX10_init_63 : decode cX10_init 63 = .ok (.return_, 1) := dk_177 (dk_at dksX10_init_2 17 rfl rfl)
abbrev cX10_plan : ByteArray := prog_7_method_2_code
def yX10_plan : MethodName := ⟨RX10, "plan", "(I)[I"⟩
def dkwX10_plan_1 : List UInt8 := [180, 0, 25, 176]
abbrev dktX10_plan_1 : List UInt8 := dkwX10_plan_1 ++ []
def dkwX10_plan_0 : List UInt8 := [27, 154, 0, 10, 42, 180, 0, 18, 167, 0, 19, 27, 4, 160, 0, 10, 42, 180, 0, 22, 167, 0, 7, 42]
abbrev dktX10_plan_0 : List UInt8 := dkwX10_plan_0 ++ dktX10_plan_1
theorem dksX10_plan_0 : cX10_plan.data.toList.drop 0 = dktX10_plan_0 := by decide +kernel
theorem dksX10_plan_1 : cX10_plan.data.toList.drop 24 = dktX10_plan_1 := dk_seg dksX10_plan_0 24 rfl rfl
theorem dX10_plan_0 : decode cX10_plan 0 = .ok (.iload_n 1, 1) := dk_27 (dk_at dksX10_plan_0 0 rfl rfl)
theorem dX10_plan_1 : decode cX10_plan 1 = .ok (.ifCond .ne 10, 3) := dk_154 0 10 (dk_at dksX10_plan_0 1 rfl rfl)
theorem dX10_plan_4 : decode cX10_plan 4 = .ok (.aload_n 0, 1) := dk_42 (dk_at dksX10_plan_0 4 rfl rfl)
theorem dX10_plan_5 : decode cX10_plan 5 = .ok (.getfield 18, 3) := dk_180 0 18 (dk_at dksX10_plan_0 5 rfl rfl)
theorem dX10_plan_8 : decode cX10_plan 8 = .ok (.goto 19, 3) := dk_167 0 19 (dk_at dksX10_plan_0 8 rfl rfl)
theorem dX10_plan_11 : decode cX10_plan 11 = .ok (.iload_n 1, 1) := dk_27 (dk_at dksX10_plan_0 11 rfl rfl)
theorem dX10_plan_12 : decode cX10_plan 12 = .ok (.iconst 1, 1) := dk_4 (dk_at dksX10_plan_0 12 rfl rfl)
theorem dX10_plan_13 : decode cX10_plan 13 = .ok (.if_icmp .ne 10, 3) := dk_160 0 10 (dk_at dksX10_plan_0 13 rfl rfl)
theorem dX10_plan_16 : decode cX10_plan 16 = .ok (.aload_n 0, 1) := dk_42 (dk_at dksX10_plan_0 16 rfl rfl)
theorem dX10_plan_17 : decode cX10_plan 17 = .ok (.getfield 22, 3) := dk_180 0 22 (dk_at dksX10_plan_0 17 rfl rfl)
theorem dX10_plan_20 : decode cX10_plan 20 = .ok (.goto 7, 3) := dk_167 0 7 (dk_at dksX10_plan_0 20 rfl rfl)
theorem dX10_plan_23 : decode cX10_plan 23 = .ok (.aload_n 0, 1) := dk_42 (dk_at dksX10_plan_0 23 rfl rfl)
theorem dX10_plan_24 : decode cX10_plan 24 = .ok (.getfield 25, 3) := dk_180 0 25 (dk_at dksX10_plan_1 0 rfl rfl)
theorem dX10_plan_27 : decode cX10_plan 27 = .ok (.areturn, 1) := dk_176 (dk_at dksX10_plan_1 3 rfl rfl)
theorem q124 : (Jvm.Cond.initialized "NextLoad$Lifter") ∈ lw_all := lw_g (lw_at lw_m1 15 rfl) rfl
theorem q493 : (Jvm.Cond.instantiable "NextLoad$Lifter" (6 : Nat)) ∈ lw_all := lw_g (lw_at lw_m2 144 rfl) rfl
theorem q495 : (Jvm.Cond.instanceMethod ({ cls := "NextLoad$Lifter", name := "<init>", desc := "()V" } : Jvm.MethodName)) ∈ lw_all := lw_g (lw_at lw_m2 146 rfl) rfl
theorem q496 : (Jvm.Cond.code ({ cls := "NextLoad$Lifter", name := "<init>", desc := "()V" } : Jvm.MethodName) prog_7_method_1_code (1 : Nat) (Option.none : Option Jvm.ClassFile.FieldType)) ∈ lw_all := lw_g (lw_at lw_m2 147 rfl) rfl
theorem q497 : (Jvm.Cond.methodLink "NextLoad$Lifter" (3 : Nat) ({ cls := "java/lang/Object", name := "<init>", desc := "()V" } : Jvm.MethodName)) ∈ lw_all := lw_g (lw_at lw_m2 148 rfl) rfl
theorem q498 : (Jvm.Cond.classLink "NextLoad$Lifter" (9 : Nat) "NextLoad$Table") ∈ lw_all := lw_g (lw_at lw_m2 149 rfl) rfl
theorem q501 : (Jvm.Cond.methodLinkNest "NextLoad$Lifter" (11 : Nat) ({ cls := "NextLoad$Table", name := "<init>", desc := "()V" } : Jvm.MethodName) "NextLoad") ∈ lw_tbl := lw_at lw_m2 152 rfl
theorem q522 : (Jvm.Cond.fieldLink "NextLoad$Lifter" (12 : Nat) "NextLoad$Lifter" "table" "[LNextLoad$Table;") ∈ lw_all := lw_g (lw_at lw_m2 173 rfl) rfl
theorem q525 : (Jvm.Cond.fieldLink "NextLoad$Lifter" (18 : Nat) "NextLoad$Lifter" "open" "[I") ∈ lw_all := lw_g (lw_at lw_m2 176 rfl) rfl
theorem q530 : (Jvm.Cond.fieldLink "NextLoad$Lifter" (22 : Nat) "NextLoad$Lifter" "more" "[I") ∈ lw_all := lw_g (lw_at lw_m2 181 rfl) rfl
theorem q533 : (Jvm.Cond.fieldLink "NextLoad$Lifter" (25 : Nat) "NextLoad$Lifter" "again" "[I") ∈ lw_all := lw_g (lw_at lw_m2 184 rfl) rfl
theorem q537 : (Jvm.Cond.lays "NextLoad$Lifter" "NextLoad$Lifter" "body" "I") ∈ lw_all := lw_g (lw_at lw_m2 188 rfl) rfl
theorem q538 : (Jvm.Cond.soleField "NextLoad$Lifter" "body") ∈ lw_all := lw_g (lw_at lw_m2 189 rfl) rfl
theorem q539 : (Jvm.Cond.lays "NextLoad$Lifter" "NextLoad$Lifter" "lot" "I") ∈ lw_all := lw_g (lw_at lw_m2 190 rfl) rfl
theorem q540 : (Jvm.Cond.soleField "NextLoad$Lifter" "lot") ∈ lw_all := lw_g (lw_at lw_m2 191 rfl) rfl
theorem q541 : (Jvm.Cond.laysFinal "NextLoad$Lifter" "NextLoad$Lifter" "table" "[LNextLoad$Table;") ∈ lw_all := lw_g (lw_at lw_m2 192 rfl) rfl
theorem q542 : (Jvm.Cond.soleField "NextLoad$Lifter" "table") ∈ lw_all := lw_g (lw_at lw_m2 193 rfl) rfl
theorem q543 : (Jvm.Cond.laysFinal "NextLoad$Lifter" "NextLoad$Lifter" "open" "[I") ∈ lw_all := lw_g (lw_at lw_m2 194 rfl) rfl
theorem q544 : (Jvm.Cond.soleField "NextLoad$Lifter" "open") ∈ lw_all := lw_g (lw_at lw_m2 195 rfl) rfl
theorem q545 : (Jvm.Cond.laysFinal "NextLoad$Lifter" "NextLoad$Lifter" "more" "[I") ∈ lw_all := lw_g (lw_at lw_m2 196 rfl) rfl
theorem q546 : (Jvm.Cond.soleField "NextLoad$Lifter" "more") ∈ lw_all := lw_g (lw_at lw_m2 197 rfl) rfl
theorem q547 : (Jvm.Cond.laysFinal "NextLoad$Lifter" "NextLoad$Lifter" "again" "[I") ∈ lw_all := lw_g (lw_at lw_m2 198 rfl) rfl
theorem q548 : (Jvm.Cond.soleField "NextLoad$Lifter" "again") ∈ lw_all := lw_g (lw_at lw_m2 199 rfl) rfl
theorem q549 : (Jvm.Cond.superclass "NextLoad$Lifter" "java/lang/Object") ∈ lw_all := lw_g (lw_at lw_m2 200 rfl) rfl
theorem q683 : (Jvm.Cond.selects "NextLoad$Lifter" ({ cls := "java/lang/Object", name := "getClass", desc := "()Ljava/lang/Class;" } : Jvm.MethodName) ({ cls := "java/lang/Object", name := "getClass", desc := "()Ljava/lang/Class;" } : Jvm.MethodName)) ∈ lw_all := lw_g (lw_at lw_m3 94 rfl) rfl
theorem q748 : (Jvm.Cond.instanceMethod ({ cls := "NextLoad$Lifter", name := "plan", desc := "(I)[I" } : Jvm.MethodName)) ∈ lw_all := lw_g (lw_at lw_m3 159 rfl) rfl
theorem q749 : (Jvm.Cond.selects "NextLoad$Lifter" ({ cls := "NextLoad$Lifter", name := "plan", desc := "(I)[I" } : Jvm.MethodName) ({ cls := "NextLoad$Lifter", name := "plan", desc := "(I)[I" } : Jvm.MethodName)) ∈ lw_all := lw_g (lw_at lw_m3 160 rfl) rfl
theorem q750 : (Jvm.Cond.code ({ cls := "NextLoad$Lifter", name := "plan", desc := "(I)[I" } : Jvm.MethodName) prog_7_method_2_code (2 : Nat) (Option.some (Jvm.ClassFile.FieldType.array Jvm.ClassFile.FieldType.int))) ∈ lw_all := lw_g (lw_at lw_m3 161 rfl) rfl
theorem q1941 : (Jvm.Cond.castable "NextLoad$Lifter" "java/lang/Object") ∈ lw_tbl := lw_at lw_m8 152 rfl
theorem in_X10 : ∀ w ∈ wsX100, w ∈ lw_all := lw_in wsX100 [537, 539, 541, 543, 545, 547] (by decide +kernel) (by decide +kernel)

/-! NextLoad$Table -/
set_option maxRecDepth 100000
def RX11 : String := "NextLoad$Table"
def TX11 : u_T := fun k => match k with
  | 0 => ("NextLoad$Table", "load", "[I", true)
  | 1 => ("NextLoad$Table", "odds", "[I", true)
  | _ => ("NextLoad$Table", "many", "I", false)
def tyX11 : Nat → FieldType := fun k => match k with
  | 0 => .array .int
  | 1 => .array .int
  | _ => .int
abbrev wsX110 : List Cond := u_ws RX11 TX11 3
theorem nmX11 : ∀ a, a < 3 → ∀ b, b < 3 → a ≠ b → (TX11 a).2.1 ≠ (TX11 b).2.1 := by decide +kernel
theorem tyX11_ok : ∀ k, k < 3 → parseFieldDescriptor (TX11 k).2.2.1 = some (tyX11 k) := by decide +kernel
abbrev cX11_init : ByteArray := prog_18_method_1_code
def yX11_init : MethodName := ⟨RX11, "<init>", "()V"⟩
def dkwX11_init_0 : List UInt8 := [42, 183, 0, 3, 42, 16, 6, 188, 10, 181, 0, 9, 42, 16, 6, 188, 10, 181, 0, 15, 177]
abbrev dktX11_init_0 : List UInt8 := dkwX11_init_0 ++ []
theorem dksX11_init_0 : cX11_init.data.toList.drop 0 = dktX11_init_0 := by decide +kernel
theorem dX11_init_0 : decode cX11_init 0 = .ok (.aload_n 0, 1) := dk_42 (dk_at dksX11_init_0 0 rfl rfl)
theorem dX11_init_1 : decode cX11_init 1 = .ok (.invokespecial 3, 3) := dk_183 0 3 (dk_at dksX11_init_0 1 rfl rfl)
theorem dX11_init_4 : decode cX11_init 4 = .ok (.aload_n 0, 1) := dk_42 (dk_at dksX11_init_0 4 rfl rfl)
theorem dX11_init_5 : decode cX11_init 5 = .ok (.bipush 6, 2) := dk_16 6 (dk_at dksX11_init_0 5 rfl rfl)
theorem dX11_init_7 : decode cX11_init 7 = .ok (.newarray .int, 2) := dk_188_10 (dk_at dksX11_init_0 7 rfl rfl)
theorem dX11_init_9 : decode cX11_init 9 = .ok (.putfield 9, 3) := dk_181 0 9 (dk_at dksX11_init_0 9 rfl rfl)
theorem dX11_init_12 : decode cX11_init 12 = .ok (.aload_n 0, 1) := dk_42 (dk_at dksX11_init_0 12 rfl rfl)
theorem dX11_init_13 : decode cX11_init 13 = .ok (.bipush 6, 2) := dk_16 6 (dk_at dksX11_init_0 13 rfl rfl)
theorem dX11_init_15 : decode cX11_init 15 = .ok (.newarray .int, 2) := dk_188_10 (dk_at dksX11_init_0 15 rfl rfl)
theorem dX11_init_17 : decode cX11_init 17 = .ok (.putfield 15, 3) := dk_181 0 15 (dk_at dksX11_init_0 17 rfl rfl)
theorem dX11_init_20 : decode cX11_init 20 = .ok (.return_, 1) := dk_177 (dk_at dksX11_init_0 20 rfl rfl)
abbrev cX11_adds : ByteArray := prog_18_method_2_code
def yX11_adds : MethodName := ⟨RX11, "adds", "(II)V"⟩
def dkwX11_adds_1 : List UInt8 := [180, 0, 18, 4, 96, 181, 0, 18, 177]
abbrev dktX11_adds_1 : List UInt8 := dkwX11_adds_1 ++ []
def dkwX11_adds_0 : List UInt8 := [42, 180, 0, 9, 42, 180, 0, 18, 27, 79, 42, 180, 0, 15, 42, 180, 0, 18, 28, 79, 42, 89]
abbrev dktX11_adds_0 : List UInt8 := dkwX11_adds_0 ++ dktX11_adds_1
theorem dksX11_adds_0 : cX11_adds.data.toList.drop 0 = dktX11_adds_0 := by decide +kernel
theorem dksX11_adds_1 : cX11_adds.data.toList.drop 22 = dktX11_adds_1 := dk_seg dksX11_adds_0 22 rfl rfl
theorem dX11_adds_0 : decode cX11_adds 0 = .ok (.aload_n 0, 1) := dk_42 (dk_at dksX11_adds_0 0 rfl rfl)
theorem dX11_adds_1 : decode cX11_adds 1 = .ok (.getfield 9, 3) := dk_180 0 9 (dk_at dksX11_adds_0 1 rfl rfl)
theorem dX11_adds_4 : decode cX11_adds 4 = .ok (.aload_n 0, 1) := dk_42 (dk_at dksX11_adds_0 4 rfl rfl)
theorem dX11_adds_5 : decode cX11_adds 5 = .ok (.getfield 18, 3) := dk_180 0 18 (dk_at dksX11_adds_0 5 rfl rfl)
theorem dX11_adds_8 : decode cX11_adds 8 = .ok (.iload_n 1, 1) := dk_27 (dk_at dksX11_adds_0 8 rfl rfl)
theorem dX11_adds_9 : decode cX11_adds 9 = .ok (.iastore, 1) := dk_79 (dk_at dksX11_adds_0 9 rfl rfl)
theorem dX11_adds_10 : decode cX11_adds 10 = .ok (.aload_n 0, 1) := dk_42 (dk_at dksX11_adds_0 10 rfl rfl)
theorem dX11_adds_11 : decode cX11_adds 11 = .ok (.getfield 15, 3) := dk_180 0 15 (dk_at dksX11_adds_0 11 rfl rfl)
theorem dX11_adds_14 : decode cX11_adds 14 = .ok (.aload_n 0, 1) := dk_42 (dk_at dksX11_adds_0 14 rfl rfl)
theorem dX11_adds_15 : decode cX11_adds 15 = .ok (.getfield 18, 3) := dk_180 0 18 (dk_at dksX11_adds_0 15 rfl rfl)
theorem dX11_adds_18 : decode cX11_adds 18 = .ok (.iload_n 2, 1) := dk_28 (dk_at dksX11_adds_0 18 rfl rfl)
theorem dX11_adds_19 : decode cX11_adds 19 = .ok (.iastore, 1) := dk_79 (dk_at dksX11_adds_0 19 rfl rfl)
theorem dX11_adds_20 : decode cX11_adds 20 = .ok (.aload_n 0, 1) := dk_42 (dk_at dksX11_adds_0 20 rfl rfl)
theorem dX11_adds_21 : decode cX11_adds 21 = .ok (.dup, 1) := dk_89 (dk_at dksX11_adds_0 21 rfl rfl)
theorem dX11_adds_22 : decode cX11_adds 22 = .ok (.getfield 18, 3) := dk_180 0 18 (dk_at dksX11_adds_1 0 rfl rfl)
theorem dX11_adds_25 : decode cX11_adds 25 = .ok (.iconst 1, 1) := dk_4 (dk_at dksX11_adds_1 3 rfl rfl)
theorem dX11_adds_26 : decode cX11_adds 26 = .ok (.iadd, 1) := dk_96 (dk_at dksX11_adds_1 4 rfl rfl)
theorem dX11_adds_27 : decode cX11_adds 27 = .ok (.putfield 18, 3) := dk_181 0 18 (dk_at dksX11_adds_1 5 rfl rfl)
theorem dX11_adds_30 : decode cX11_adds 30 = .ok (.return_, 1) := dk_177 (dk_at dksX11_adds_1 8 rfl rfl)
abbrev cX11_of : ByteArray := prog_18_method_3_code
def yX11_of : MethodName := ⟨RX11, "of", "(I)I"⟩
def dkwX11_of_4 : List UInt8 := [167, 255, 180, 3, 172]
abbrev dktX11_of_4 : List UInt8 := dkwX11_of_4 ++ []
def dkwX11_of_3 : List UInt8 := [100, 104, 42, 180, 0, 9, 28, 46, 42, 180, 0, 9, 28, 4, 100, 46, 100, 108, 100, 172, 132, 2, 1]
abbrev dktX11_of_3 : List UInt8 := dkwX11_of_3 ++ dktX11_of_4
def dkwX11_of_2 : List UInt8 := [42, 180, 0, 15, 28, 4, 100, 46, 42, 180, 0, 15, 28, 46, 100, 27, 42, 180, 0, 9, 28, 4, 100, 46]
abbrev dktX11_of_2 : List UInt8 := dkwX11_of_2 ++ dktX11_of_3
def dkwX11_of_1 : List UInt8 := [162, 0, 74, 27, 42, 180, 0, 9, 28, 46, 164, 0, 6, 167, 0, 55, 42, 180, 0, 15, 28, 4, 100, 46]
abbrev dktX11_of_1 : List UInt8 := dkwX11_of_1 ++ dktX11_of_2
def dkwX11_of_0 : List UInt8 := [27, 42, 180, 0, 9, 3, 46, 163, 0, 10, 42, 180, 0, 15, 3, 46, 172, 4, 61, 28, 42, 180, 0, 18]
abbrev dktX11_of_0 : List UInt8 := dkwX11_of_0 ++ dktX11_of_1
theorem dksX11_of_0 : cX11_of.data.toList.drop 0 = dktX11_of_0 := by decide +kernel
theorem dksX11_of_1 : cX11_of.data.toList.drop 24 = dktX11_of_1 := dk_seg dksX11_of_0 24 rfl rfl
theorem dksX11_of_2 : cX11_of.data.toList.drop 48 = dktX11_of_2 := dk_seg dksX11_of_1 24 rfl rfl
theorem dksX11_of_3 : cX11_of.data.toList.drop 72 = dktX11_of_3 := dk_seg dksX11_of_2 24 rfl rfl
theorem dksX11_of_4 : cX11_of.data.toList.drop 95 = dktX11_of_4 := dk_seg dksX11_of_3 23 rfl rfl
theorem dX11_of_0 : decode cX11_of 0 = .ok (.iload_n 1, 1) := dk_27 (dk_at dksX11_of_0 0 rfl rfl)
theorem dX11_of_1 : decode cX11_of 1 = .ok (.aload_n 0, 1) := dk_42 (dk_at dksX11_of_0 1 rfl rfl)
theorem dX11_of_2 : decode cX11_of 2 = .ok (.getfield 9, 3) := dk_180 0 9 (dk_at dksX11_of_0 2 rfl rfl)
theorem dX11_of_5 : decode cX11_of 5 = .ok (.iconst 0, 1) := dk_3 (dk_at dksX11_of_0 5 rfl rfl)
theorem dX11_of_6 : decode cX11_of 6 = .ok (.iaload, 1) := dk_46 (dk_at dksX11_of_0 6 rfl rfl)
theorem dX11_of_7 : decode cX11_of 7 = .ok (.if_icmp .gt 10, 3) := dk_163 0 10 (dk_at dksX11_of_0 7 rfl rfl)
theorem dX11_of_10 : decode cX11_of 10 = .ok (.aload_n 0, 1) := dk_42 (dk_at dksX11_of_0 10 rfl rfl)
theorem dX11_of_11 : decode cX11_of 11 = .ok (.getfield 15, 3) := dk_180 0 15 (dk_at dksX11_of_0 11 rfl rfl)
theorem dX11_of_14 : decode cX11_of 14 = .ok (.iconst 0, 1) := dk_3 (dk_at dksX11_of_0 14 rfl rfl)
theorem dX11_of_15 : decode cX11_of 15 = .ok (.iaload, 1) := dk_46 (dk_at dksX11_of_0 15 rfl rfl)
theorem dX11_of_16 : decode cX11_of 16 = .ok (.ireturn, 1) := dk_172 (dk_at dksX11_of_0 16 rfl rfl)
theorem dX11_of_17 : decode cX11_of 17 = .ok (.iconst 1, 1) := dk_4 (dk_at dksX11_of_0 17 rfl rfl)
theorem dX11_of_18 : decode cX11_of 18 = .ok (.istore_n 2, 1) := dk_61 (dk_at dksX11_of_0 18 rfl rfl)
theorem dX11_of_19 : decode cX11_of 19 = .ok (.iload_n 2, 1) := dk_28 (dk_at dksX11_of_0 19 rfl rfl)
theorem dX11_of_20 : decode cX11_of 20 = .ok (.aload_n 0, 1) := dk_42 (dk_at dksX11_of_0 20 rfl rfl)
theorem dX11_of_21 : decode cX11_of 21 = .ok (.getfield 18, 3) := dk_180 0 18 (dk_at dksX11_of_0 21 rfl rfl)
theorem dX11_of_24 : decode cX11_of 24 = .ok (.if_icmp .ge 74, 3) := dk_162 0 74 (dk_at dksX11_of_1 0 rfl rfl)
theorem dX11_of_27 : decode cX11_of 27 = .ok (.iload_n 1, 1) := dk_27 (dk_at dksX11_of_1 3 rfl rfl)
theorem dX11_of_28 : decode cX11_of 28 = .ok (.aload_n 0, 1) := dk_42 (dk_at dksX11_of_1 4 rfl rfl)
theorem dX11_of_29 : decode cX11_of 29 = .ok (.getfield 9, 3) := dk_180 0 9 (dk_at dksX11_of_1 5 rfl rfl)
theorem dX11_of_32 : decode cX11_of 32 = .ok (.iload_n 2, 1) := dk_28 (dk_at dksX11_of_1 8 rfl rfl)
theorem dX11_of_33 : decode cX11_of 33 = .ok (.iaload, 1) := dk_46 (dk_at dksX11_of_1 9 rfl rfl)
theorem dX11_of_34 : decode cX11_of 34 = .ok (.if_icmp .le 6, 3) := dk_164 0 6 (dk_at dksX11_of_1 10 rfl rfl)
theorem dX11_of_37 : decode cX11_of 37 = .ok (.goto 55, 3) := dk_167 0 55 (dk_at dksX11_of_1 13 rfl rfl)
theorem dX11_of_40 : decode cX11_of 40 = .ok (.aload_n 0, 1) := dk_42 (dk_at dksX11_of_1 16 rfl rfl)
theorem dX11_of_41 : decode cX11_of 41 = .ok (.getfield 15, 3) := dk_180 0 15 (dk_at dksX11_of_1 17 rfl rfl)
theorem dX11_of_44 : decode cX11_of 44 = .ok (.iload_n 2, 1) := dk_28 (dk_at dksX11_of_1 20 rfl rfl)
theorem dX11_of_45 : decode cX11_of 45 = .ok (.iconst 1, 1) := dk_4 (dk_at dksX11_of_1 21 rfl rfl)
theorem dX11_of_46 : decode cX11_of 46 = .ok (.isub, 1) := dk_100 (dk_at dksX11_of_1 22 rfl rfl)
theorem dX11_of_47 : decode cX11_of 47 = .ok (.iaload, 1) := dk_46 (dk_at dksX11_of_1 23 rfl rfl)
theorem dX11_of_48 : decode cX11_of 48 = .ok (.aload_n 0, 1) := dk_42 (dk_at dksX11_of_2 0 rfl rfl)
theorem dX11_of_49 : decode cX11_of 49 = .ok (.getfield 15, 3) := dk_180 0 15 (dk_at dksX11_of_2 1 rfl rfl)
theorem dX11_of_52 : decode cX11_of 52 = .ok (.iload_n 2, 1) := dk_28 (dk_at dksX11_of_2 4 rfl rfl)
theorem dX11_of_53 : decode cX11_of 53 = .ok (.iconst 1, 1) := dk_4 (dk_at dksX11_of_2 5 rfl rfl)
theorem dX11_of_54 : decode cX11_of 54 = .ok (.isub, 1) := dk_100 (dk_at dksX11_of_2 6 rfl rfl)
theorem dX11_of_55 : decode cX11_of 55 = .ok (.iaload, 1) := dk_46 (dk_at dksX11_of_2 7 rfl rfl)
theorem dX11_of_56 : decode cX11_of 56 = .ok (.aload_n 0, 1) := dk_42 (dk_at dksX11_of_2 8 rfl rfl)
theorem dX11_of_57 : decode cX11_of 57 = .ok (.getfield 15, 3) := dk_180 0 15 (dk_at dksX11_of_2 9 rfl rfl)
theorem dX11_of_60 : decode cX11_of 60 = .ok (.iload_n 2, 1) := dk_28 (dk_at dksX11_of_2 12 rfl rfl)
theorem dX11_of_61 : decode cX11_of 61 = .ok (.iaload, 1) := dk_46 (dk_at dksX11_of_2 13 rfl rfl)
theorem dX11_of_62 : decode cX11_of 62 = .ok (.isub, 1) := dk_100 (dk_at dksX11_of_2 14 rfl rfl)
theorem dX11_of_63 : decode cX11_of 63 = .ok (.iload_n 1, 1) := dk_27 (dk_at dksX11_of_2 15 rfl rfl)
theorem dX11_of_64 : decode cX11_of 64 = .ok (.aload_n 0, 1) := dk_42 (dk_at dksX11_of_2 16 rfl rfl)
theorem dX11_of_65 : decode cX11_of 65 = .ok (.getfield 9, 3) := dk_180 0 9 (dk_at dksX11_of_2 17 rfl rfl)
theorem dX11_of_68 : decode cX11_of 68 = .ok (.iload_n 2, 1) := dk_28 (dk_at dksX11_of_2 20 rfl rfl)
theorem dX11_of_69 : decode cX11_of 69 = .ok (.iconst 1, 1) := dk_4 (dk_at dksX11_of_2 21 rfl rfl)
theorem dX11_of_70 : decode cX11_of 70 = .ok (.isub, 1) := dk_100 (dk_at dksX11_of_2 22 rfl rfl)
theorem dX11_of_71 : decode cX11_of 71 = .ok (.iaload, 1) := dk_46 (dk_at dksX11_of_2 23 rfl rfl)
theorem dX11_of_72 : decode cX11_of 72 = .ok (.isub, 1) := dk_100 (dk_at dksX11_of_3 0 rfl rfl)
theorem dX11_of_73 : decode cX11_of 73 = .ok (.imul, 1) := dk_104 (dk_at dksX11_of_3 1 rfl rfl)
theorem dX11_of_74 : decode cX11_of 74 = .ok (.aload_n 0, 1) := dk_42 (dk_at dksX11_of_3 2 rfl rfl)
theorem dX11_of_75 : decode cX11_of 75 = .ok (.getfield 9, 3) := dk_180 0 9 (dk_at dksX11_of_3 3 rfl rfl)
theorem dX11_of_78 : decode cX11_of 78 = .ok (.iload_n 2, 1) := dk_28 (dk_at dksX11_of_3 6 rfl rfl)
theorem dX11_of_79 : decode cX11_of 79 = .ok (.iaload, 1) := dk_46 (dk_at dksX11_of_3 7 rfl rfl)
theorem dX11_of_80 : decode cX11_of 80 = .ok (.aload_n 0, 1) := dk_42 (dk_at dksX11_of_3 8 rfl rfl)
theorem dX11_of_81 : decode cX11_of 81 = .ok (.getfield 9, 3) := dk_180 0 9 (dk_at dksX11_of_3 9 rfl rfl)
theorem dX11_of_84 : decode cX11_of 84 = .ok (.iload_n 2, 1) := dk_28 (dk_at dksX11_of_3 12 rfl rfl)
theorem dX11_of_85 : decode cX11_of 85 = .ok (.iconst 1, 1) := dk_4 (dk_at dksX11_of_3 13 rfl rfl)
theorem dX11_of_86 : decode cX11_of 86 = .ok (.isub, 1) := dk_100 (dk_at dksX11_of_3 14 rfl rfl)
theorem dX11_of_87 : decode cX11_of 87 = .ok (.iaload, 1) := dk_46 (dk_at dksX11_of_3 15 rfl rfl)
theorem dX11_of_88 : decode cX11_of 88 = .ok (.isub, 1) := dk_100 (dk_at dksX11_of_3 16 rfl rfl)
theorem dX11_of_89 : decode cX11_of 89 = .ok (.idiv, 1) := dk_108 (dk_at dksX11_of_3 17 rfl rfl)
theorem dX11_of_90 : decode cX11_of 90 = .ok (.isub, 1) := dk_100 (dk_at dksX11_of_3 18 rfl rfl)
theorem dX11_of_91 : decode cX11_of 91 = .ok (.ireturn, 1) := dk_172 (dk_at dksX11_of_3 19 rfl rfl)
theorem dX11_of_92 : decode cX11_of 92 = .ok (.iinc 2 1, 3) := dk_132 2 1 (dk_at dksX11_of_3 20 rfl rfl)
theorem dX11_of_95 : decode cX11_of 95 = .ok (.goto (-76), 3) := dk_167 255 180 (dk_at dksX11_of_4 0 rfl rfl)
theorem dX11_of_98 : decode cX11_of 98 = .ok (.iconst 0, 1) := dk_3 (dk_at dksX11_of_4 3 rfl rfl)
theorem dX11_of_99 : decode cX11_of 99 = .ok (.ireturn, 1) := dk_172 (dk_at dksX11_of_4 4 rfl rfl)
theorem q125 : (Jvm.Cond.initialized "NextLoad$Table") ∈ lw_all := lw_g (lw_at lw_m1 16 rfl) rfl
theorem q500 : (Jvm.Cond.instantiable "NextLoad$Table" (3 : Nat)) ∈ lw_all := lw_g (lw_at lw_m2 151 rfl) rfl
theorem q502 : (Jvm.Cond.instanceMethod ({ cls := "NextLoad$Table", name := "<init>", desc := "()V" } : Jvm.MethodName)) ∈ lw_all := lw_g (lw_at lw_m2 153 rfl) rfl
theorem q503 : (Jvm.Cond.code ({ cls := "NextLoad$Table", name := "<init>", desc := "()V" } : Jvm.MethodName) prog_18_method_1_code (1 : Nat) (Option.none : Option Jvm.ClassFile.FieldType)) ∈ lw_all := lw_g (lw_at lw_m2 154 rfl) rfl
theorem q504 : (Jvm.Cond.methodLink "NextLoad$Table" (3 : Nat) ({ cls := "java/lang/Object", name := "<init>", desc := "()V" } : Jvm.MethodName)) ∈ lw_all := lw_g (lw_at lw_m2 155 rfl) rfl
theorem q505 : (Jvm.Cond.fieldLink "NextLoad$Table" (9 : Nat) "NextLoad$Table" "load" "[I") ∈ lw_all := lw_g (lw_at lw_m2 156 rfl) rfl
theorem q506 : (Jvm.Cond.fieldLink "NextLoad$Table" (15 : Nat) "NextLoad$Table" "odds" "[I") ∈ lw_all := lw_g (lw_at lw_m2 157 rfl) rfl
theorem q507 : (Jvm.Cond.fieldLink "NextLoad$Table" (18 : Nat) "NextLoad$Table" "many" "I") ∈ lw_all := lw_g (lw_at lw_m2 158 rfl) rfl
theorem q509 : (Jvm.Cond.laysFinal "NextLoad$Table" "NextLoad$Table" "load" "[I") ∈ lw_all := lw_g (lw_at lw_m2 160 rfl) rfl
theorem q510 : (Jvm.Cond.soleField "NextLoad$Table" "load") ∈ lw_all := lw_g (lw_at lw_m2 161 rfl) rfl
theorem q511 : (Jvm.Cond.laysFinal "NextLoad$Table" "NextLoad$Table" "odds" "[I") ∈ lw_all := lw_g (lw_at lw_m2 162 rfl) rfl
theorem q512 : (Jvm.Cond.soleField "NextLoad$Table" "odds") ∈ lw_all := lw_g (lw_at lw_m2 163 rfl) rfl
theorem q513 : (Jvm.Cond.lays "NextLoad$Table" "NextLoad$Table" "many" "I") ∈ lw_all := lw_g (lw_at lw_m2 164 rfl) rfl
theorem q514 : (Jvm.Cond.soleField "NextLoad$Table" "many") ∈ lw_all := lw_g (lw_at lw_m2 165 rfl) rfl
theorem q515 : (Jvm.Cond.superclass "NextLoad$Table" "java/lang/Object") ∈ lw_all := lw_g (lw_at lw_m2 166 rfl) rfl
theorem q640 : (Jvm.Cond.instanceMethod ({ cls := "NextLoad$Table", name := "adds", desc := "(II)V" } : Jvm.MethodName)) ∈ lw_all := lw_g (lw_at lw_m3 51 rfl) rfl
theorem q641 : (Jvm.Cond.selects "NextLoad$Table" ({ cls := "NextLoad$Table", name := "adds", desc := "(II)V" } : Jvm.MethodName) ({ cls := "NextLoad$Table", name := "adds", desc := "(II)V" } : Jvm.MethodName)) ∈ lw_all := lw_g (lw_at lw_m3 52 rfl) rfl
theorem q642 : (Jvm.Cond.code ({ cls := "NextLoad$Table", name := "adds", desc := "(II)V" } : Jvm.MethodName) prog_18_method_2_code (3 : Nat) (Option.none : Option Jvm.ClassFile.FieldType)) ∈ lw_all := lw_g (lw_at lw_m3 53 rfl) rfl
theorem q692 : (Jvm.Cond.selects "NextLoad$Table" ({ cls := "java/lang/Object", name := "getClass", desc := "()Ljava/lang/Class;" } : Jvm.MethodName) ({ cls := "java/lang/Object", name := "getClass", desc := "()Ljava/lang/Class;" } : Jvm.MethodName)) ∈ lw_all := lw_g (lw_at lw_m3 103 rfl) rfl
theorem q769 : (Jvm.Cond.instanceMethod ({ cls := "NextLoad$Table", name := "of", desc := "(I)I" } : Jvm.MethodName)) ∈ lw_all := lw_g (lw_at lw_m3 180 rfl) rfl
theorem q770 : (Jvm.Cond.selects "NextLoad$Table" ({ cls := "NextLoad$Table", name := "of", desc := "(I)I" } : Jvm.MethodName) ({ cls := "NextLoad$Table", name := "of", desc := "(I)I" } : Jvm.MethodName)) ∈ lw_all := lw_g (lw_at lw_m3 181 rfl) rfl
theorem q771 : (Jvm.Cond.code ({ cls := "NextLoad$Table", name := "of", desc := "(I)I" } : Jvm.MethodName) prog_18_method_3_code (3 : Nat) (Option.some Jvm.ClassFile.FieldType.int)) ∈ lw_all := lw_g (lw_at lw_m3 182 rfl) rfl
theorem q1931 : (Jvm.Cond.castable "NextLoad$Table" "java/lang/Object") ∈ lw_tbl := lw_at lw_m8 142 rfl
theorem in_X11 : ∀ w ∈ wsX110, w ∈ lw_all := lw_in wsX110 [509, 511, 513] (by decide +kernel) (by decide +kernel)

/-! NextLoad$Fault -/
set_option maxRecDepth 100000
def RX12 : String := "NextLoad$Fault"
def TX12 : u_T := fun k => match k with
  | 0 => ("java/lang/Throwable", "cause", "Ljava/lang/Throwable;", false)
  | 1 => ("java/lang/Throwable", "stackTrace", "[Ljava/lang/StackTraceElement;", false)
  | 2 => ("java/lang/Throwable", "suppressedExceptions", "Ljava/util/List;", false)
  | 3 => ("java/lang/Throwable", "detailMessage", "Ljava/lang/String;", false)
  | 4 => ("java/lang/Throwable", "backtrace", "Ljava/lang/Object;", false)
  | 5 => ("java/lang/Throwable", "depth", "I", false)
  | _ => ("NextLoad$Fault", "place", "I", true)
def tyX12 : Nat → FieldType := fun k => match k with
  | 0 => .object "java/lang/Throwable"
  | 1 => .array (.object "java/lang/StackTraceElement")
  | 2 => .object "java/util/List"
  | 3 => .object "java/lang/String"
  | 4 => .object "java/lang/Object"
  | 5 => .int
  | _ => .int
abbrev wsX120 : List Cond := u_ws RX12 TX12 7
theorem nmX12 : ∀ a, a < 7 → ∀ b, b < 7 → a ≠ b → (TX12 a).2.1 ≠ (TX12 b).2.1 := by decide +kernel
theorem tyX12_ok : ∀ k, k < 7 → parseFieldDescriptor (TX12 k).2.2.1 = some (tyX12 k) := by decide +kernel
abbrev cX12_init : ByteArray := prog_5_method_1_code
def yX12_init : MethodName := ⟨RX12, "<init>", "(I)V"⟩
def dkwX12_init_0 : List UInt8 := [42, 1, 1, 3, 3, 183, 0, 1, 42, 27, 181, 0, 7, 177]
abbrev dktX12_init_0 : List UInt8 := dkwX12_init_0 ++ []
theorem dksX12_init_0 : cX12_init.data.toList.drop 0 = dktX12_init_0 := by decide +kernel
theorem dX12_init_0 : decode cX12_init 0 = .ok (.aload_n 0, 1) := dk_42 (dk_at dksX12_init_0 0 rfl rfl)
theorem dX12_init_1 : decode cX12_init 1 = .ok (.aconst_null, 1) := dk_1 (dk_at dksX12_init_0 1 rfl rfl)
theorem dX12_init_2 : decode cX12_init 2 = .ok (.aconst_null, 1) := dk_1 (dk_at dksX12_init_0 2 rfl rfl)
theorem dX12_init_3 : decode cX12_init 3 = .ok (.iconst 0, 1) := dk_3 (dk_at dksX12_init_0 3 rfl rfl)
theorem dX12_init_4 : decode cX12_init 4 = .ok (.iconst 0, 1) := dk_3 (dk_at dksX12_init_0 4 rfl rfl)
theorem dX12_init_5 : decode cX12_init 5 = .ok (.invokespecial 1, 3) := dk_183 0 1 (dk_at dksX12_init_0 5 rfl rfl)
theorem dX12_init_8 : decode cX12_init 8 = .ok (.aload_n 0, 1) := dk_42 (dk_at dksX12_init_0 8 rfl rfl)
theorem dX12_init_9 : decode cX12_init 9 = .ok (.iload_n 1, 1) := dk_27 (dk_at dksX12_init_0 9 rfl rfl)
theorem dX12_init_10 : decode cX12_init 10 = .ok (.putfield 7, 3) := dk_181 0 7 (dk_at dksX12_init_0 10 rfl rfl)
theorem dX12_init_13 : decode cX12_init 13 = .ok (.return_, 1) := dk_177 (dk_at dksX12_init_0 13 rfl rfl)
theorem q128 : (Jvm.Cond.initialized "NextLoad$Fault") ∈ lw_all := lw_g (lw_at lw_m1 19 rfl) rfl
theorem q562 : (Jvm.Cond.instantiable "NextLoad$Fault" (7 : Nat)) ∈ lw_all := lw_g (lw_at lw_m2 213 rfl) rfl
theorem q563 : (Jvm.Cond.castable "NextLoad$Fault" "NextLoad$Fault") ∈ lw_tbl := lw_at lw_m2 214 rfl
theorem q568 : (Jvm.Cond.selects "NextLoad$Fault" ({ cls := "java/lang/Throwable", name := "fillInStackTrace", desc := "(I)Ljava/lang/Throwable;" } : Jvm.MethodName) ({ cls := "java/lang/Throwable", name := "fillInStackTrace", desc := "(I)Ljava/lang/Throwable;" } : Jvm.MethodName)) ∈ lw_all := lw_g (lw_at lw_m2 219 rfl) rfl
theorem q569 : (Jvm.Cond.selects "NextLoad$Fault" ({ cls := "java/lang/Throwable", name := "fillInStackTrace", desc := "()Ljava/lang/Throwable;" } : Jvm.MethodName) ({ cls := "java/lang/Throwable", name := "fillInStackTrace", desc := "()Ljava/lang/Throwable;" } : Jvm.MethodName)) ∈ lw_all := lw_g (lw_at lw_m2 220 rfl) rfl
theorem q570 : (Jvm.Cond.lays "NextLoad$Fault" "java/lang/Throwable" "cause" "Ljava/lang/Throwable;") ∈ lw_all := lw_g (lw_at lw_m2 221 rfl) rfl
theorem q572 : (Jvm.Cond.lays "NextLoad$Fault" "java/lang/Throwable" "stackTrace" "[Ljava/lang/StackTraceElement;") ∈ lw_all := lw_g (lw_at lw_m2 223 rfl) rfl
theorem q574 : (Jvm.Cond.lays "NextLoad$Fault" "java/lang/Throwable" "suppressedExceptions" "Ljava/util/List;") ∈ lw_all := lw_g (lw_at lw_m2 225 rfl) rfl
theorem q576 : (Jvm.Cond.lays "NextLoad$Fault" "java/lang/Throwable" "detailMessage" "Ljava/lang/String;") ∈ lw_all := lw_g (lw_at lw_m2 227 rfl) rfl
theorem q578 : (Jvm.Cond.lays "NextLoad$Fault" "java/lang/Throwable" "backtrace" "Ljava/lang/Object;") ∈ lw_all := lw_g (lw_at lw_m2 229 rfl) rfl
theorem q600 : (Jvm.Cond.instanceMethod ({ cls := "NextLoad$Fault", name := "<init>", desc := "(I)V" } : Jvm.MethodName)) ∈ lw_all := lw_g (lw_at lw_m3 11 rfl) rfl
theorem q601 : (Jvm.Cond.code ({ cls := "NextLoad$Fault", name := "<init>", desc := "(I)V" } : Jvm.MethodName) prog_5_method_1_code (2 : Nat) (Option.none : Option Jvm.ClassFile.FieldType)) ∈ lw_all := lw_g (lw_at lw_m3 12 rfl) rfl
theorem q602 : (Jvm.Cond.methodLink "NextLoad$Fault" (1 : Nat) ({ cls := "java/lang/Exception", name := "<init>", desc := "(Ljava/lang/String;Ljava/lang/Throwable;ZZ)V" } : Jvm.MethodName)) ∈ lw_all := lw_g (lw_at lw_m3 13 rfl) rfl
theorem q608 : (Jvm.Cond.fieldLink "NextLoad$Fault" (7 : Nat) "NextLoad$Fault" "place" "I") ∈ lw_all := lw_g (lw_at lw_m3 19 rfl) rfl
theorem q615 : (Jvm.Cond.laysFinal "NextLoad$Fault" "NextLoad$Fault" "place" "I") ∈ lw_all := lw_g (lw_at lw_m3 26 rfl) rfl
theorem q616 : (Jvm.Cond.soleField "NextLoad$Fault" "place") ∈ lw_all := lw_g (lw_at lw_m3 27 rfl) rfl
theorem q621 : (Jvm.Cond.lays "NextLoad$Fault" "java/lang/Throwable" "depth" "I") ∈ lw_all := lw_g (lw_at lw_m3 32 rfl) rfl
theorem q624 : (Jvm.Cond.superclass "NextLoad$Fault" "java/lang/Exception") ∈ lw_all := lw_g (lw_at lw_m3 35 rfl) rfl
theorem q681 : (Jvm.Cond.selects "NextLoad$Fault" ({ cls := "java/lang/Object", name := "getClass", desc := "()Ljava/lang/Class;" } : Jvm.MethodName) ({ cls := "java/lang/Object", name := "getClass", desc := "()Ljava/lang/Class;" } : Jvm.MethodName)) ∈ lw_all := lw_g (lw_at lw_m3 92 rfl) rfl
theorem q1942 : (Jvm.Cond.castable "NextLoad$Fault" "java/lang/Object") ∈ lw_tbl := lw_at lw_m8 153 rfl
theorem in_X12 : ∀ w ∈ wsX120, w ∈ lw_all := lw_in wsX120 [570, 572, 574, 576, 578, 621, 615] (by decide +kernel) (by decide +kernel)

/-! NextLoad$Result -/
set_option maxRecDepth 100000
def RX13 : String := "NextLoad$Result"
abbrev cX13_of : ByteArray := prog_14_method_8_code
def yX13_of : MethodName := ⟨RX13, "of", "(Z)LNextLoad$Result;"⟩
def dkwX13_of_0 : List UInt8 := [26, 153, 0, 9, 178, 0, 3, 167, 0, 6, 178, 0, 7, 176]
abbrev dktX13_of_0 : List UInt8 := dkwX13_of_0 ++ []
theorem dksX13_of_0 : cX13_of.data.toList.drop 0 = dktX13_of_0 := by decide +kernel
theorem dX13_of_0 : decode cX13_of 0 = .ok (.iload_n 0, 1) := dk_26 (dk_at dksX13_of_0 0 rfl rfl)
theorem dX13_of_1 : decode cX13_of 1 = .ok (.ifCond .eq 9, 3) := dk_153 0 9 (dk_at dksX13_of_0 1 rfl rfl)
theorem dX13_of_4 : decode cX13_of 4 = .ok (.getstatic 3, 3) := dk_178 0 3 (dk_at dksX13_of_0 4 rfl rfl)
theorem dX13_of_7 : decode cX13_of 7 = .ok (.goto 6, 3) := dk_167 0 6 (dk_at dksX13_of_0 7 rfl rfl)
theorem dX13_of_10 : decode cX13_of 10 = .ok (.getstatic 7, 3) := dk_178 0 7 (dk_at dksX13_of_0 10 rfl rfl)
theorem dX13_of_13 : decode cX13_of 13 = .ok (.areturn, 1) := dk_176 (dk_at dksX13_of_0 13 rfl rfl)
abbrev cX13_failed : ByteArray := prog_14_method_7_code
def yX13_failed : MethodName := ⟨RX13, "failed", "()I"⟩
theorem dX13_failed_0 : decode cX13_failed 0 = .ok (.aload_n 0, 1) := by decide +kernel
theorem dX13_failed_1 : decode cX13_failed 1 = .ok (.invokevirtual 29, 3) := by decide +kernel
theorem dX13_failed_4 : decode cX13_failed 4 = .ok (.ireturn, 1) := by decide +kernel
theorem q134 : (Jvm.Cond.initialized "NextLoad$Result") ∈ lw_all := lw_g (lw_at lw_m1 25 rfl) rfl
theorem q841 : (Jvm.Cond.static ({ cls := "NextLoad$Result", name := "of", desc := "(Z)LNextLoad$Result;" } : Jvm.MethodName)) ∈ lw_all := lw_g (lw_at lw_m4 12 rfl) rfl
theorem q842 : (Jvm.Cond.code ({ cls := "NextLoad$Result", name := "of", desc := "(Z)LNextLoad$Result;" } : Jvm.MethodName) prog_14_method_8_code (1 : Nat) (Option.some (Jvm.ClassFile.FieldType.object "NextLoad$Result"))) ∈ lw_all := lw_g (lw_at lw_m4 13 rfl) rfl
theorem q843 : (Jvm.Cond.fieldLink "NextLoad$Result" (3 : Nat) "NextLoad$Result" "GOOD" "LNextLoad$Result;") ∈ lw_all := lw_g (lw_at lw_m4 14 rfl) rfl
theorem q844 : (Jvm.Cond.laysStatic "NextLoad$Result" "GOOD" "LNextLoad$Result;") ∈ lw_tbl := lw_at lw_m4 15 rfl
theorem q845 : (Jvm.Cond.fieldLink "NextLoad$Result" (7 : Nat) "NextLoad$Result" "FAILED" "LNextLoad$Result;") ∈ lw_all := lw_g (lw_at lw_m4 16 rfl) rfl
theorem q846 : (Jvm.Cond.laysStatic "NextLoad$Result" "FAILED" "LNextLoad$Result;") ∈ lw_tbl := lw_at lw_m4 17 rfl
theorem q858 : (Jvm.Cond.declares ({ cls := "NextLoad$Result", name := "best", desc := "(II)I" } : Jvm.MethodName)) ∈ lw_tbl := lw_at lw_m4 29 rfl
theorem q859 : (Jvm.Cond.sameMethod "NextLoad$Result" "NextLoad$Result" "best" "(II)I") ∈ lw_all := lw_g (lw_at lw_m4 30 rfl) rfl
theorem q867 : (Jvm.Cond.declares ({ cls := "NextLoad$Result", name := "least", desc := "(I)I" } : Jvm.MethodName)) ∈ lw_tbl := lw_at lw_m4 38 rfl
theorem q868 : (Jvm.Cond.sameMethod "NextLoad$Result" "NextLoad$Result" "least" "(I)I") ∈ lw_all := lw_g (lw_at lw_m4 39 rfl) rfl
theorem q876 : (Jvm.Cond.instanceMethod ({ cls := "NextLoad$Result", name := "failed", desc := "()I" } : Jvm.MethodName)) ∈ lw_all := lw_g (lw_at lw_m4 47 rfl) rfl
theorem q877 : (Jvm.Cond.sameMethod "NextLoad$Result" "NextLoad$Result" "failed" "()I") ∈ lw_all := lw_g (lw_at lw_m4 48 rfl) rfl
theorem q880 : (Jvm.Cond.code ({ cls := "NextLoad$Result", name := "failed", desc := "()I" } : Jvm.MethodName) prog_14_method_7_code (1 : Nat) (Option.some Jvm.ClassFile.FieldType.int)) ∈ lw_all := lw_g (lw_at lw_m4 51 rfl) rfl
theorem q881 : (Jvm.Cond.methodLink "NextLoad$Result" (29 : Nat) ({ cls := "NextLoad$Result", name := "ordinal", desc := "()I" } : Jvm.MethodName)) ∈ lw_all := lw_g (lw_at lw_m4 52 rfl) rfl
theorem q882 : (Jvm.Cond.sameMethod "NextLoad$Result" "java/lang/Enum" "ordinal" "()I") ∈ lw_all := lw_g (lw_at lw_m4 53 rfl) rfl
theorem q889 : (Jvm.Cond.declares ({ cls := "NextLoad$Result", name := "asks", desc := "(LNextLoad$Lifter;II)I" } : Jvm.MethodName)) ∈ lw_tbl := lw_at lw_m4 60 rfl
theorem q890 : (Jvm.Cond.sameMethod "NextLoad$Result" "NextLoad$Result" "asks" "(LNextLoad$Lifter;II)I") ∈ lw_all := lw_g (lw_at lw_m4 61 rfl) rfl
theorem q1953 : (Jvm.Cond.castable "NextLoad$Result" "java/lang/Object") ∈ lw_tbl := lw_at lw_m8 164 rfl

/-! NextLoad$Mass -/
set_option maxRecDepth 100000
def RX14 : String := "NextLoad$Mass"
abbrev cX14_init : ByteArray := prog_9_method_1_code
def yX14_init : MethodName := ⟨RX14, "<init>", "()V"⟩
theorem dX14_init_0 : decode cX14_init 0 = .ok (.aload_n 0, 1) := by decide +kernel
theorem dX14_init_1 : decode cX14_init 1 = .ok (.invokespecial 1, 3) := by decide +kernel
theorem dX14_init_4 : decode cX14_init 4 = .ok (.return_, 1) := by decide +kernel
abbrev cX14_of : ByteArray := prog_9_method_2_code
def yX14_of : MethodName := ⟨RX14, "of", "(I)J"⟩
def dkwX14_of_0 : List UInt8 := [20, 0, 7, 27, 133, 105, 173]
abbrev dktX14_of_0 : List UInt8 := dkwX14_of_0 ++ []
theorem dksX14_of_0 : cX14_of.data.toList.drop 0 = dktX14_of_0 := by decide +kernel
theorem dX14_of_0 : decode cX14_of 0 = .ok (.ldc2_w 7, 3) := dk_20 0 7 (dk_at dksX14_of_0 0 rfl rfl)
theorem dX14_of_3 : decode cX14_of 3 = .ok (.iload_n 1, 1) := dk_27 (dk_at dksX14_of_0 3 rfl rfl)
theorem dX14_of_4 : decode cX14_of 4 = .ok (.i2l, 1) := dk_133 (dk_at dksX14_of_0 4 rfl rfl)
theorem dX14_of_5 : decode cX14_of 5 = .ok (.lmul, 1) := dk_105 (dk_at dksX14_of_0 5 rfl rfl)
theorem dX14_of_6 : decode cX14_of 6 = .ok (.lreturn, 1) := dk_173 (dk_at dksX14_of_0 6 rfl rfl)
theorem q136 : (Jvm.Cond.initialized "NextLoad$Mass") ∈ lw_all := lw_g (lw_at lw_m1 27 rfl) rfl
theorem q684 : (Jvm.Cond.selects "NextLoad$Mass" ({ cls := "java/lang/Object", name := "getClass", desc := "()Ljava/lang/Class;" } : Jvm.MethodName) ({ cls := "java/lang/Object", name := "getClass", desc := "()Ljava/lang/Class;" } : Jvm.MethodName)) ∈ lw_all := lw_g (lw_at lw_m3 95 rfl) rfl
theorem q948 : (Jvm.Cond.instantiable "NextLoad$Mass" (0 : Nat)) ∈ lw_all := lw_g (lw_at lw_m4 119 rfl) rfl
theorem q950 : (Jvm.Cond.instanceMethod ({ cls := "NextLoad$Mass", name := "<init>", desc := "()V" } : Jvm.MethodName)) ∈ lw_all := lw_g (lw_at lw_m4 121 rfl) rfl
theorem q951 : (Jvm.Cond.code ({ cls := "NextLoad$Mass", name := "<init>", desc := "()V" } : Jvm.MethodName) prog_9_method_1_code (1 : Nat) (Option.none : Option Jvm.ClassFile.FieldType)) ∈ lw_all := lw_g (lw_at lw_m4 122 rfl) rfl
theorem q952 : (Jvm.Cond.methodLink "NextLoad$Mass" (1 : Nat) ({ cls := "java/lang/Record", name := "<init>", desc := "()V" } : Jvm.MethodName)) ∈ lw_all := lw_g (lw_at lw_m4 123 rfl) rfl
theorem q956 : (Jvm.Cond.superclass "NextLoad$Mass" "java/lang/Record") ∈ lw_all := lw_g (lw_at lw_m4 127 rfl) rfl
theorem q984 : (Jvm.Cond.castable "NextLoad$Mass" "NextLoad$Aim") ∈ lw_tbl := lw_at lw_m4 155 rfl
theorem q985 : (Jvm.Cond.selects "NextLoad$Mass" ({ cls := "NextLoad$Aim", name := "of", desc := "(I)J" } : Jvm.MethodName) ({ cls := "NextLoad$Mass", name := "of", desc := "(I)J" } : Jvm.MethodName)) ∈ lw_all := lw_g (lw_at lw_m4 156 rfl) rfl
theorem q986 : (Jvm.Cond.unhidden "NextLoad$Mass" "of" "(I)J") ∈ lw_tbl := lw_at lw_m4 157 rfl
theorem q987 : (Jvm.Cond.instanceMethod ({ cls := "NextLoad$Mass", name := "of", desc := "(I)J" } : Jvm.MethodName)) ∈ lw_all := lw_g (lw_at lw_m4 158 rfl) rfl
theorem q988 : (Jvm.Cond.publicMethod ({ cls := "NextLoad$Mass", name := "of", desc := "(I)J" } : Jvm.MethodName)) ∈ lw_tbl := lw_at lw_m4 159 rfl
theorem q989 : (Jvm.Cond.code ({ cls := "NextLoad$Mass", name := "of", desc := "(I)J" } : Jvm.MethodName) prog_9_method_2_code (2 : Nat) (Option.some Jvm.ClassFile.FieldType.long)) ∈ lw_all := lw_g (lw_at lw_m4 160 rfl) rfl
theorem q990 : (Jvm.Cond.constantLong "NextLoad$Mass" (7 : Nat) (1000 : Int64)) ∈ lw_all := lw_g (lw_at lw_m4 161 rfl) rfl
theorem q1945 : (Jvm.Cond.castable "NextLoad$Mass" "java/lang/Object") ∈ lw_tbl := lw_at lw_m8 156 rfl

/-! NextLoad$Reach -/
set_option maxRecDepth 100000
def RX15 : String := "NextLoad$Reach"
def TX15 : u_T := fun k => match k with
  | _ => ("NextLoad$Reach", "total", "I", true)
def tyX15 : Nat → FieldType := fun k => match k with
  | _ => .int
abbrev wsX150 : List Cond := u_ws RX15 TX15 1
theorem nmX15 : ∀ a, a < 1 → ∀ b, b < 1 → a ≠ b → (TX15 a).2.1 ≠ (TX15 b).2.1 := by decide +kernel
theorem tyX15_ok : ∀ k, k < 1 → parseFieldDescriptor (TX15 k).2.2.1 = some (tyX15 k) := by decide +kernel
abbrev cX15_of : ByteArray := prog_12_method_2_code
def yX15_of : MethodName := ⟨RX15, "of", "(I)J"⟩
def dkwX15_of_0 : List UInt8 := [27, 42, 180, 0, 9, 161, 0, 9, 20, 0, 15, 167, 0, 4, 9, 173]
abbrev dktX15_of_0 : List UInt8 := dkwX15_of_0 ++ []
theorem dksX15_of_0 : cX15_of.data.toList.drop 0 = dktX15_of_0 := by decide +kernel
theorem dX15_of_0 : decode cX15_of 0 = .ok (.iload_n 1, 1) := dk_27 (dk_at dksX15_of_0 0 rfl rfl)
theorem dX15_of_1 : decode cX15_of 1 = .ok (.aload_n 0, 1) := dk_42 (dk_at dksX15_of_0 1 rfl rfl)
theorem dX15_of_2 : decode cX15_of 2 = .ok (.getfield 9, 3) := dk_180 0 9 (dk_at dksX15_of_0 2 rfl rfl)
theorem dX15_of_5 : decode cX15_of 5 = .ok (.if_icmp .lt 9, 3) := dk_161 0 9 (dk_at dksX15_of_0 5 rfl rfl)
theorem dX15_of_8 : decode cX15_of 8 = .ok (.ldc2_w 15, 3) := dk_20 0 15 (dk_at dksX15_of_0 8 rfl rfl)
theorem dX15_of_11 : decode cX15_of 11 = .ok (.goto 4, 3) := dk_167 0 4 (dk_at dksX15_of_0 11 rfl rfl)
theorem dX15_of_14 : decode cX15_of 14 = .ok (.lconst 0, 1) := dk_9 (dk_at dksX15_of_0 14 rfl rfl)
theorem dX15_of_15 : decode cX15_of 15 = .ok (.lreturn, 1) := dk_173 (dk_at dksX15_of_0 15 rfl rfl)
abbrev cX15_init : ByteArray := prog_12_method_1_code
def yX15_init : MethodName := ⟨RX15, "<init>", "(I)V"⟩
def dkwX15_init_0 : List UInt8 := [42, 183, 0, 3, 42, 27, 181, 0, 9, 177]
abbrev dktX15_init_0 : List UInt8 := dkwX15_init_0 ++ []
theorem dksX15_init_0 : cX15_init.data.toList.drop 0 = dktX15_init_0 := by decide +kernel
theorem dX15_init_0 : decode cX15_init 0 = .ok (.aload_n 0, 1) := dk_42 (dk_at dksX15_init_0 0 rfl rfl)
theorem dX15_init_1 : decode cX15_init 1 = .ok (.invokespecial 3, 3) := dk_183 0 3 (dk_at dksX15_init_0 1 rfl rfl)
theorem dX15_init_4 : decode cX15_init 4 = .ok (.aload_n 0, 1) := dk_42 (dk_at dksX15_init_0 4 rfl rfl)
theorem dX15_init_5 : decode cX15_init 5 = .ok (.iload_n 1, 1) := dk_27 (dk_at dksX15_init_0 5 rfl rfl)
theorem dX15_init_6 : decode cX15_init 6 = .ok (.putfield 9, 3) := dk_181 0 9 (dk_at dksX15_init_0 6 rfl rfl)
theorem dX15_init_9 : decode cX15_init 9 = .ok (.return_, 1) := dk_177 (dk_at dksX15_init_0 9 rfl rfl)
theorem q137 : (Jvm.Cond.initialized "NextLoad$Reach") ∈ lw_all := lw_g (lw_at lw_m1 28 rfl) rfl
theorem q687 : (Jvm.Cond.selects "NextLoad$Reach" ({ cls := "java/lang/Object", name := "getClass", desc := "()Ljava/lang/Class;" } : Jvm.MethodName) ({ cls := "java/lang/Object", name := "getClass", desc := "()Ljava/lang/Class;" } : Jvm.MethodName)) ∈ lw_all := lw_g (lw_at lw_m3 98 rfl) rfl
theorem q991 : (Jvm.Cond.castable "NextLoad$Reach" "NextLoad$Aim") ∈ lw_tbl := lw_at lw_m4 162 rfl
theorem q992 : (Jvm.Cond.selects "NextLoad$Reach" ({ cls := "NextLoad$Aim", name := "of", desc := "(I)J" } : Jvm.MethodName) ({ cls := "NextLoad$Reach", name := "of", desc := "(I)J" } : Jvm.MethodName)) ∈ lw_all := lw_g (lw_at lw_m4 163 rfl) rfl
theorem q993 : (Jvm.Cond.unhidden "NextLoad$Reach" "of" "(I)J") ∈ lw_tbl := lw_at lw_m4 164 rfl
theorem q994 : (Jvm.Cond.instanceMethod ({ cls := "NextLoad$Reach", name := "of", desc := "(I)J" } : Jvm.MethodName)) ∈ lw_all := lw_g (lw_at lw_m4 165 rfl) rfl
theorem q995 : (Jvm.Cond.publicMethod ({ cls := "NextLoad$Reach", name := "of", desc := "(I)J" } : Jvm.MethodName)) ∈ lw_tbl := lw_at lw_m4 166 rfl
theorem q996 : (Jvm.Cond.code ({ cls := "NextLoad$Reach", name := "of", desc := "(I)J" } : Jvm.MethodName) prog_12_method_2_code (2 : Nat) (Option.some Jvm.ClassFile.FieldType.long)) ∈ lw_all := lw_g (lw_at lw_m4 167 rfl) rfl
theorem q997 : (Jvm.Cond.constantLong "NextLoad$Reach" (15 : Nat) (1000000 : Int64)) ∈ lw_all := lw_g (lw_at lw_m4 168 rfl) rfl
theorem q1076 : (Jvm.Cond.instantiable "NextLoad$Reach" (1 : Nat)) ∈ lw_all := lw_g (lw_at lw_m5 7 rfl) rfl
theorem q1078 : (Jvm.Cond.instanceMethod ({ cls := "NextLoad$Reach", name := "<init>", desc := "(I)V" } : Jvm.MethodName)) ∈ lw_all := lw_g (lw_at lw_m5 9 rfl) rfl
theorem q1079 : (Jvm.Cond.code ({ cls := "NextLoad$Reach", name := "<init>", desc := "(I)V" } : Jvm.MethodName) prog_12_method_1_code (2 : Nat) (Option.none : Option Jvm.ClassFile.FieldType)) ∈ lw_all := lw_g (lw_at lw_m5 10 rfl) rfl
theorem q1080 : (Jvm.Cond.methodLink "NextLoad$Reach" (3 : Nat) ({ cls := "java/lang/Record", name := "<init>", desc := "()V" } : Jvm.MethodName)) ∈ lw_all := lw_g (lw_at lw_m5 11 rfl) rfl
theorem q1081 : (Jvm.Cond.fieldLink "NextLoad$Reach" (9 : Nat) "NextLoad$Reach" "total" "I") ∈ lw_all := lw_g (lw_at lw_m5 12 rfl) rfl
theorem q1082 : (Jvm.Cond.laysFinal "NextLoad$Reach" "NextLoad$Reach" "total" "I") ∈ lw_all := lw_g (lw_at lw_m5 13 rfl) rfl
theorem q1083 : (Jvm.Cond.soleField "NextLoad$Reach" "total") ∈ lw_all := lw_g (lw_at lw_m5 14 rfl) rfl
theorem q1084 : (Jvm.Cond.superclass "NextLoad$Reach" "java/lang/Record") ∈ lw_all := lw_g (lw_at lw_m5 15 rfl) rfl
theorem q1946 : (Jvm.Cond.castable "NextLoad$Reach" "java/lang/Object") ∈ lw_tbl := lw_at lw_m8 157 rfl
theorem in_X15 : ∀ w ∈ wsX150, w ∈ lw_all := lw_in wsX150 [1082] (by decide +kernel) (by decide +kernel)

/-! NextLoad$Beat -/
set_option maxRecDepth 100000
def RX16 : String := "NextLoad$Beat"
def TX16 : u_T := fun k => match k with
  | 0 => ("NextLoad$Beat", "chance", "[J", true)
  | _ => ("NextLoad$Beat", "isAheadByLike", "Z", true)
def tyX16 : Nat → FieldType := fun k => match k with
  | 0 => .array .long
  | _ => .boolean
abbrev wsX160 : List Cond := u_ws RX16 TX16 2
theorem nmX16 : ∀ a, a < 2 → ∀ b, b < 2 → a ≠ b → (TX16 a).2.1 ≠ (TX16 b).2.1 := by decide +kernel
theorem tyX16_ok : ∀ k, k < 2 → parseFieldDescriptor (TX16 k).2.2.1 = some (tyX16 k) := by decide +kernel
abbrev cX16_of : ByteArray := prog_3_method_2_code
def yX16_of : MethodName := ⟨RX16, "of", "(I)J"⟩
def dkwX16_of_1 : List UInt8 := [96, 167, 0, 4, 27, 47, 101, 173]
abbrev dktX16_of_1 : List UInt8 := dkwX16_of_1 ++ []
def dkwX16_of_0 : List UInt8 := [27, 154, 0, 7, 9, 167, 0, 26, 20, 0, 19, 42, 180, 0, 9, 42, 180, 0, 15, 153, 0, 9, 27, 4]
abbrev dktX16_of_0 : List UInt8 := dkwX16_of_0 ++ dktX16_of_1
theorem dksX16_of_0 : cX16_of.data.toList.drop 0 = dktX16_of_0 := by decide +kernel
theorem dksX16_of_1 : cX16_of.data.toList.drop 24 = dktX16_of_1 := dk_seg dksX16_of_0 24 rfl rfl
theorem dX16_of_0 : decode cX16_of 0 = .ok (.iload_n 1, 1) := dk_27 (dk_at dksX16_of_0 0 rfl rfl)
theorem dX16_of_1 : decode cX16_of 1 = .ok (.ifCond .ne 7, 3) := dk_154 0 7 (dk_at dksX16_of_0 1 rfl rfl)
theorem dX16_of_4 : decode cX16_of 4 = .ok (.lconst 0, 1) := dk_9 (dk_at dksX16_of_0 4 rfl rfl)
theorem dX16_of_5 : decode cX16_of 5 = .ok (.goto 26, 3) := dk_167 0 26 (dk_at dksX16_of_0 5 rfl rfl)
theorem dX16_of_8 : decode cX16_of 8 = .ok (.ldc2_w 19, 3) := dk_20 0 19 (dk_at dksX16_of_0 8 rfl rfl)
theorem dX16_of_11 : decode cX16_of 11 = .ok (.aload_n 0, 1) := dk_42 (dk_at dksX16_of_0 11 rfl rfl)
theorem dX16_of_12 : decode cX16_of 12 = .ok (.getfield 9, 3) := dk_180 0 9 (dk_at dksX16_of_0 12 rfl rfl)
theorem dX16_of_15 : decode cX16_of 15 = .ok (.aload_n 0, 1) := dk_42 (dk_at dksX16_of_0 15 rfl rfl)
theorem dX16_of_16 : decode cX16_of 16 = .ok (.getfield 15, 3) := dk_180 0 15 (dk_at dksX16_of_0 16 rfl rfl)
theorem dX16_of_19 : decode cX16_of 19 = .ok (.ifCond .eq 9, 3) := dk_153 0 9 (dk_at dksX16_of_0 19 rfl rfl)
theorem dX16_of_22 : decode cX16_of 22 = .ok (.iload_n 1, 1) := dk_27 (dk_at dksX16_of_0 22 rfl rfl)
theorem dX16_of_23 : decode cX16_of 23 = .ok (.iconst 1, 1) := dk_4 (dk_at dksX16_of_0 23 rfl rfl)
theorem dX16_of_24 : decode cX16_of 24 = .ok (.iadd, 1) := dk_96 (dk_at dksX16_of_1 0 rfl rfl)
theorem dX16_of_25 : decode cX16_of 25 = .ok (.goto 4, 3) := dk_167 0 4 (dk_at dksX16_of_1 1 rfl rfl)
theorem dX16_of_28 : decode cX16_of 28 = .ok (.iload_n 1, 1) := dk_27 (dk_at dksX16_of_1 4 rfl rfl)
theorem dX16_of_29 : decode cX16_of 29 = .ok (.laload, 1) := dk_47 (dk_at dksX16_of_1 5 rfl rfl)
theorem dX16_of_30 : decode cX16_of 30 = .ok (.lsub, 1) := dk_101 (dk_at dksX16_of_1 6 rfl rfl)
theorem dX16_of_31 : decode cX16_of 31 = .ok (.lreturn, 1) := dk_173 (dk_at dksX16_of_1 7 rfl rfl)
abbrev cX16_init : ByteArray := prog_3_method_1_code
def yX16_init : MethodName := ⟨RX16, "<init>", "([JZ)V"⟩
def dkwX16_init_0 : List UInt8 := [42, 183, 0, 3, 42, 43, 181, 0, 9, 42, 28, 181, 0, 15, 177]
abbrev dktX16_init_0 : List UInt8 := dkwX16_init_0 ++ []
theorem dksX16_init_0 : cX16_init.data.toList.drop 0 = dktX16_init_0 := by decide +kernel
theorem dX16_init_0 : decode cX16_init 0 = .ok (.aload_n 0, 1) := dk_42 (dk_at dksX16_init_0 0 rfl rfl)
theorem dX16_init_1 : decode cX16_init 1 = .ok (.invokespecial 3, 3) := dk_183 0 3 (dk_at dksX16_init_0 1 rfl rfl)
theorem dX16_init_4 : decode cX16_init 4 = .ok (.aload_n 0, 1) := dk_42 (dk_at dksX16_init_0 4 rfl rfl)
theorem dX16_init_5 : decode cX16_init 5 = .ok (.aload_n 1, 1) := dk_43 (dk_at dksX16_init_0 5 rfl rfl)
theorem dX16_init_6 : decode cX16_init 6 = .ok (.putfield 9, 3) := dk_181 0 9 (dk_at dksX16_init_0 6 rfl rfl)
theorem dX16_init_9 : decode cX16_init 9 = .ok (.aload_n 0, 1) := dk_42 (dk_at dksX16_init_0 9 rfl rfl)
theorem dX16_init_10 : decode cX16_init 10 = .ok (.iload_n 2, 1) := dk_28 (dk_at dksX16_init_0 10 rfl rfl)
theorem dX16_init_11 : decode cX16_init 11 = .ok (.putfield 15, 3) := dk_181 0 15 (dk_at dksX16_init_0 11 rfl rfl)
theorem dX16_init_14 : decode cX16_init 14 = .ok (.return_, 1) := dk_177 (dk_at dksX16_init_0 14 rfl rfl)
theorem q138 : (Jvm.Cond.initialized "NextLoad$Beat") ∈ lw_all := lw_g (lw_at lw_m1 29 rfl) rfl
theorem q679 : (Jvm.Cond.selects "NextLoad$Beat" ({ cls := "java/lang/Object", name := "getClass", desc := "()Ljava/lang/Class;" } : Jvm.MethodName) ({ cls := "java/lang/Object", name := "getClass", desc := "()Ljava/lang/Class;" } : Jvm.MethodName)) ∈ lw_all := lw_g (lw_at lw_m3 90 rfl) rfl
theorem q977 : (Jvm.Cond.castable "NextLoad$Beat" "NextLoad$Aim") ∈ lw_tbl := lw_at lw_m4 148 rfl
theorem q978 : (Jvm.Cond.selects "NextLoad$Beat" ({ cls := "NextLoad$Aim", name := "of", desc := "(I)J" } : Jvm.MethodName) ({ cls := "NextLoad$Beat", name := "of", desc := "(I)J" } : Jvm.MethodName)) ∈ lw_all := lw_g (lw_at lw_m4 149 rfl) rfl
theorem q979 : (Jvm.Cond.unhidden "NextLoad$Beat" "of" "(I)J") ∈ lw_tbl := lw_at lw_m4 150 rfl
theorem q980 : (Jvm.Cond.instanceMethod ({ cls := "NextLoad$Beat", name := "of", desc := "(I)J" } : Jvm.MethodName)) ∈ lw_all := lw_g (lw_at lw_m4 151 rfl) rfl
theorem q981 : (Jvm.Cond.publicMethod ({ cls := "NextLoad$Beat", name := "of", desc := "(I)J" } : Jvm.MethodName)) ∈ lw_tbl := lw_at lw_m4 152 rfl
theorem q982 : (Jvm.Cond.code ({ cls := "NextLoad$Beat", name := "of", desc := "(I)J" } : Jvm.MethodName) prog_3_method_2_code (2 : Nat) (Option.some Jvm.ClassFile.FieldType.long)) ∈ lw_all := lw_g (lw_at lw_m4 153 rfl) rfl
theorem q983 : (Jvm.Cond.constantLong "NextLoad$Beat" (19 : Nat) (1000000 : Int64)) ∈ lw_all := lw_g (lw_at lw_m4 154 rfl) rfl
theorem q1107 : (Jvm.Cond.instantiable "NextLoad$Beat" (2 : Nat)) ∈ lw_all := lw_g (lw_at lw_m5 38 rfl) rfl
theorem q1109 : (Jvm.Cond.instanceMethod ({ cls := "NextLoad$Beat", name := "<init>", desc := "([JZ)V" } : Jvm.MethodName)) ∈ lw_all := lw_g (lw_at lw_m5 40 rfl) rfl
theorem q1110 : (Jvm.Cond.code ({ cls := "NextLoad$Beat", name := "<init>", desc := "([JZ)V" } : Jvm.MethodName) prog_3_method_1_code (3 : Nat) (Option.none : Option Jvm.ClassFile.FieldType)) ∈ lw_all := lw_g (lw_at lw_m5 41 rfl) rfl
theorem q1111 : (Jvm.Cond.methodLink "NextLoad$Beat" (3 : Nat) ({ cls := "java/lang/Record", name := "<init>", desc := "()V" } : Jvm.MethodName)) ∈ lw_all := lw_g (lw_at lw_m5 42 rfl) rfl
theorem q1112 : (Jvm.Cond.fieldLink "NextLoad$Beat" (9 : Nat) "NextLoad$Beat" "chance" "[J") ∈ lw_all := lw_g (lw_at lw_m5 43 rfl) rfl
theorem q1113 : (Jvm.Cond.fieldLink "NextLoad$Beat" (15 : Nat) "NextLoad$Beat" "isAheadByLike" "Z") ∈ lw_all := lw_g (lw_at lw_m5 44 rfl) rfl
theorem q1114 : (Jvm.Cond.laysFinal "NextLoad$Beat" "NextLoad$Beat" "chance" "[J") ∈ lw_all := lw_g (lw_at lw_m5 45 rfl) rfl
theorem q1115 : (Jvm.Cond.soleField "NextLoad$Beat" "chance") ∈ lw_all := lw_g (lw_at lw_m5 46 rfl) rfl
theorem q1116 : (Jvm.Cond.laysFinal "NextLoad$Beat" "NextLoad$Beat" "isAheadByLike" "Z") ∈ lw_all := lw_g (lw_at lw_m5 47 rfl) rfl
theorem q1117 : (Jvm.Cond.soleField "NextLoad$Beat" "isAheadByLike") ∈ lw_all := lw_g (lw_at lw_m5 48 rfl) rfl
theorem q1118 : (Jvm.Cond.superclass "NextLoad$Beat" "java/lang/Record") ∈ lw_all := lw_g (lw_at lw_m5 49 rfl) rfl
theorem q1926 : (Jvm.Cond.selects "NextLoad$Beat" ({ cls := "NextLoad$Beat", name := "of", desc := "(I)J" } : Jvm.MethodName) ({ cls := "NextLoad$Beat", name := "of", desc := "(I)J" } : Jvm.MethodName)) ∈ lw_all := lw_g (lw_at lw_m8 137 rfl) rfl
theorem q1932 : (Jvm.Cond.castable "NextLoad$Beat" "java/lang/Object") ∈ lw_tbl := lw_at lw_m8 143 rfl
theorem in_X16 : ∀ w ∈ wsX160, w ∈ lw_all := lw_in wsX160 [1114, 1116] (by decide +kernel) (by decide +kernel)

/-! NextLoad$Win -/
set_option maxRecDepth 100000
def RX17 : String := "NextLoad$Win"
def TX17 : u_T := fun k => match k with
  | 0 => ("NextLoad$Win", "others", "[LNextLoad$Beat;", true)
  | _ => ("NextLoad$Win", "many", "I", true)
def tyX17 : Nat → FieldType := fun k => match k with
  | 0 => .array (.object "NextLoad$Beat")
  | _ => .int
abbrev wsX170 : List Cond := u_ws RX17 TX17 2
theorem nmX17 : ∀ a, a < 2 → ∀ b, b < 2 → a ≠ b → (TX17 a).2.1 ≠ (TX17 b).2.1 := by decide +kernel
theorem tyX17_ok : ∀ k, k < 2 → parseFieldDescriptor (TX17 k).2.2.1 = some (tyX17 k) := by decide +kernel
abbrev cX17_of : ByteArray := prog_19_method_2_code
def yX17_of : MethodName := ⟨RX17, "of", "(I)J"⟩
def dkwX17_of_1 : List UInt8 := [180, 0, 9, 21, 4, 50, 27, 182, 0, 21, 105, 20, 0, 19, 109, 65, 132, 4, 1, 167, 255, 226, 32, 173]
abbrev dktX17_of_1 : List UInt8 := dkwX17_of_1 ++ []
def dkwX17_of_0 : List UInt8 := [27, 154, 0, 5, 9, 173, 20, 0, 19, 65, 3, 54, 4, 21, 4, 42, 180, 0, 15, 162, 0, 27, 32, 42]
abbrev dktX17_of_0 : List UInt8 := dkwX17_of_0 ++ dktX17_of_1
theorem dksX17_of_0 : cX17_of.data.toList.drop 0 = dktX17_of_0 := by decide +kernel
theorem dksX17_of_1 : cX17_of.data.toList.drop 24 = dktX17_of_1 := dk_seg dksX17_of_0 24 rfl rfl
theorem dX17_of_0 : decode cX17_of 0 = .ok (.iload_n 1, 1) := dk_27 (dk_at dksX17_of_0 0 rfl rfl)
theorem dX17_of_1 : decode cX17_of 1 = .ok (.ifCond .ne 5, 3) := dk_154 0 5 (dk_at dksX17_of_0 1 rfl rfl)
theorem dX17_of_4 : decode cX17_of 4 = .ok (.lconst 0, 1) := dk_9 (dk_at dksX17_of_0 4 rfl rfl)
theorem dX17_of_5 : decode cX17_of 5 = .ok (.lreturn, 1) := dk_173 (dk_at dksX17_of_0 5 rfl rfl)
theorem dX17_of_6 : decode cX17_of 6 = .ok (.ldc2_w 19, 3) := dk_20 0 19 (dk_at dksX17_of_0 6 rfl rfl)
theorem dX17_of_9 : decode cX17_of 9 = .ok (.lstore_n 2, 1) := dk_65 (dk_at dksX17_of_0 9 rfl rfl)
theorem dX17_of_10 : decode cX17_of 10 = .ok (.iconst 0, 1) := dk_3 (dk_at dksX17_of_0 10 rfl rfl)
theorem dX17_of_11 : decode cX17_of 11 = .ok (.istore 4, 2) := dk_54 4 (dk_at dksX17_of_0 11 rfl rfl)
theorem dX17_of_13 : decode cX17_of 13 = .ok (.iload 4, 2) := dk_21 4 (dk_at dksX17_of_0 13 rfl rfl)
theorem dX17_of_15 : decode cX17_of 15 = .ok (.aload_n 0, 1) := dk_42 (dk_at dksX17_of_0 15 rfl rfl)
theorem dX17_of_16 : decode cX17_of 16 = .ok (.getfield 15, 3) := dk_180 0 15 (dk_at dksX17_of_0 16 rfl rfl)
theorem dX17_of_19 : decode cX17_of 19 = .ok (.if_icmp .ge 27, 3) := dk_162 0 27 (dk_at dksX17_of_0 19 rfl rfl)
theorem dX17_of_22 : decode cX17_of 22 = .ok (.lload_n 2, 1) := dk_32 (dk_at dksX17_of_0 22 rfl rfl)
theorem dX17_of_23 : decode cX17_of 23 = .ok (.aload_n 0, 1) := dk_42 (dk_at dksX17_of_0 23 rfl rfl)
theorem dX17_of_24 : decode cX17_of 24 = .ok (.getfield 9, 3) := dk_180 0 9 (dk_at dksX17_of_1 0 rfl rfl)
theorem dX17_of_27 : decode cX17_of 27 = .ok (.iload 4, 2) := dk_21 4 (dk_at dksX17_of_1 3 rfl rfl)
theorem dX17_of_29 : decode cX17_of 29 = .ok (.aaload, 1) := dk_50 (dk_at dksX17_of_1 5 rfl rfl)
theorem dX17_of_30 : decode cX17_of 30 = .ok (.iload_n 1, 1) := dk_27 (dk_at dksX17_of_1 6 rfl rfl)
theorem dX17_of_31 : decode cX17_of 31 = .ok (.invokevirtual 21, 3) := dk_182 0 21 (dk_at dksX17_of_1 7 rfl rfl)
theorem dX17_of_34 : decode cX17_of 34 = .ok (.lmul, 1) := dk_105 (dk_at dksX17_of_1 10 rfl rfl)
theorem dX17_of_35 : decode cX17_of 35 = .ok (.ldc2_w 19, 3) := dk_20 0 19 (dk_at dksX17_of_1 11 rfl rfl)
theorem dX17_of_38 : decode cX17_of 38 = .ok (.ldiv, 1) := dk_109 (dk_at dksX17_of_1 14 rfl rfl)
theorem dX17_of_39 : decode cX17_of 39 = .ok (.lstore_n 2, 1) := dk_65 (dk_at dksX17_of_1 15 rfl rfl)
theorem dX17_of_40 : decode cX17_of 40 = .ok (.iinc 4 1, 3) := dk_132 4 1 (dk_at dksX17_of_1 16 rfl rfl)
theorem dX17_of_43 : decode cX17_of 43 = .ok (.goto (-30), 3) := dk_167 255 226 (dk_at dksX17_of_1 19 rfl rfl)
theorem dX17_of_46 : decode cX17_of 46 = .ok (.lload_n 2, 1) := dk_32 (dk_at dksX17_of_1 22 rfl rfl)
theorem dX17_of_47 : decode cX17_of 47 = .ok (.lreturn, 1) := dk_173 (dk_at dksX17_of_1 23 rfl rfl)
abbrev cX17_init : ByteArray := prog_19_method_1_code
def yX17_init : MethodName := ⟨RX17, "<init>", "([LNextLoad$Beat;I)V"⟩
def dkwX17_init_0 : List UInt8 := [42, 183, 0, 3, 42, 43, 181, 0, 9, 42, 28, 181, 0, 15, 177]
abbrev dktX17_init_0 : List UInt8 := dkwX17_init_0 ++ []
theorem dksX17_init_0 : cX17_init.data.toList.drop 0 = dktX17_init_0 := by decide +kernel
theorem dX17_init_0 : decode cX17_init 0 = .ok (.aload_n 0, 1) := dk_42 (dk_at dksX17_init_0 0 rfl rfl)
theorem dX17_init_1 : decode cX17_init 1 = .ok (.invokespecial 3, 3) := dk_183 0 3 (dk_at dksX17_init_0 1 rfl rfl)
theorem dX17_init_4 : decode cX17_init 4 = .ok (.aload_n 0, 1) := dk_42 (dk_at dksX17_init_0 4 rfl rfl)
theorem dX17_init_5 : decode cX17_init 5 = .ok (.aload_n 1, 1) := dk_43 (dk_at dksX17_init_0 5 rfl rfl)
theorem dX17_init_6 : decode cX17_init 6 = .ok (.putfield 9, 3) := dk_181 0 9 (dk_at dksX17_init_0 6 rfl rfl)
theorem dX17_init_9 : decode cX17_init 9 = .ok (.aload_n 0, 1) := dk_42 (dk_at dksX17_init_0 9 rfl rfl)
theorem dX17_init_10 : decode cX17_init 10 = .ok (.iload_n 2, 1) := dk_28 (dk_at dksX17_init_0 10 rfl rfl)
theorem dX17_init_11 : decode cX17_init 11 = .ok (.putfield 15, 3) := dk_181 0 15 (dk_at dksX17_init_0 11 rfl rfl)
theorem dX17_init_14 : decode cX17_init 14 = .ok (.return_, 1) := dk_177 (dk_at dksX17_init_0 14 rfl rfl)
theorem q139 : (Jvm.Cond.initialized "NextLoad$Win") ∈ lw_all := lw_g (lw_at lw_m1 30 rfl) rfl
theorem q693 : (Jvm.Cond.selects "NextLoad$Win" ({ cls := "java/lang/Object", name := "getClass", desc := "()Ljava/lang/Class;" } : Jvm.MethodName) ({ cls := "java/lang/Object", name := "getClass", desc := "()Ljava/lang/Class;" } : Jvm.MethodName)) ∈ lw_all := lw_g (lw_at lw_m3 104 rfl) rfl
theorem q998 : (Jvm.Cond.castable "NextLoad$Win" "NextLoad$Aim") ∈ lw_tbl := lw_at lw_m4 169 rfl
theorem q999 : (Jvm.Cond.selects "NextLoad$Win" ({ cls := "NextLoad$Aim", name := "of", desc := "(I)J" } : Jvm.MethodName) ({ cls := "NextLoad$Win", name := "of", desc := "(I)J" } : Jvm.MethodName)) ∈ lw_all := lw_g (lw_at lw_m4 170 rfl) rfl
theorem q1000 : (Jvm.Cond.unhidden "NextLoad$Win" "of" "(I)J") ∈ lw_tbl := lw_at lw_m4 171 rfl
theorem q1001 : (Jvm.Cond.instanceMethod ({ cls := "NextLoad$Win", name := "of", desc := "(I)J" } : Jvm.MethodName)) ∈ lw_all := lw_g (lw_at lw_m4 172 rfl) rfl
theorem q1002 : (Jvm.Cond.publicMethod ({ cls := "NextLoad$Win", name := "of", desc := "(I)J" } : Jvm.MethodName)) ∈ lw_tbl := lw_at lw_m4 173 rfl
theorem q1003 : (Jvm.Cond.code ({ cls := "NextLoad$Win", name := "of", desc := "(I)J" } : Jvm.MethodName) prog_19_method_2_code (5 : Nat) (Option.some Jvm.ClassFile.FieldType.long)) ∈ lw_all := lw_g (lw_at lw_m4 174 rfl) rfl
theorem q1004 : (Jvm.Cond.constantLong "NextLoad$Win" (19 : Nat) (1000000 : Int64)) ∈ lw_all := lw_g (lw_at lw_m4 175 rfl) rfl
theorem q1005 : (Jvm.Cond.methodLink "NextLoad$Win" (21 : Nat) ({ cls := "NextLoad$Beat", name := "of", desc := "(I)J" } : Jvm.MethodName)) ∈ lw_all := lw_g (lw_at lw_m4 176 rfl) rfl
theorem q1129 : (Jvm.Cond.instantiable "NextLoad$Win" (2 : Nat)) ∈ lw_all := lw_g (lw_at lw_m5 60 rfl) rfl
theorem q1131 : (Jvm.Cond.instanceMethod ({ cls := "NextLoad$Win", name := "<init>", desc := "([LNextLoad$Beat;I)V" } : Jvm.MethodName)) ∈ lw_all := lw_g (lw_at lw_m5 62 rfl) rfl
theorem q1132 : (Jvm.Cond.code ({ cls := "NextLoad$Win", name := "<init>", desc := "([LNextLoad$Beat;I)V" } : Jvm.MethodName) prog_19_method_1_code (3 : Nat) (Option.none : Option Jvm.ClassFile.FieldType)) ∈ lw_all := lw_g (lw_at lw_m5 63 rfl) rfl
theorem q1133 : (Jvm.Cond.methodLink "NextLoad$Win" (3 : Nat) ({ cls := "java/lang/Object", name := "<init>", desc := "()V" } : Jvm.MethodName)) ∈ lw_all := lw_g (lw_at lw_m5 64 rfl) rfl
theorem q1134 : (Jvm.Cond.fieldLink "NextLoad$Win" (9 : Nat) "NextLoad$Win" "others" "[LNextLoad$Beat;") ∈ lw_all := lw_g (lw_at lw_m5 65 rfl) rfl
theorem q1135 : (Jvm.Cond.fieldLink "NextLoad$Win" (15 : Nat) "NextLoad$Win" "many" "I") ∈ lw_all := lw_g (lw_at lw_m5 66 rfl) rfl
theorem q1136 : (Jvm.Cond.laysFinal "NextLoad$Win" "NextLoad$Win" "others" "[LNextLoad$Beat;") ∈ lw_all := lw_g (lw_at lw_m5 67 rfl) rfl
theorem q1137 : (Jvm.Cond.soleField "NextLoad$Win" "others") ∈ lw_all := lw_g (lw_at lw_m5 68 rfl) rfl
theorem q1138 : (Jvm.Cond.laysFinal "NextLoad$Win" "NextLoad$Win" "many" "I") ∈ lw_all := lw_g (lw_at lw_m5 69 rfl) rfl
theorem q1139 : (Jvm.Cond.soleField "NextLoad$Win" "many") ∈ lw_all := lw_g (lw_at lw_m5 70 rfl) rfl
theorem q1140 : (Jvm.Cond.superclass "NextLoad$Win" "java/lang/Object") ∈ lw_all := lw_g (lw_at lw_m5 71 rfl) rfl
theorem q1947 : (Jvm.Cond.castable "NextLoad$Win" "java/lang/Object") ∈ lw_tbl := lw_at lw_m8 158 rfl
theorem in_X17 : ∀ w ∈ wsX170, w ∈ lw_all := lw_in wsX170 [1136, 1138] (by decide +kernel) (by decide +kernel)

/-! NextLoad$Result$1 -/
set_option maxRecDepth 100000
def RX18 : String := "NextLoad$Result$1"
abbrev cX18_best : ByteArray := prog_15_method_4_code
def yX18_best : MethodName := ⟨RX18, "best", "(II)I"⟩
theorem dX18_best_0 : decode cX18_best 0 = .ok (.iload_n 2, 1) := by decide +kernel
theorem dX18_best_1 : decode cX18_best 1 = .ok (.ireturn, 1) := by decide +kernel
abbrev cX18_least : ByteArray := prog_15_method_3_code
def yX18_least : MethodName := ⟨RX18, "least", "(I)I"⟩
def dkwX18_least_0 : List UInt8 := [27, 4, 96, 172]
abbrev dktX18_least_0 : List UInt8 := dkwX18_least_0 ++ []
theorem dksX18_least_0 : cX18_least.data.toList.drop 0 = dktX18_least_0 := by decide +kernel
theorem dX18_least_0 : decode cX18_least 0 = .ok (.iload_n 1, 1) := dk_27 (dk_at dksX18_least_0 0 rfl rfl)
theorem dX18_least_1 : decode cX18_least 1 = .ok (.iconst 1, 1) := dk_4 (dk_at dksX18_least_0 1 rfl rfl)
theorem dX18_least_2 : decode cX18_least 2 = .ok (.iadd, 1) := dk_96 (dk_at dksX18_least_0 2 rfl rfl)
theorem dX18_least_3 : decode cX18_least 3 = .ok (.ireturn, 1) := dk_172 (dk_at dksX18_least_0 3 rfl rfl)
abbrev cX18_asks : ByteArray := prog_15_method_2_code
def yX18_asks : MethodName := ⟨RX18, "asks", "(LNextLoad$Lifter;II)I"⟩
def dkwX18_asks_0 : List UInt8 := [29, 43, 180, 0, 7, 28, 46, 96, 172]
abbrev dktX18_asks_0 : List UInt8 := dkwX18_asks_0 ++ []
theorem dksX18_asks_0 : cX18_asks.data.toList.drop 0 = dktX18_asks_0 := by decide +kernel
theorem dX18_asks_0 : decode cX18_asks 0 = .ok (.iload_n 3, 1) := dk_29 (dk_at dksX18_asks_0 0 rfl rfl)
theorem dX18_asks_1 : decode cX18_asks 1 = .ok (.aload_n 1, 1) := dk_43 (dk_at dksX18_asks_0 1 rfl rfl)
theorem dX18_asks_2 : decode cX18_asks 2 = .ok (.getfield 7, 3) := dk_180 0 7 (dk_at dksX18_asks_0 2 rfl rfl)
theorem dX18_asks_5 : decode cX18_asks 5 = .ok (.iload_n 2, 1) := dk_28 (dk_at dksX18_asks_0 5 rfl rfl)
theorem dX18_asks_6 : decode cX18_asks 6 = .ok (.iaload, 1) := dk_46 (dk_at dksX18_asks_0 6 rfl rfl)
theorem dX18_asks_7 : decode cX18_asks 7 = .ok (.iadd, 1) := dk_96 (dk_at dksX18_asks_0 7 rfl rfl)
theorem dX18_asks_8 : decode cX18_asks 8 = .ok (.ireturn, 1) := dk_172 (dk_at dksX18_asks_0 8 rfl rfl)
theorem q531 : (Jvm.Cond.fieldLinkNest "NextLoad$Result$1" (7 : Nat) "NextLoad$Lifter" "more" "[I" "NextLoad") ∈ lw_tbl := lw_at lw_m2 182 rfl
theorem q689 : (Jvm.Cond.selects "NextLoad$Result$1" ({ cls := "java/lang/Object", name := "getClass", desc := "()Ljava/lang/Class;" } : Jvm.MethodName) ({ cls := "java/lang/Object", name := "getClass", desc := "()Ljava/lang/Class;" } : Jvm.MethodName)) ∈ lw_all := lw_g (lw_at lw_m3 100 rfl) rfl
theorem q860 : (Jvm.Cond.selects "NextLoad$Result$1" ({ cls := "NextLoad$Result", name := "best", desc := "(II)I" } : Jvm.MethodName) ({ cls := "NextLoad$Result$1", name := "best", desc := "(II)I" } : Jvm.MethodName)) ∈ lw_all := lw_g (lw_at lw_m4 31 rfl) rfl
theorem q861 : (Jvm.Cond.instanceMethod ({ cls := "NextLoad$Result$1", name := "best", desc := "(II)I" } : Jvm.MethodName)) ∈ lw_all := lw_g (lw_at lw_m4 32 rfl) rfl
theorem q862 : (Jvm.Cond.code ({ cls := "NextLoad$Result$1", name := "best", desc := "(II)I" } : Jvm.MethodName) prog_15_method_4_code (3 : Nat) (Option.some Jvm.ClassFile.FieldType.int)) ∈ lw_all := lw_g (lw_at lw_m4 33 rfl) rfl
theorem q869 : (Jvm.Cond.selects "NextLoad$Result$1" ({ cls := "NextLoad$Result", name := "least", desc := "(I)I" } : Jvm.MethodName) ({ cls := "NextLoad$Result$1", name := "least", desc := "(I)I" } : Jvm.MethodName)) ∈ lw_all := lw_g (lw_at lw_m4 40 rfl) rfl
theorem q870 : (Jvm.Cond.instanceMethod ({ cls := "NextLoad$Result$1", name := "least", desc := "(I)I" } : Jvm.MethodName)) ∈ lw_all := lw_g (lw_at lw_m4 41 rfl) rfl
theorem q871 : (Jvm.Cond.code ({ cls := "NextLoad$Result$1", name := "least", desc := "(I)I" } : Jvm.MethodName) prog_15_method_3_code (2 : Nat) (Option.some Jvm.ClassFile.FieldType.int)) ∈ lw_all := lw_g (lw_at lw_m4 42 rfl) rfl
theorem q878 : (Jvm.Cond.selects "NextLoad$Result$1" ({ cls := "NextLoad$Result", name := "failed", desc := "()I" } : Jvm.MethodName) ({ cls := "NextLoad$Result", name := "failed", desc := "()I" } : Jvm.MethodName)) ∈ lw_all := lw_g (lw_at lw_m4 49 rfl) rfl
theorem q884 : (Jvm.Cond.selects "NextLoad$Result$1" ({ cls := "NextLoad$Result", name := "ordinal", desc := "()I" } : Jvm.MethodName) ({ cls := "java/lang/Enum", name := "ordinal", desc := "()I" } : Jvm.MethodName)) ∈ lw_all := lw_g (lw_at lw_m4 55 rfl) rfl
theorem q891 : (Jvm.Cond.selects "NextLoad$Result$1" ({ cls := "NextLoad$Result", name := "asks", desc := "(LNextLoad$Lifter;II)I" } : Jvm.MethodName) ({ cls := "NextLoad$Result$1", name := "asks", desc := "(LNextLoad$Lifter;II)I" } : Jvm.MethodName)) ∈ lw_all := lw_g (lw_at lw_m4 62 rfl) rfl
theorem q892 : (Jvm.Cond.instanceMethod ({ cls := "NextLoad$Result$1", name := "asks", desc := "(LNextLoad$Lifter;II)I" } : Jvm.MethodName)) ∈ lw_all := lw_g (lw_at lw_m4 63 rfl) rfl
theorem q893 : (Jvm.Cond.code ({ cls := "NextLoad$Result$1", name := "asks", desc := "(LNextLoad$Lifter;II)I" } : Jvm.MethodName) prog_15_method_2_code (4 : Nat) (Option.some Jvm.ClassFile.FieldType.int)) ∈ lw_all := lw_g (lw_at lw_m4 64 rfl) rfl
theorem q1943 : (Jvm.Cond.castable "NextLoad$Result$1" "java/lang/Object") ∈ lw_tbl := lw_at lw_m8 154 rfl

/-! NextLoad$Result$2 -/
set_option maxRecDepth 100000
def RX19 : String := "NextLoad$Result$2"
abbrev cX19_best : ByteArray := prog_16_method_4_code
def yX19_best : MethodName := ⟨RX19, "best", "(II)I"⟩
theorem dX19_best_0 : decode cX19_best 0 = .ok (.iload_n 1, 1) := by decide +kernel
theorem dX19_best_1 : decode cX19_best 1 = .ok (.ireturn, 1) := by decide +kernel
abbrev cX19_least : ByteArray := prog_16_method_3_code
def yX19_least : MethodName := ⟨RX19, "least", "(I)I"⟩
theorem dX19_least_0 : decode cX19_least 0 = .ok (.iload_n 1, 1) := by decide +kernel
theorem dX19_least_1 : decode cX19_least 1 = .ok (.ireturn, 1) := by decide +kernel
abbrev cX19_asks : ByteArray := prog_16_method_2_code
def yX19_asks : MethodName := ⟨RX19, "asks", "(LNextLoad$Lifter;II)I"⟩
def dkwX19_asks_0 : List UInt8 := [29, 43, 180, 0, 7, 28, 46, 96, 172]
abbrev dktX19_asks_0 : List UInt8 := dkwX19_asks_0 ++ []
theorem dksX19_asks_0 : cX19_asks.data.toList.drop 0 = dktX19_asks_0 := by decide +kernel
theorem dX19_asks_0 : decode cX19_asks 0 = .ok (.iload_n 3, 1) := dk_29 (dk_at dksX19_asks_0 0 rfl rfl)
theorem dX19_asks_1 : decode cX19_asks 1 = .ok (.aload_n 1, 1) := dk_43 (dk_at dksX19_asks_0 1 rfl rfl)
theorem dX19_asks_2 : decode cX19_asks 2 = .ok (.getfield 7, 3) := dk_180 0 7 (dk_at dksX19_asks_0 2 rfl rfl)
theorem dX19_asks_5 : decode cX19_asks 5 = .ok (.iload_n 2, 1) := dk_28 (dk_at dksX19_asks_0 5 rfl rfl)
theorem dX19_asks_6 : decode cX19_asks 6 = .ok (.iaload, 1) := dk_46 (dk_at dksX19_asks_0 6 rfl rfl)
theorem dX19_asks_7 : decode cX19_asks 7 = .ok (.iadd, 1) := dk_96 (dk_at dksX19_asks_0 7 rfl rfl)
theorem dX19_asks_8 : decode cX19_asks 8 = .ok (.ireturn, 1) := dk_172 (dk_at dksX19_asks_0 8 rfl rfl)
theorem q534 : (Jvm.Cond.fieldLinkNest "NextLoad$Result$2" (7 : Nat) "NextLoad$Lifter" "again" "[I" "NextLoad") ∈ lw_tbl := lw_at lw_m2 185 rfl
theorem q690 : (Jvm.Cond.selects "NextLoad$Result$2" ({ cls := "java/lang/Object", name := "getClass", desc := "()Ljava/lang/Class;" } : Jvm.MethodName) ({ cls := "java/lang/Object", name := "getClass", desc := "()Ljava/lang/Class;" } : Jvm.MethodName)) ∈ lw_all := lw_g (lw_at lw_m3 101 rfl) rfl
theorem q863 : (Jvm.Cond.selects "NextLoad$Result$2" ({ cls := "NextLoad$Result", name := "best", desc := "(II)I" } : Jvm.MethodName) ({ cls := "NextLoad$Result$2", name := "best", desc := "(II)I" } : Jvm.MethodName)) ∈ lw_all := lw_g (lw_at lw_m4 34 rfl) rfl
theorem q864 : (Jvm.Cond.instanceMethod ({ cls := "NextLoad$Result$2", name := "best", desc := "(II)I" } : Jvm.MethodName)) ∈ lw_all := lw_g (lw_at lw_m4 35 rfl) rfl
theorem q865 : (Jvm.Cond.code ({ cls := "NextLoad$Result$2", name := "best", desc := "(II)I" } : Jvm.MethodName) prog_16_method_4_code (3 : Nat) (Option.some Jvm.ClassFile.FieldType.int)) ∈ lw_all := lw_g (lw_at lw_m4 36 rfl) rfl
theorem q872 : (Jvm.Cond.selects "NextLoad$Result$2" ({ cls := "NextLoad$Result", name := "least", desc := "(I)I" } : Jvm.MethodName) ({ cls := "NextLoad$Result$2", name := "least", desc := "(I)I" } : Jvm.MethodName)) ∈ lw_all := lw_g (lw_at lw_m4 43 rfl) rfl
theorem q873 : (Jvm.Cond.instanceMethod ({ cls := "NextLoad$Result$2", name := "least", desc := "(I)I" } : Jvm.MethodName)) ∈ lw_all := lw_g (lw_at lw_m4 44 rfl) rfl
theorem q874 : (Jvm.Cond.code ({ cls := "NextLoad$Result$2", name := "least", desc := "(I)I" } : Jvm.MethodName) prog_16_method_3_code (2 : Nat) (Option.some Jvm.ClassFile.FieldType.int)) ∈ lw_all := lw_g (lw_at lw_m4 45 rfl) rfl
theorem q879 : (Jvm.Cond.selects "NextLoad$Result$2" ({ cls := "NextLoad$Result", name := "failed", desc := "()I" } : Jvm.MethodName) ({ cls := "NextLoad$Result", name := "failed", desc := "()I" } : Jvm.MethodName)) ∈ lw_all := lw_g (lw_at lw_m4 50 rfl) rfl
theorem q885 : (Jvm.Cond.selects "NextLoad$Result$2" ({ cls := "NextLoad$Result", name := "ordinal", desc := "()I" } : Jvm.MethodName) ({ cls := "java/lang/Enum", name := "ordinal", desc := "()I" } : Jvm.MethodName)) ∈ lw_all := lw_g (lw_at lw_m4 56 rfl) rfl
theorem q894 : (Jvm.Cond.selects "NextLoad$Result$2" ({ cls := "NextLoad$Result", name := "asks", desc := "(LNextLoad$Lifter;II)I" } : Jvm.MethodName) ({ cls := "NextLoad$Result$2", name := "asks", desc := "(LNextLoad$Lifter;II)I" } : Jvm.MethodName)) ∈ lw_all := lw_g (lw_at lw_m4 65 rfl) rfl
theorem q895 : (Jvm.Cond.instanceMethod ({ cls := "NextLoad$Result$2", name := "asks", desc := "(LNextLoad$Lifter;II)I" } : Jvm.MethodName)) ∈ lw_all := lw_g (lw_at lw_m4 66 rfl) rfl
theorem q896 : (Jvm.Cond.code ({ cls := "NextLoad$Result$2", name := "asks", desc := "(LNextLoad$Lifter;II)I" } : Jvm.MethodName) prog_16_method_2_code (4 : Nat) (Option.some Jvm.ClassFile.FieldType.int)) ∈ lw_all := lw_g (lw_at lw_m4 67 rfl) rfl
theorem q1944 : (Jvm.Cond.castable "NextLoad$Result$2" "java/lang/Object") ∈ lw_tbl := lw_at lw_m8 155 rfl

/-! NextLoad$Meet -/
set_option maxRecDepth 100000
def RX2 : String := "NextLoad$Meet"
def TX2 : u_T := fun k => match k with
  | 0 => ("NextLoad$Meet", "at", "[LNextLoad$Standing;", true)
  | 1 => ("NextLoad$Meet", "lift", "I", false)
  | 2 => ("NextLoad$Meet", "round", "I", false)
  | 3 => ("NextLoad$Meet", "bar", "I", false)
  | _ => ("NextLoad$Meet", "this$0", "LNextLoad;", true)
def tyX2 : Nat → FieldType := fun k => match k with
  | 0 => .array (.object "NextLoad$Standing")
  | 1 => .int
  | 2 => .int
  | 3 => .int
  | _ => .object "NextLoad"
abbrev wsX20 : List Cond := u_ws RX2 TX2 5
theorem nmX2 : ∀ a, a < 5 → ∀ b, b < 5 → a ≠ b → (TX2 a).2.1 ≠ (TX2 b).2.1 := by decide +kernel
theorem tyX2_ok : ∀ k, k < 5 → parseFieldDescriptor (TX2 k).2.2.1 = some (tyX2 k) := by decide +kernel
abbrev cX2_init : ByteArray := prog_10_method_1_code
def yX2_init : MethodName := ⟨RX2, "<init>", "(LNextLoad;)V"⟩
def dkwX2_init_3 : List UInt8 := [183, 0, 17, 83, 181, 0, 18, 177]
abbrev dktX2_init_3 : List UInt8 := dkwX2_init_3 ++ []
def dkwX2_init_2 : List UInt8 := [187, 0, 15, 89, 183, 0, 17, 83, 89, 7, 187, 0, 15, 89, 183, 0, 17, 83, 89, 8, 187, 0, 15, 89]
abbrev dktX2_init_2 : List UInt8 := dkwX2_init_2 ++ dktX2_init_3
def dkwX2_init_1 : List UInt8 := [83, 89, 4, 187, 0, 15, 89, 183, 0, 17, 83, 89, 5, 187, 0, 15, 89, 183, 0, 17, 83, 89, 6]
abbrev dktX2_init_1 : List UInt8 := dkwX2_init_1 ++ dktX2_init_2
def dkwX2_init_0 : List UInt8 := [42, 43, 181, 0, 3, 42, 183, 0, 9, 42, 16, 6, 189, 0, 15, 89, 3, 187, 0, 15, 89, 183, 0, 17]
abbrev dktX2_init_0 : List UInt8 := dkwX2_init_0 ++ dktX2_init_1
theorem dksX2_init_0 : cX2_init.data.toList.drop 0 = dktX2_init_0 := by decide +kernel
theorem dksX2_init_1 : cX2_init.data.toList.drop 24 = dktX2_init_1 := dk_seg dksX2_init_0 24 rfl rfl
theorem dksX2_init_2 : cX2_init.data.toList.drop 47 = dktX2_init_2 := dk_seg dksX2_init_1 23 rfl rfl
theorem dksX2_init_3 : cX2_init.data.toList.drop 71 = dktX2_init_3 := dk_seg dksX2_init_2 24 rfl rfl
theorem dX2_init_0 : decode cX2_init 0 = .ok (.aload_n 0, 1) := dk_42 (dk_at dksX2_init_0 0 rfl rfl)
theorem dX2_init_1 : decode cX2_init 1 = .ok (.aload_n 1, 1) := dk_43 (dk_at dksX2_init_0 1 rfl rfl)
theorem dX2_init_2 : decode cX2_init 2 = .ok (.putfield 3, 3) := dk_181 0 3 (dk_at dksX2_init_0 2 rfl rfl)
theorem dX2_init_5 : decode cX2_init 5 = .ok (.aload_n 0, 1) := dk_42 (dk_at dksX2_init_0 5 rfl rfl)
theorem dX2_init_6 : decode cX2_init 6 = .ok (.invokespecial 9, 3) := dk_183 0 9 (dk_at dksX2_init_0 6 rfl rfl)
theorem dX2_init_9 : decode cX2_init 9 = .ok (.aload_n 0, 1) := dk_42 (dk_at dksX2_init_0 9 rfl rfl)
theorem dX2_init_10 : decode cX2_init 10 = .ok (.bipush 6, 2) := dk_16 6 (dk_at dksX2_init_0 10 rfl rfl)
theorem dX2_init_12 : decode cX2_init 12 = .ok (.anewarray 15, 3) := dk_189 0 15 (dk_at dksX2_init_0 12 rfl rfl)
theorem dX2_init_15 : decode cX2_init 15 = .ok (.dup, 1) := dk_89 (dk_at dksX2_init_0 15 rfl rfl)
theorem dX2_init_16 : decode cX2_init 16 = .ok (.iconst 0, 1) := dk_3 (dk_at dksX2_init_0 16 rfl rfl)
theorem dX2_init_17 : decode cX2_init 17 = .ok (.new 15, 3) := dk_187 0 15 (dk_at dksX2_init_0 17 rfl rfl)
theorem dX2_init_20 : decode cX2_init 20 = .ok (.dup, 1) := dk_89 (dk_at dksX2_init_0 20 rfl rfl)
theorem dX2_init_21 : decode cX2_init 21 = .ok (.invokespecial 17, 3) := dk_183 0 17 (dk_at dksX2_init_0 21 rfl rfl)
theorem dX2_init_24 : decode cX2_init 24 = .ok (.aastore, 1) := dk_83 (dk_at dksX2_init_1 0 rfl rfl)
theorem dX2_init_25 : decode cX2_init 25 = .ok (.dup, 1) := dk_89 (dk_at dksX2_init_1 1 rfl rfl)
theorem dX2_init_26 : decode cX2_init 26 = .ok (.iconst 1, 1) := dk_4 (dk_at dksX2_init_1 2 rfl rfl)
theorem dX2_init_27 : decode cX2_init 27 = .ok (.new 15, 3) := dk_187 0 15 (dk_at dksX2_init_1 3 rfl rfl)
theorem dX2_init_30 : decode cX2_init 30 = .ok (.dup, 1) := dk_89 (dk_at dksX2_init_1 6 rfl rfl)
theorem dX2_init_31 : decode cX2_init 31 = .ok (.invokespecial 17, 3) := dk_183 0 17 (dk_at dksX2_init_1 7 rfl rfl)
theorem dX2_init_34 : decode cX2_init 34 = .ok (.aastore, 1) := dk_83 (dk_at dksX2_init_1 10 rfl rfl)
theorem dX2_init_35 : decode cX2_init 35 = .ok (.dup, 1) := dk_89 (dk_at dksX2_init_1 11 rfl rfl)
theorem dX2_init_36 : decode cX2_init 36 = .ok (.iconst 2, 1) := dk_5 (dk_at dksX2_init_1 12 rfl rfl)
theorem dX2_init_37 : decode cX2_init 37 = .ok (.new 15, 3) := dk_187 0 15 (dk_at dksX2_init_1 13 rfl rfl)
theorem dX2_init_40 : decode cX2_init 40 = .ok (.dup, 1) := dk_89 (dk_at dksX2_init_1 16 rfl rfl)
theorem dX2_init_41 : decode cX2_init 41 = .ok (.invokespecial 17, 3) := dk_183 0 17 (dk_at dksX2_init_1 17 rfl rfl)
theorem dX2_init_44 : decode cX2_init 44 = .ok (.aastore, 1) := dk_83 (dk_at dksX2_init_1 20 rfl rfl)
theorem dX2_init_45 : decode cX2_init 45 = .ok (.dup, 1) := dk_89 (dk_at dksX2_init_1 21 rfl rfl)
theorem dX2_init_46 : decode cX2_init 46 = .ok (.iconst 3, 1) := dk_6 (dk_at dksX2_init_1 22 rfl rfl)
theorem dX2_init_47 : decode cX2_init 47 = .ok (.new 15, 3) := dk_187 0 15 (dk_at dksX2_init_2 0 rfl rfl)
theorem dX2_init_50 : decode cX2_init 50 = .ok (.dup, 1) := dk_89 (dk_at dksX2_init_2 3 rfl rfl)
theorem dX2_init_51 : decode cX2_init 51 = .ok (.invokespecial 17, 3) := dk_183 0 17 (dk_at dksX2_init_2 4 rfl rfl)
theorem dX2_init_54 : decode cX2_init 54 = .ok (.aastore, 1) := dk_83 (dk_at dksX2_init_2 7 rfl rfl)
theorem dX2_init_55 : decode cX2_init 55 = .ok (.dup, 1) := dk_89 (dk_at dksX2_init_2 8 rfl rfl)
theorem dX2_init_56 : decode cX2_init 56 = .ok (.iconst 4, 1) := dk_7 (dk_at dksX2_init_2 9 rfl rfl)
theorem dX2_init_57 : decode cX2_init 57 = .ok (.new 15, 3) := dk_187 0 15 (dk_at dksX2_init_2 10 rfl rfl)
theorem dX2_init_60 : decode cX2_init 60 = .ok (.dup, 1) := dk_89 (dk_at dksX2_init_2 13 rfl rfl)
theorem dX2_init_61 : decode cX2_init 61 = .ok (.invokespecial 17, 3) := dk_183 0 17 (dk_at dksX2_init_2 14 rfl rfl)
theorem dX2_init_64 : decode cX2_init 64 = .ok (.aastore, 1) := dk_83 (dk_at dksX2_init_2 17 rfl rfl)
theorem dX2_init_65 : decode cX2_init 65 = .ok (.dup, 1) := dk_89 (dk_at dksX2_init_2 18 rfl rfl)
theorem dX2_init_66 : decode cX2_init 66 = .ok (.iconst 5, 1) := dk_8 (dk_at dksX2_init_2 19 rfl rfl)
theorem dX2_init_67 : decode cX2_init 67 = .ok (.new 15, 3) := dk_187 0 15 (dk_at dksX2_init_2 20 rfl rfl)
theorem dX2_init_70 : decode cX2_init 70 = .ok (.dup, 1) := dk_89 (dk_at dksX2_init_2 23 rfl rfl)
theorem dX2_init_71 : decode cX2_init 71 = .ok (.invokespecial 17, 3) := dk_183 0 17 (dk_at dksX2_init_3 0 rfl rfl)
theorem dX2_init_74 : decode cX2_init 74 = .ok (.aastore, 1) := dk_83 (dk_at dksX2_init_3 3 rfl rfl)
theorem dX2_init_75 : decode cX2_init 75 = .ok (.putfield 18, 3) := dk_181 0 18 (dk_at dksX2_init_3 4 rfl rfl)
theorem dX2_init_78 : decode cX2_init 78 = .ok (.return_, 1) := dk_177 (dk_at dksX2_init_3 7 rfl rfl)
abbrev cX2_begins : ByteArray := prog_10_method_2_code
def yX2_begins : MethodName := ⟨RX2, "begins", "()V"⟩
def dkwX2_begins_2 : List UInt8 := [132, 1, 1, 167, 255, 212, 42, 182, 0, 34, 177]
abbrev dktX2_begins_2 : List UInt8 := dkwX2_begins_2 ++ []
def dkwX2_begins_1 : List UInt8 := [61, 28, 6, 162, 0, 21, 42, 180, 0, 18, 27, 50, 180, 0, 30, 28, 3, 79, 132, 2, 1, 167, 255, 236]
abbrev dktX2_begins_1 : List UInt8 := dkwX2_begins_1 ++ dktX2_begins_2
def dkwX2_begins_0 : List UInt8 := [42, 3, 181, 0, 22, 3, 60, 27, 16, 6, 162, 0, 44, 42, 180, 0, 18, 27, 50, 3, 181, 0, 26, 3]
abbrev dktX2_begins_0 : List UInt8 := dkwX2_begins_0 ++ dktX2_begins_1
theorem dksX2_begins_0 : cX2_begins.data.toList.drop 0 = dktX2_begins_0 := by decide +kernel
theorem dksX2_begins_1 : cX2_begins.data.toList.drop 24 = dktX2_begins_1 := dk_seg dksX2_begins_0 24 rfl rfl
theorem dksX2_begins_2 : cX2_begins.data.toList.drop 48 = dktX2_begins_2 := dk_seg dksX2_begins_1 24 rfl rfl
theorem dX2_begins_0 : decode cX2_begins 0 = .ok (.aload_n 0, 1) := dk_42 (dk_at dksX2_begins_0 0 rfl rfl)
theorem dX2_begins_1 : decode cX2_begins 1 = .ok (.iconst 0, 1) := dk_3 (dk_at dksX2_begins_0 1 rfl rfl)
theorem dX2_begins_2 : decode cX2_begins 2 = .ok (.putfield 22, 3) := dk_181 0 22 (dk_at dksX2_begins_0 2 rfl rfl)
theorem dX2_begins_5 : decode cX2_begins 5 = .ok (.iconst 0, 1) := dk_3 (dk_at dksX2_begins_0 5 rfl rfl)
theorem dX2_begins_6 : decode cX2_begins 6 = .ok (.istore_n 1, 1) := dk_60 (dk_at dksX2_begins_0 6 rfl rfl)
theorem dX2_begins_7 : decode cX2_begins 7 = .ok (.iload_n 1, 1) := dk_27 (dk_at dksX2_begins_0 7 rfl rfl)
theorem dX2_begins_8 : decode cX2_begins 8 = .ok (.bipush 6, 2) := dk_16 6 (dk_at dksX2_begins_0 8 rfl rfl)
theorem dX2_begins_10 : decode cX2_begins 10 = .ok (.if_icmp .ge 44, 3) := dk_162 0 44 (dk_at dksX2_begins_0 10 rfl rfl)
theorem dX2_begins_13 : decode cX2_begins 13 = .ok (.aload_n 0, 1) := dk_42 (dk_at dksX2_begins_0 13 rfl rfl)
theorem dX2_begins_14 : decode cX2_begins 14 = .ok (.getfield 18, 3) := dk_180 0 18 (dk_at dksX2_begins_0 14 rfl rfl)
theorem dX2_begins_17 : decode cX2_begins 17 = .ok (.iload_n 1, 1) := dk_27 (dk_at dksX2_begins_0 17 rfl rfl)
theorem dX2_begins_18 : decode cX2_begins 18 = .ok (.aaload, 1) := dk_50 (dk_at dksX2_begins_0 18 rfl rfl)
theorem dX2_begins_19 : decode cX2_begins 19 = .ok (.iconst 0, 1) := dk_3 (dk_at dksX2_begins_0 19 rfl rfl)
theorem dX2_begins_20 : decode cX2_begins 20 = .ok (.putfield 26, 3) := dk_181 0 26 (dk_at dksX2_begins_0 20 rfl rfl)
theorem dX2_begins_23 : decode cX2_begins 23 = .ok (.iconst 0, 1) := dk_3 (dk_at dksX2_begins_0 23 rfl rfl)
theorem dX2_begins_24 : decode cX2_begins 24 = .ok (.istore_n 2, 1) := dk_61 (dk_at dksX2_begins_1 0 rfl rfl)
theorem dX2_begins_25 : decode cX2_begins 25 = .ok (.iload_n 2, 1) := dk_28 (dk_at dksX2_begins_1 1 rfl rfl)
theorem dX2_begins_26 : decode cX2_begins 26 = .ok (.iconst 3, 1) := dk_6 (dk_at dksX2_begins_1 2 rfl rfl)
theorem dX2_begins_27 : decode cX2_begins 27 = .ok (.if_icmp .ge 21, 3) := dk_162 0 21 (dk_at dksX2_begins_1 3 rfl rfl)
theorem dX2_begins_30 : decode cX2_begins 30 = .ok (.aload_n 0, 1) := dk_42 (dk_at dksX2_begins_1 6 rfl rfl)
theorem dX2_begins_31 : decode cX2_begins 31 = .ok (.getfield 18, 3) := dk_180 0 18 (dk_at dksX2_begins_1 7 rfl rfl)
theorem dX2_begins_34 : decode cX2_begins 34 = .ok (.iload_n 1, 1) := dk_27 (dk_at dksX2_begins_1 10 rfl rfl)
theorem dX2_begins_35 : decode cX2_begins 35 = .ok (.aaload, 1) := dk_50 (dk_at dksX2_begins_1 11 rfl rfl)
theorem dX2_begins_36 : decode cX2_begins 36 = .ok (.getfield 30, 3) := dk_180 0 30 (dk_at dksX2_begins_1 12 rfl rfl)
theorem dX2_begins_39 : decode cX2_begins 39 = .ok (.iload_n 2, 1) := dk_28 (dk_at dksX2_begins_1 15 rfl rfl)
theorem dX2_begins_40 : decode cX2_begins 40 = .ok (.iconst 0, 1) := dk_3 (dk_at dksX2_begins_1 16 rfl rfl)
theorem dX2_begins_41 : decode cX2_begins 41 = .ok (.iastore, 1) := dk_79 (dk_at dksX2_begins_1 17 rfl rfl)
theorem dX2_begins_42 : decode cX2_begins 42 = .ok (.iinc 2 1, 3) := dk_132 2 1 (dk_at dksX2_begins_1 18 rfl rfl)
theorem dX2_begins_45 : decode cX2_begins 45 = .ok (.goto (-20), 3) := dk_167 255 236 (dk_at dksX2_begins_1 21 rfl rfl)
theorem dX2_begins_48 : decode cX2_begins 48 = .ok (.iinc 1 1, 3) := dk_132 1 1 (dk_at dksX2_begins_2 0 rfl rfl)
theorem dX2_begins_51 : decode cX2_begins 51 = .ok (.goto (-44), 3) := dk_167 255 212 (dk_at dksX2_begins_2 3 rfl rfl)
theorem dX2_begins_54 : decode cX2_begins 54 = .ok (.aload_n 0, 1) := dk_42 (dk_at dksX2_begins_2 6 rfl rfl)
theorem dX2_begins_55 : decode cX2_begins 55 = .ok (.invokevirtual 34, 3) := dk_182 0 34 (dk_at dksX2_begins_2 7 rfl rfl)
theorem dX2_begins_58 : decode cX2_begins 58 = .ok (.return_, 1) := dk_177 (dk_at dksX2_begins_2 10 rfl rfl)
abbrev cX2_liftBegins : ByteArray := prog_10_method_5_code
def yX2_liftBegins : MethodName := ⟨RX2, "liftBegins", "()V"⟩
def dkwX2_liftBegins_2 : List UInt8 := [180, 0, 67, 42, 180, 0, 22, 46, 182, 0, 70, 132, 1, 1, 167, 255, 197, 42, 3, 182, 0, 74, 177]
abbrev dktX2_liftBegins_2 : List UInt8 := dkwX2_liftBegins_2 ++ []
def dkwX2_liftBegins_1 : List UInt8 := [182, 0, 57, 153, 0, 7, 3, 167, 0, 25, 42, 180, 0, 3, 180, 0, 47, 27, 182, 0, 61, 192, 0, 65]
abbrev dktX2_liftBegins_1 : List UInt8 := dkwX2_liftBegins_1 ++ dktX2_liftBegins_2
def dkwX2_liftBegins_0 : List UInt8 := [3, 60, 27, 42, 180, 0, 3, 180, 0, 47, 182, 0, 51, 162, 0, 51, 42, 180, 0, 18, 27, 50, 42]
abbrev dktX2_liftBegins_0 : List UInt8 := dkwX2_liftBegins_0 ++ dktX2_liftBegins_1
theorem dksX2_liftBegins_0 : cX2_liftBegins.data.toList.drop 0 = dktX2_liftBegins_0 := by decide +kernel
theorem dksX2_liftBegins_1 : cX2_liftBegins.data.toList.drop 23 = dktX2_liftBegins_1 := dk_seg dksX2_liftBegins_0 23 rfl rfl
theorem dksX2_liftBegins_2 : cX2_liftBegins.data.toList.drop 47 = dktX2_liftBegins_2 := dk_seg dksX2_liftBegins_1 24 rfl rfl
theorem dX2_liftBegins_0 : decode cX2_liftBegins 0 = .ok (.iconst 0, 1) := dk_3 (dk_at dksX2_liftBegins_0 0 rfl rfl)
theorem dX2_liftBegins_1 : decode cX2_liftBegins 1 = .ok (.istore_n 1, 1) := dk_60 (dk_at dksX2_liftBegins_0 1 rfl rfl)
theorem dX2_liftBegins_2 : decode cX2_liftBegins 2 = .ok (.iload_n 1, 1) := dk_27 (dk_at dksX2_liftBegins_0 2 rfl rfl)
theorem dX2_liftBegins_3 : decode cX2_liftBegins 3 = .ok (.aload_n 0, 1) := dk_42 (dk_at dksX2_liftBegins_0 3 rfl rfl)
theorem dX2_liftBegins_4 : decode cX2_liftBegins 4 = .ok (.getfield 3, 3) := dk_180 0 3 (dk_at dksX2_liftBegins_0 4 rfl rfl)
theorem dX2_liftBegins_7 : decode cX2_liftBegins 7 = .ok (.getfield 47, 3) := dk_180 0 47 (dk_at dksX2_liftBegins_0 7 rfl rfl)
theorem dX2_liftBegins_10 : decode cX2_liftBegins 10 = .ok (.invokevirtual 51, 3) := dk_182 0 51 (dk_at dksX2_liftBegins_0 10 rfl rfl)
theorem dX2_liftBegins_13 : decode cX2_liftBegins 13 = .ok (.if_icmp .ge 51, 3) := dk_162 0 51 (dk_at dksX2_liftBegins_0 13 rfl rfl)
theorem dX2_liftBegins_16 : decode cX2_liftBegins 16 = .ok (.aload_n 0, 1) := dk_42 (dk_at dksX2_liftBegins_0 16 rfl rfl)
theorem dX2_liftBegins_17 : decode cX2_liftBegins 17 = .ok (.getfield 18, 3) := dk_180 0 18 (dk_at dksX2_liftBegins_0 17 rfl rfl)
theorem dX2_liftBegins_20 : decode cX2_liftBegins 20 = .ok (.iload_n 1, 1) := dk_27 (dk_at dksX2_liftBegins_0 20 rfl rfl)
theorem dX2_liftBegins_21 : decode cX2_liftBegins 21 = .ok (.aaload, 1) := dk_50 (dk_at dksX2_liftBegins_0 21 rfl rfl)
theorem dX2_liftBegins_22 : decode cX2_liftBegins 22 = .ok (.aload_n 0, 1) := dk_42 (dk_at dksX2_liftBegins_0 22 rfl rfl)
theorem dX2_liftBegins_23 : decode cX2_liftBegins 23 = .ok (.invokevirtual 57, 3) := dk_182 0 57 (dk_at dksX2_liftBegins_1 0 rfl rfl)
theorem dX2_liftBegins_26 : decode cX2_liftBegins 26 = .ok (.ifCond .eq 7, 3) := dk_153 0 7 (dk_at dksX2_liftBegins_1 3 rfl rfl)
theorem dX2_liftBegins_29 : decode cX2_liftBegins 29 = .ok (.iconst 0, 1) := dk_3 (dk_at dksX2_liftBegins_1 6 rfl rfl)
theorem dX2_liftBegins_30 : decode cX2_liftBegins 30 = .ok (.goto 25, 3) := dk_167 0 25 (dk_at dksX2_liftBegins_1 7 rfl rfl)
theorem dX2_liftBegins_33 : decode cX2_liftBegins 33 = .ok (.aload_n 0, 1) := dk_42 (dk_at dksX2_liftBegins_1 10 rfl rfl)
theorem dX2_liftBegins_34 : decode cX2_liftBegins 34 = .ok (.getfield 3, 3) := dk_180 0 3 (dk_at dksX2_liftBegins_1 11 rfl rfl)
theorem dX2_liftBegins_37 : decode cX2_liftBegins 37 = .ok (.getfield 47, 3) := dk_180 0 47 (dk_at dksX2_liftBegins_1 14 rfl rfl)
theorem dX2_liftBegins_40 : decode cX2_liftBegins 40 = .ok (.iload_n 1, 1) := dk_27 (dk_at dksX2_liftBegins_1 17 rfl rfl)
theorem dX2_liftBegins_41 : decode cX2_liftBegins 41 = .ok (.invokevirtual 61, 3) := dk_182 0 61 (dk_at dksX2_liftBegins_1 18 rfl rfl)
theorem dX2_liftBegins_44 : decode cX2_liftBegins 44 = .ok (.checkcast 65, 3) := dk_192 0 65 (dk_at dksX2_liftBegins_1 21 rfl rfl)
theorem dX2_liftBegins_47 : decode cX2_liftBegins 47 = .ok (.getfield 67, 3) := dk_180 0 67 (dk_at dksX2_liftBegins_2 0 rfl rfl)
theorem dX2_liftBegins_50 : decode cX2_liftBegins 50 = .ok (.aload_n 0, 1) := dk_42 (dk_at dksX2_liftBegins_2 3 rfl rfl)
theorem dX2_liftBegins_51 : decode cX2_liftBegins 51 = .ok (.getfield 22, 3) := dk_180 0 22 (dk_at dksX2_liftBegins_2 4 rfl rfl)
theorem dX2_liftBegins_54 : decode cX2_liftBegins 54 = .ok (.iaload, 1) := dk_46 (dk_at dksX2_liftBegins_2 7 rfl rfl)
theorem dX2_liftBegins_55 : decode cX2_liftBegins 55 = .ok (.invokevirtual 70, 3) := dk_182 0 70 (dk_at dksX2_liftBegins_2 8 rfl rfl)
theorem dX2_liftBegins_58 : decode cX2_liftBegins 58 = .ok (.iinc 1 1, 3) := dk_132 1 1 (dk_at dksX2_liftBegins_2 11 rfl rfl)
theorem dX2_liftBegins_61 : decode cX2_liftBegins 61 = .ok (.goto (-59), 3) := dk_167 255 197 (dk_at dksX2_liftBegins_2 14 rfl rfl)
theorem dX2_liftBegins_64 : decode cX2_liftBegins 64 = .ok (.aload_n 0, 1) := dk_42 (dk_at dksX2_liftBegins_2 17 rfl rfl)
theorem dX2_liftBegins_65 : decode cX2_liftBegins 65 = .ok (.iconst 0, 1) := dk_3 (dk_at dksX2_liftBegins_2 18 rfl rfl)
theorem dX2_liftBegins_66 : decode cX2_liftBegins 66 = .ok (.invokevirtual 74, 3) := dk_182 0 74 (dk_at dksX2_liftBegins_2 19 rfl rfl)
theorem dX2_liftBegins_69 : decode cX2_liftBegins 69 = .ok (.return_, 1) := dk_177 (dk_at dksX2_liftBegins_2 22 rfl rfl)
abbrev cX2_isOver : ByteArray := prog_10_method_4_code
def yX2_isOver : MethodName := ⟨RX2, "isOver", "()Z"⟩
def dkwX2_isOver_0 : List UInt8 := [42, 180, 0, 22, 6, 160, 0, 7, 4, 167, 0, 4, 3, 172]
abbrev dktX2_isOver_0 : List UInt8 := dkwX2_isOver_0 ++ []
theorem dksX2_isOver_0 : cX2_isOver.data.toList.drop 0 = dktX2_isOver_0 := by decide +kernel
theorem dX2_isOver_0 : decode cX2_isOver 0 = .ok (.aload_n 0, 1) := dk_42 (dk_at dksX2_isOver_0 0 rfl rfl)
theorem dX2_isOver_1 : decode cX2_isOver 1 = .ok (.getfield 22, 3) := dk_180 0 22 (dk_at dksX2_isOver_0 1 rfl rfl)
theorem dX2_isOver_4 : decode cX2_isOver 4 = .ok (.iconst 3, 1) := dk_6 (dk_at dksX2_isOver_0 4 rfl rfl)
theorem dX2_isOver_5 : decode cX2_isOver 5 = .ok (.if_icmp .ne 7, 3) := dk_160 0 7 (dk_at dksX2_isOver_0 5 rfl rfl)
theorem dX2_isOver_8 : decode cX2_isOver 8 = .ok (.iconst 1, 1) := dk_4 (dk_at dksX2_isOver_0 8 rfl rfl)
theorem dX2_isOver_9 : decode cX2_isOver 9 = .ok (.goto 4, 3) := dk_167 0 4 (dk_at dksX2_isOver_0 9 rfl rfl)
theorem dX2_isOver_12 : decode cX2_isOver 12 = .ok (.iconst 0, 1) := dk_3 (dk_at dksX2_isOver_0 12 rfl rfl)
theorem dX2_isOver_13 : decode cX2_isOver 13 = .ok (.ireturn, 1) := dk_172 (dk_at dksX2_isOver_0 13 rfl rfl)
abbrev cX2_roundBegins : ByteArray := prog_10_method_6_code
def yX2_roundBegins : MethodName := ⟨RX2, "roundBegins", "(I)V"⟩
def dkwX2_roundBegins_3 : List UInt8 := [5, 160, 0, 7, 5, 167, 0, 4, 3, 181, 0, 80, 132, 2, 1, 167, 255, 183, 177]
abbrev dktX2_roundBegins_3 : List UInt8 := dkwX2_roundBegins_3 ++ []
def dkwX2_roundBegins_2 : List UInt8 := [153, 0, 7, 3, 167, 0, 29, 27, 154, 0, 7, 4, 167, 0, 21, 27, 5, 160, 0, 15, 42, 180, 0, 22]
abbrev dktX2_roundBegins_2 : List UInt8 := dkwX2_roundBegins_2 ++ dktX2_roundBegins_3
def dkwX2_roundBegins_1 : List UInt8 := [162, 0, 65, 42, 180, 0, 18, 28, 50, 3, 181, 0, 77, 42, 180, 0, 18, 28, 50, 42, 182, 0, 57]
abbrev dktX2_roundBegins_1 : List UInt8 := dkwX2_roundBegins_1 ++ dktX2_roundBegins_2
def dkwX2_roundBegins_0 : List UInt8 := [42, 27, 181, 0, 37, 42, 3, 181, 0, 40, 3, 61, 28, 42, 180, 0, 3, 180, 0, 47, 182, 0, 51]
abbrev dktX2_roundBegins_0 : List UInt8 := dkwX2_roundBegins_0 ++ dktX2_roundBegins_1
theorem dksX2_roundBegins_0 : cX2_roundBegins.data.toList.drop 0 = dktX2_roundBegins_0 := by decide +kernel
theorem dksX2_roundBegins_1 : cX2_roundBegins.data.toList.drop 23 = dktX2_roundBegins_1 := dk_seg dksX2_roundBegins_0 23 rfl rfl
theorem dksX2_roundBegins_2 : cX2_roundBegins.data.toList.drop 46 = dktX2_roundBegins_2 := dk_seg dksX2_roundBegins_1 23 rfl rfl
theorem dksX2_roundBegins_3 : cX2_roundBegins.data.toList.drop 70 = dktX2_roundBegins_3 := dk_seg dksX2_roundBegins_2 24 rfl rfl
theorem dX2_roundBegins_0 : decode cX2_roundBegins 0 = .ok (.aload_n 0, 1) := dk_42 (dk_at dksX2_roundBegins_0 0 rfl rfl)
theorem dX2_roundBegins_1 : decode cX2_roundBegins 1 = .ok (.iload_n 1, 1) := dk_27 (dk_at dksX2_roundBegins_0 1 rfl rfl)
theorem dX2_roundBegins_2 : decode cX2_roundBegins 2 = .ok (.putfield 37, 3) := dk_181 0 37 (dk_at dksX2_roundBegins_0 2 rfl rfl)
theorem dX2_roundBegins_5 : decode cX2_roundBegins 5 = .ok (.aload_n 0, 1) := dk_42 (dk_at dksX2_roundBegins_0 5 rfl rfl)
theorem dX2_roundBegins_6 : decode cX2_roundBegins 6 = .ok (.iconst 0, 1) := dk_3 (dk_at dksX2_roundBegins_0 6 rfl rfl)
theorem dX2_roundBegins_7 : decode cX2_roundBegins 7 = .ok (.putfield 40, 3) := dk_181 0 40 (dk_at dksX2_roundBegins_0 7 rfl rfl)
theorem dX2_roundBegins_10 : decode cX2_roundBegins 10 = .ok (.iconst 0, 1) := dk_3 (dk_at dksX2_roundBegins_0 10 rfl rfl)
theorem dX2_roundBegins_11 : decode cX2_roundBegins 11 = .ok (.istore_n 2, 1) := dk_61 (dk_at dksX2_roundBegins_0 11 rfl rfl)
theorem dX2_roundBegins_12 : decode cX2_roundBegins 12 = .ok (.iload_n 2, 1) := dk_28 (dk_at dksX2_roundBegins_0 12 rfl rfl)
theorem dX2_roundBegins_13 : decode cX2_roundBegins 13 = .ok (.aload_n 0, 1) := dk_42 (dk_at dksX2_roundBegins_0 13 rfl rfl)
theorem dX2_roundBegins_14 : decode cX2_roundBegins 14 = .ok (.getfield 3, 3) := dk_180 0 3 (dk_at dksX2_roundBegins_0 14 rfl rfl)
theorem dX2_roundBegins_17 : decode cX2_roundBegins 17 = .ok (.getfield 47, 3) := dk_180 0 47 (dk_at dksX2_roundBegins_0 17 rfl rfl)
theorem dX2_roundBegins_20 : decode cX2_roundBegins 20 = .ok (.invokevirtual 51, 3) := dk_182 0 51 (dk_at dksX2_roundBegins_0 20 rfl rfl)
theorem dX2_roundBegins_23 : decode cX2_roundBegins 23 = .ok (.if_icmp .ge 65, 3) := dk_162 0 65 (dk_at dksX2_roundBegins_1 0 rfl rfl)
theorem dX2_roundBegins_26 : decode cX2_roundBegins 26 = .ok (.aload_n 0, 1) := dk_42 (dk_at dksX2_roundBegins_1 3 rfl rfl)
theorem dX2_roundBegins_27 : decode cX2_roundBegins 27 = .ok (.getfield 18, 3) := dk_180 0 18 (dk_at dksX2_roundBegins_1 4 rfl rfl)
theorem dX2_roundBegins_30 : decode cX2_roundBegins 30 = .ok (.iload_n 2, 1) := dk_28 (dk_at dksX2_roundBegins_1 7 rfl rfl)
theorem dX2_roundBegins_31 : decode cX2_roundBegins 31 = .ok (.aaload, 1) := dk_50 (dk_at dksX2_roundBegins_1 8 rfl rfl)
theorem dX2_roundBegins_32 : decode cX2_roundBegins 32 = .ok (.iconst 0, 1) := dk_3 (dk_at dksX2_roundBegins_1 9 rfl rfl)
theorem dX2_roundBegins_33 : decode cX2_roundBegins 33 = .ok (.putfield 77, 3) := dk_181 0 77 (dk_at dksX2_roundBegins_1 10 rfl rfl)
theorem dX2_roundBegins_36 : decode cX2_roundBegins 36 = .ok (.aload_n 0, 1) := dk_42 (dk_at dksX2_roundBegins_1 13 rfl rfl)
theorem dX2_roundBegins_37 : decode cX2_roundBegins 37 = .ok (.getfield 18, 3) := dk_180 0 18 (dk_at dksX2_roundBegins_1 14 rfl rfl)
theorem dX2_roundBegins_40 : decode cX2_roundBegins 40 = .ok (.iload_n 2, 1) := dk_28 (dk_at dksX2_roundBegins_1 17 rfl rfl)
theorem dX2_roundBegins_41 : decode cX2_roundBegins 41 = .ok (.aaload, 1) := dk_50 (dk_at dksX2_roundBegins_1 18 rfl rfl)
theorem dX2_roundBegins_42 : decode cX2_roundBegins 42 = .ok (.aload_n 0, 1) := dk_42 (dk_at dksX2_roundBegins_1 19 rfl rfl)
theorem dX2_roundBegins_43 : decode cX2_roundBegins 43 = .ok (.invokevirtual 57, 3) := dk_182 0 57 (dk_at dksX2_roundBegins_1 20 rfl rfl)
theorem dX2_roundBegins_46 : decode cX2_roundBegins 46 = .ok (.ifCond .eq 7, 3) := dk_153 0 7 (dk_at dksX2_roundBegins_2 0 rfl rfl)
theorem dX2_roundBegins_49 : decode cX2_roundBegins 49 = .ok (.iconst 0, 1) := dk_3 (dk_at dksX2_roundBegins_2 3 rfl rfl)
theorem dX2_roundBegins_50 : decode cX2_roundBegins 50 = .ok (.goto 29, 3) := dk_167 0 29 (dk_at dksX2_roundBegins_2 4 rfl rfl)
theorem dX2_roundBegins_53 : decode cX2_roundBegins 53 = .ok (.iload_n 1, 1) := dk_27 (dk_at dksX2_roundBegins_2 7 rfl rfl)
theorem dX2_roundBegins_54 : decode cX2_roundBegins 54 = .ok (.ifCond .ne 7, 3) := dk_154 0 7 (dk_at dksX2_roundBegins_2 8 rfl rfl)
theorem dX2_roundBegins_57 : decode cX2_roundBegins 57 = .ok (.iconst 1, 1) := dk_4 (dk_at dksX2_roundBegins_2 11 rfl rfl)
theorem dX2_roundBegins_58 : decode cX2_roundBegins 58 = .ok (.goto 21, 3) := dk_167 0 21 (dk_at dksX2_roundBegins_2 12 rfl rfl)
theorem dX2_roundBegins_61 : decode cX2_roundBegins 61 = .ok (.iload_n 1, 1) := dk_27 (dk_at dksX2_roundBegins_2 15 rfl rfl)
theorem dX2_roundBegins_62 : decode cX2_roundBegins 62 = .ok (.iconst 2, 1) := dk_5 (dk_at dksX2_roundBegins_2 16 rfl rfl)
theorem dX2_roundBegins_63 : decode cX2_roundBegins 63 = .ok (.if_icmp .ne 15, 3) := dk_160 0 15 (dk_at dksX2_roundBegins_2 17 rfl rfl)
theorem dX2_roundBegins_66 : decode cX2_roundBegins 66 = .ok (.aload_n 0, 1) := dk_42 (dk_at dksX2_roundBegins_2 20 rfl rfl)
theorem dX2_roundBegins_67 : decode cX2_roundBegins 67 = .ok (.getfield 22, 3) := dk_180 0 22 (dk_at dksX2_roundBegins_2 21 rfl rfl)
theorem dX2_roundBegins_70 : decode cX2_roundBegins 70 = .ok (.iconst 2, 1) := dk_5 (dk_at dksX2_roundBegins_3 0 rfl rfl)
theorem dX2_roundBegins_71 : decode cX2_roundBegins 71 = .ok (.if_icmp .ne 7, 3) := dk_160 0 7 (dk_at dksX2_roundBegins_3 1 rfl rfl)
theorem dX2_roundBegins_74 : decode cX2_roundBegins 74 = .ok (.iconst 2, 1) := dk_5 (dk_at dksX2_roundBegins_3 4 rfl rfl)
theorem dX2_roundBegins_75 : decode cX2_roundBegins 75 = .ok (.goto 4, 3) := dk_167 0 4 (dk_at dksX2_roundBegins_3 5 rfl rfl)
theorem dX2_roundBegins_78 : decode cX2_roundBegins 78 = .ok (.iconst 0, 1) := dk_3 (dk_at dksX2_roundBegins_3 8 rfl rfl)
theorem dX2_roundBegins_79 : decode cX2_roundBegins 79 = .ok (.putfield 80, 3) := dk_181 0 80 (dk_at dksX2_roundBegins_3 9 rfl rfl)
theorem dX2_roundBegins_82 : decode cX2_roundBegins 82 = .ok (.iinc 2 1, 3) := dk_132 2 1 (dk_at dksX2_roundBegins_3 12 rfl rfl)
theorem dX2_roundBegins_85 : decode cX2_roundBegins 85 = .ok (.goto (-73), 3) := dk_167 255 183 (dk_at dksX2_roundBegins_3 15 rfl rfl)
theorem dX2_roundBegins_88 : decode cX2_roundBegins 88 = .ok (.return_, 1) := dk_177 (dk_at dksX2_roundBegins_3 18 rfl rfl)
abbrev cX2_called : ByteArray := prog_10_method_8_code
def yX2_called : MethodName := ⟨RX2, "called", "()I"⟩
def dkwX2_called_3 : List UInt8 := [167, 255, 190, 27, 172]
abbrev dktX2_called_3 : List UInt8 := dkwX2_called_3 ++ []
def dkwX2_called_2 : List UInt8 := [180, 0, 89, 27, 42, 180, 0, 18, 27, 50, 180, 0, 89, 182, 0, 92, 153, 0, 5, 28, 60, 132, 2, 1]
abbrev dktX2_called_2 : List UInt8 := dkwX2_called_2 ++ dktX2_called_3
def dkwX2_called_1 : List UInt8 := [182, 0, 86, 154, 0, 6, 167, 0, 37, 27, 2, 159, 0, 30, 42, 28, 42, 180, 0, 18, 28, 50]
abbrev dktX2_called_1 : List UInt8 := dkwX2_called_1 ++ dktX2_called_2
def dkwX2_called_0 : List UInt8 := [2, 60, 3, 61, 28, 42, 180, 0, 3, 180, 0, 47, 182, 0, 51, 162, 0, 58, 42, 180, 0, 18, 28, 50]
abbrev dktX2_called_0 : List UInt8 := dkwX2_called_0 ++ dktX2_called_1
theorem dksX2_called_0 : cX2_called.data.toList.drop 0 = dktX2_called_0 := by decide +kernel
theorem dksX2_called_1 : cX2_called.data.toList.drop 24 = dktX2_called_1 := dk_seg dksX2_called_0 24 rfl rfl
theorem dksX2_called_2 : cX2_called.data.toList.drop 46 = dktX2_called_2 := dk_seg dksX2_called_1 22 rfl rfl
theorem dksX2_called_3 : cX2_called.data.toList.drop 70 = dktX2_called_3 := dk_seg dksX2_called_2 24 rfl rfl
theorem dX2_called_0 : decode cX2_called 0 = .ok (.iconst (-1), 1) := dk_2 (dk_at dksX2_called_0 0 rfl rfl)
theorem dX2_called_1 : decode cX2_called 1 = .ok (.istore_n 1, 1) := dk_60 (dk_at dksX2_called_0 1 rfl rfl)
theorem dX2_called_2 : decode cX2_called 2 = .ok (.iconst 0, 1) := dk_3 (dk_at dksX2_called_0 2 rfl rfl)
theorem dX2_called_3 : decode cX2_called 3 = .ok (.istore_n 2, 1) := dk_61 (dk_at dksX2_called_0 3 rfl rfl)
theorem dX2_called_4 : decode cX2_called 4 = .ok (.iload_n 2, 1) := dk_28 (dk_at dksX2_called_0 4 rfl rfl)
theorem dX2_called_5 : decode cX2_called 5 = .ok (.aload_n 0, 1) := dk_42 (dk_at dksX2_called_0 5 rfl rfl)
theorem dX2_called_6 : decode cX2_called 6 = .ok (.getfield 3, 3) := dk_180 0 3 (dk_at dksX2_called_0 6 rfl rfl)
theorem dX2_called_9 : decode cX2_called 9 = .ok (.getfield 47, 3) := dk_180 0 47 (dk_at dksX2_called_0 9 rfl rfl)
theorem dX2_called_12 : decode cX2_called 12 = .ok (.invokevirtual 51, 3) := dk_182 0 51 (dk_at dksX2_called_0 12 rfl rfl)
theorem dX2_called_15 : decode cX2_called 15 = .ok (.if_icmp .ge 58, 3) := dk_162 0 58 (dk_at dksX2_called_0 15 rfl rfl)
theorem dX2_called_18 : decode cX2_called 18 = .ok (.aload_n 0, 1) := dk_42 (dk_at dksX2_called_0 18 rfl rfl)
theorem dX2_called_19 : decode cX2_called 19 = .ok (.getfield 18, 3) := dk_180 0 18 (dk_at dksX2_called_0 19 rfl rfl)
theorem dX2_called_22 : decode cX2_called 22 = .ok (.iload_n 2, 1) := dk_28 (dk_at dksX2_called_0 22 rfl rfl)
theorem dX2_called_23 : decode cX2_called 23 = .ok (.aaload, 1) := dk_50 (dk_at dksX2_called_0 23 rfl rfl)
theorem dX2_called_24 : decode cX2_called 24 = .ok (.invokevirtual 86, 3) := dk_182 0 86 (dk_at dksX2_called_1 0 rfl rfl)
theorem dX2_called_27 : decode cX2_called 27 = .ok (.ifCond .ne 6, 3) := dk_154 0 6 (dk_at dksX2_called_1 3 rfl rfl)
theorem dX2_called_30 : decode cX2_called 30 = .ok (.goto 37, 3) := dk_167 0 37 (dk_at dksX2_called_1 6 rfl rfl)
theorem dX2_called_33 : decode cX2_called 33 = .ok (.iload_n 1, 1) := dk_27 (dk_at dksX2_called_1 9 rfl rfl)
theorem dX2_called_34 : decode cX2_called 34 = .ok (.iconst (-1), 1) := dk_2 (dk_at dksX2_called_1 10 rfl rfl)
theorem dX2_called_35 : decode cX2_called 35 = .ok (.if_icmp .eq 30, 3) := dk_159 0 30 (dk_at dksX2_called_1 11 rfl rfl)
theorem dX2_called_38 : decode cX2_called 38 = .ok (.aload_n 0, 1) := dk_42 (dk_at dksX2_called_1 14 rfl rfl)
theorem dX2_called_39 : decode cX2_called 39 = .ok (.iload_n 2, 1) := dk_28 (dk_at dksX2_called_1 15 rfl rfl)
theorem dX2_called_40 : decode cX2_called 40 = .ok (.aload_n 0, 1) := dk_42 (dk_at dksX2_called_1 16 rfl rfl)
theorem dX2_called_41 : decode cX2_called 41 = .ok (.getfield 18, 3) := dk_180 0 18 (dk_at dksX2_called_1 17 rfl rfl)
theorem dX2_called_44 : decode cX2_called 44 = .ok (.iload_n 2, 1) := dk_28 (dk_at dksX2_called_1 20 rfl rfl)
theorem dX2_called_45 : decode cX2_called 45 = .ok (.aaload, 1) := dk_50 (dk_at dksX2_called_1 21 rfl rfl)
theorem dX2_called_46 : decode cX2_called 46 = .ok (.getfield 89, 3) := dk_180 0 89 (dk_at dksX2_called_2 0 rfl rfl)
theorem dX2_called_49 : decode cX2_called 49 = .ok (.iload_n 1, 1) := dk_27 (dk_at dksX2_called_2 3 rfl rfl)
theorem dX2_called_50 : decode cX2_called 50 = .ok (.aload_n 0, 1) := dk_42 (dk_at dksX2_called_2 4 rfl rfl)
theorem dX2_called_51 : decode cX2_called 51 = .ok (.getfield 18, 3) := dk_180 0 18 (dk_at dksX2_called_2 5 rfl rfl)
theorem dX2_called_54 : decode cX2_called 54 = .ok (.iload_n 1, 1) := dk_27 (dk_at dksX2_called_2 8 rfl rfl)
theorem dX2_called_55 : decode cX2_called 55 = .ok (.aaload, 1) := dk_50 (dk_at dksX2_called_2 9 rfl rfl)
theorem dX2_called_56 : decode cX2_called 56 = .ok (.getfield 89, 3) := dk_180 0 89 (dk_at dksX2_called_2 10 rfl rfl)
theorem dX2_called_59 : decode cX2_called 59 = .ok (.invokevirtual 92, 3) := dk_182 0 92 (dk_at dksX2_called_2 13 rfl rfl)
theorem dX2_called_62 : decode cX2_called 62 = .ok (.ifCond .eq 5, 3) := dk_153 0 5 (dk_at dksX2_called_2 16 rfl rfl)
theorem dX2_called_65 : decode cX2_called 65 = .ok (.iload_n 2, 1) := dk_28 (dk_at dksX2_called_2 19 rfl rfl)
theorem dX2_called_66 : decode cX2_called 66 = .ok (.istore_n 1, 1) := dk_60 (dk_at dksX2_called_2 20 rfl rfl)
theorem dX2_called_67 : decode cX2_called 67 = .ok (.iinc 2 1, 3) := dk_132 2 1 (dk_at dksX2_called_2 21 rfl rfl)
theorem dX2_called_70 : decode cX2_called 70 = .ok (.goto (-66), 3) := dk_167 255 190 (dk_at dksX2_called_3 0 rfl rfl)
theorem dX2_called_73 : decode cX2_called 73 = .ok (.iload_n 1, 1) := dk_27 (dk_at dksX2_called_3 3 rfl rfl)
theorem dX2_called_74 : decode cX2_called 74 = .ok (.ireturn, 1) := dk_172 (dk_at dksX2_called_3 4 rfl rfl)
abbrev cX2_isAheadAt : ByteArray := prog_10_method_7_code
def yX2_isAheadAt : MethodName := ⟨RX2, "isAheadAt", "(IIII)Z"⟩
def dkwX2_isAheadAt_2 : List UInt8 := [162, 0, 7, 4, 167, 0, 4, 3, 172]
abbrev dktX2_isAheadAt_2 : List UInt8 := dkwX2_isAheadAt_2 ++ []
def dkwX2_isAheadAt_1 : List UInt8 := [192, 0, 65, 180, 0, 83, 42, 180, 0, 3, 180, 0, 47, 29, 182, 0, 61, 192, 0, 65, 180, 0, 83]
abbrev dktX2_isAheadAt_1 : List UInt8 := dkwX2_isAheadAt_1 ++ dktX2_isAheadAt_2
def dkwX2_isAheadAt_0 : List UInt8 := [28, 21, 4, 161, 0, 46, 28, 21, 4, 160, 0, 44, 42, 180, 0, 3, 180, 0, 47, 27, 182, 0, 61]
abbrev dktX2_isAheadAt_0 : List UInt8 := dkwX2_isAheadAt_0 ++ dktX2_isAheadAt_1
theorem dksX2_isAheadAt_0 : cX2_isAheadAt.data.toList.drop 0 = dktX2_isAheadAt_0 := by decide +kernel
theorem dksX2_isAheadAt_1 : cX2_isAheadAt.data.toList.drop 23 = dktX2_isAheadAt_1 := dk_seg dksX2_isAheadAt_0 23 rfl rfl
theorem dksX2_isAheadAt_2 : cX2_isAheadAt.data.toList.drop 46 = dktX2_isAheadAt_2 := dk_seg dksX2_isAheadAt_1 23 rfl rfl
theorem dX2_isAheadAt_0 : decode cX2_isAheadAt 0 = .ok (.iload_n 2, 1) := dk_28 (dk_at dksX2_isAheadAt_0 0 rfl rfl)
theorem dX2_isAheadAt_1 : decode cX2_isAheadAt 1 = .ok (.iload 4, 2) := dk_21 4 (dk_at dksX2_isAheadAt_0 1 rfl rfl)
theorem dX2_isAheadAt_3 : decode cX2_isAheadAt 3 = .ok (.if_icmp .lt 46, 3) := dk_161 0 46 (dk_at dksX2_isAheadAt_0 3 rfl rfl)
theorem dX2_isAheadAt_6 : decode cX2_isAheadAt 6 = .ok (.iload_n 2, 1) := dk_28 (dk_at dksX2_isAheadAt_0 6 rfl rfl)
theorem dX2_isAheadAt_7 : decode cX2_isAheadAt 7 = .ok (.iload 4, 2) := dk_21 4 (dk_at dksX2_isAheadAt_0 7 rfl rfl)
theorem dX2_isAheadAt_9 : decode cX2_isAheadAt 9 = .ok (.if_icmp .ne 44, 3) := dk_160 0 44 (dk_at dksX2_isAheadAt_0 9 rfl rfl)
theorem dX2_isAheadAt_12 : decode cX2_isAheadAt 12 = .ok (.aload_n 0, 1) := dk_42 (dk_at dksX2_isAheadAt_0 12 rfl rfl)
theorem dX2_isAheadAt_13 : decode cX2_isAheadAt 13 = .ok (.getfield 3, 3) := dk_180 0 3 (dk_at dksX2_isAheadAt_0 13 rfl rfl)
theorem dX2_isAheadAt_16 : decode cX2_isAheadAt 16 = .ok (.getfield 47, 3) := dk_180 0 47 (dk_at dksX2_isAheadAt_0 16 rfl rfl)
theorem dX2_isAheadAt_19 : decode cX2_isAheadAt 19 = .ok (.iload_n 1, 1) := dk_27 (dk_at dksX2_isAheadAt_0 19 rfl rfl)
theorem dX2_isAheadAt_20 : decode cX2_isAheadAt 20 = .ok (.invokevirtual 61, 3) := dk_182 0 61 (dk_at dksX2_isAheadAt_0 20 rfl rfl)
theorem dX2_isAheadAt_23 : decode cX2_isAheadAt 23 = .ok (.checkcast 65, 3) := dk_192 0 65 (dk_at dksX2_isAheadAt_1 0 rfl rfl)
theorem dX2_isAheadAt_26 : decode cX2_isAheadAt 26 = .ok (.getfield 83, 3) := dk_180 0 83 (dk_at dksX2_isAheadAt_1 3 rfl rfl)
theorem dX2_isAheadAt_29 : decode cX2_isAheadAt 29 = .ok (.aload_n 0, 1) := dk_42 (dk_at dksX2_isAheadAt_1 6 rfl rfl)
theorem dX2_isAheadAt_30 : decode cX2_isAheadAt 30 = .ok (.getfield 3, 3) := dk_180 0 3 (dk_at dksX2_isAheadAt_1 7 rfl rfl)
theorem dX2_isAheadAt_33 : decode cX2_isAheadAt 33 = .ok (.getfield 47, 3) := dk_180 0 47 (dk_at dksX2_isAheadAt_1 10 rfl rfl)
theorem dX2_isAheadAt_36 : decode cX2_isAheadAt 36 = .ok (.iload_n 3, 1) := dk_29 (dk_at dksX2_isAheadAt_1 13 rfl rfl)
theorem dX2_isAheadAt_37 : decode cX2_isAheadAt 37 = .ok (.invokevirtual 61, 3) := dk_182 0 61 (dk_at dksX2_isAheadAt_1 14 rfl rfl)
theorem dX2_isAheadAt_40 : decode cX2_isAheadAt 40 = .ok (.checkcast 65, 3) := dk_192 0 65 (dk_at dksX2_isAheadAt_1 17 rfl rfl)
theorem dX2_isAheadAt_43 : decode cX2_isAheadAt 43 = .ok (.getfield 83, 3) := dk_180 0 83 (dk_at dksX2_isAheadAt_1 20 rfl rfl)
theorem dX2_isAheadAt_46 : decode cX2_isAheadAt 46 = .ok (.if_icmp .ge 7, 3) := dk_162 0 7 (dk_at dksX2_isAheadAt_2 0 rfl rfl)
theorem dX2_isAheadAt_49 : decode cX2_isAheadAt 49 = .ok (.iconst 1, 1) := dk_4 (dk_at dksX2_isAheadAt_2 3 rfl rfl)
theorem dX2_isAheadAt_50 : decode cX2_isAheadAt 50 = .ok (.goto 4, 3) := dk_167 0 4 (dk_at dksX2_isAheadAt_2 4 rfl rfl)
theorem dX2_isAheadAt_53 : decode cX2_isAheadAt 53 = .ok (.iconst 0, 1) := dk_3 (dk_at dksX2_isAheadAt_2 7 rfl rfl)
theorem dX2_isAheadAt_54 : decode cX2_isAheadAt 54 = .ok (.ireturn, 1) := dk_172 (dk_at dksX2_isAheadAt_2 8 rfl rfl)
abbrev cX2_odds : ByteArray := prog_10_method_10_code
def yX2_odds : MethodName := ⟨RX2, "odds", "(I)I"⟩
def dkwX2_odds_1 : List UInt8 := [180, 0, 18, 27, 50, 180, 0, 89, 42, 180, 0, 18, 27, 50, 180, 0, 99, 182, 0, 102, 172]
abbrev dktX2_odds_1 : List UInt8 := dkwX2_odds_1 ++ []
def dkwX2_odds_0 : List UInt8 := [42, 180, 0, 3, 42, 180, 0, 3, 180, 0, 47, 27, 182, 0, 61, 192, 0, 65, 42, 180, 0, 22, 42]
abbrev dktX2_odds_0 : List UInt8 := dkwX2_odds_0 ++ dktX2_odds_1
theorem dksX2_odds_0 : cX2_odds.data.toList.drop 0 = dktX2_odds_0 := by decide +kernel
theorem dksX2_odds_1 : cX2_odds.data.toList.drop 23 = dktX2_odds_1 := dk_seg dksX2_odds_0 23 rfl rfl
theorem dX2_odds_0 : decode cX2_odds 0 = .ok (.aload_n 0, 1) := dk_42 (dk_at dksX2_odds_0 0 rfl rfl)
theorem dX2_odds_1 : decode cX2_odds 1 = .ok (.getfield 3, 3) := dk_180 0 3 (dk_at dksX2_odds_0 1 rfl rfl)
theorem dX2_odds_4 : decode cX2_odds 4 = .ok (.aload_n 0, 1) := dk_42 (dk_at dksX2_odds_0 4 rfl rfl)
theorem dX2_odds_5 : decode cX2_odds 5 = .ok (.getfield 3, 3) := dk_180 0 3 (dk_at dksX2_odds_0 5 rfl rfl)
theorem dX2_odds_8 : decode cX2_odds 8 = .ok (.getfield 47, 3) := dk_180 0 47 (dk_at dksX2_odds_0 8 rfl rfl)
theorem dX2_odds_11 : decode cX2_odds 11 = .ok (.iload_n 1, 1) := dk_27 (dk_at dksX2_odds_0 11 rfl rfl)
theorem dX2_odds_12 : decode cX2_odds 12 = .ok (.invokevirtual 61, 3) := dk_182 0 61 (dk_at dksX2_odds_0 12 rfl rfl)
theorem dX2_odds_15 : decode cX2_odds 15 = .ok (.checkcast 65, 3) := dk_192 0 65 (dk_at dksX2_odds_0 15 rfl rfl)
theorem dX2_odds_18 : decode cX2_odds 18 = .ok (.aload_n 0, 1) := dk_42 (dk_at dksX2_odds_0 18 rfl rfl)
theorem dX2_odds_19 : decode cX2_odds 19 = .ok (.getfield 22, 3) := dk_180 0 22 (dk_at dksX2_odds_0 19 rfl rfl)
theorem dX2_odds_22 : decode cX2_odds 22 = .ok (.aload_n 0, 1) := dk_42 (dk_at dksX2_odds_0 22 rfl rfl)
theorem dX2_odds_23 : decode cX2_odds 23 = .ok (.getfield 18, 3) := dk_180 0 18 (dk_at dksX2_odds_1 0 rfl rfl)
theorem dX2_odds_26 : decode cX2_odds 26 = .ok (.iload_n 1, 1) := dk_27 (dk_at dksX2_odds_1 3 rfl rfl)
theorem dX2_odds_27 : decode cX2_odds 27 = .ok (.aaload, 1) := dk_50 (dk_at dksX2_odds_1 4 rfl rfl)
theorem dX2_odds_28 : decode cX2_odds 28 = .ok (.getfield 89, 3) := dk_180 0 89 (dk_at dksX2_odds_1 5 rfl rfl)
theorem dX2_odds_31 : decode cX2_odds 31 = .ok (.aload_n 0, 1) := dk_42 (dk_at dksX2_odds_1 8 rfl rfl)
theorem dX2_odds_32 : decode cX2_odds 32 = .ok (.getfield 18, 3) := dk_180 0 18 (dk_at dksX2_odds_1 9 rfl rfl)
theorem dX2_odds_35 : decode cX2_odds 35 = .ok (.iload_n 1, 1) := dk_27 (dk_at dksX2_odds_1 12 rfl rfl)
theorem dX2_odds_36 : decode cX2_odds 36 = .ok (.aaload, 1) := dk_50 (dk_at dksX2_odds_1 13 rfl rfl)
theorem dX2_odds_37 : decode cX2_odds 37 = .ok (.getfield 99, 3) := dk_180 0 99 (dk_at dksX2_odds_1 14 rfl rfl)
theorem dX2_odds_40 : decode cX2_odds 40 = .ok (.invokevirtual 102, 3) := dk_182 0 102 (dk_at dksX2_odds_1 17 rfl rfl)
theorem dX2_odds_43 : decode cX2_odds 43 = .ok (.ireturn, 1) := dk_172 (dk_at dksX2_odds_1 20 rfl rfl)
abbrev cX2_takes : ByteArray := prog_10_method_3_code
def yX2_takes : MethodName := ⟨RX2, "takes", "(LNextLoad$Meet;)V"⟩
def dkwX2_takes_2 : List UInt8 := [132, 2, 1, 167, 255, 232, 177]
abbrev dktX2_takes_2 : List UInt8 := dkwX2_takes_2 ++ []
def dkwX2_takes_1 : List UInt8 := [3, 61, 28, 16, 6, 162, 0, 24, 42, 180, 0, 18, 28, 50, 43, 180, 0, 18, 28, 50, 182, 0, 43]
abbrev dktX2_takes_1 : List UInt8 := dkwX2_takes_1 ++ dktX2_takes_2
def dkwX2_takes_0 : List UInt8 := [42, 43, 180, 0, 22, 181, 0, 22, 42, 43, 180, 0, 37, 181, 0, 37, 42, 43, 180, 0, 40, 181, 0, 40]
abbrev dktX2_takes_0 : List UInt8 := dkwX2_takes_0 ++ dktX2_takes_1
theorem dksX2_takes_0 : cX2_takes.data.toList.drop 0 = dktX2_takes_0 := by decide +kernel
theorem dksX2_takes_1 : cX2_takes.data.toList.drop 24 = dktX2_takes_1 := dk_seg dksX2_takes_0 24 rfl rfl
theorem dksX2_takes_2 : cX2_takes.data.toList.drop 47 = dktX2_takes_2 := dk_seg dksX2_takes_1 23 rfl rfl
theorem dX2_takes_0 : decode cX2_takes 0 = .ok (.aload_n 0, 1) := dk_42 (dk_at dksX2_takes_0 0 rfl rfl)
theorem dX2_takes_1 : decode cX2_takes 1 = .ok (.aload_n 1, 1) := dk_43 (dk_at dksX2_takes_0 1 rfl rfl)
theorem dX2_takes_2 : decode cX2_takes 2 = .ok (.getfield 22, 3) := dk_180 0 22 (dk_at dksX2_takes_0 2 rfl rfl)
theorem dX2_takes_5 : decode cX2_takes 5 = .ok (.putfield 22, 3) := dk_181 0 22 (dk_at dksX2_takes_0 5 rfl rfl)
theorem dX2_takes_8 : decode cX2_takes 8 = .ok (.aload_n 0, 1) := dk_42 (dk_at dksX2_takes_0 8 rfl rfl)
theorem dX2_takes_9 : decode cX2_takes 9 = .ok (.aload_n 1, 1) := dk_43 (dk_at dksX2_takes_0 9 rfl rfl)
theorem dX2_takes_10 : decode cX2_takes 10 = .ok (.getfield 37, 3) := dk_180 0 37 (dk_at dksX2_takes_0 10 rfl rfl)
theorem dX2_takes_13 : decode cX2_takes 13 = .ok (.putfield 37, 3) := dk_181 0 37 (dk_at dksX2_takes_0 13 rfl rfl)
theorem dX2_takes_16 : decode cX2_takes 16 = .ok (.aload_n 0, 1) := dk_42 (dk_at dksX2_takes_0 16 rfl rfl)
theorem dX2_takes_17 : decode cX2_takes 17 = .ok (.aload_n 1, 1) := dk_43 (dk_at dksX2_takes_0 17 rfl rfl)
theorem dX2_takes_18 : decode cX2_takes 18 = .ok (.getfield 40, 3) := dk_180 0 40 (dk_at dksX2_takes_0 18 rfl rfl)
theorem dX2_takes_21 : decode cX2_takes 21 = .ok (.putfield 40, 3) := dk_181 0 40 (dk_at dksX2_takes_0 21 rfl rfl)
theorem dX2_takes_24 : decode cX2_takes 24 = .ok (.iconst 0, 1) := dk_3 (dk_at dksX2_takes_1 0 rfl rfl)
theorem dX2_takes_25 : decode cX2_takes 25 = .ok (.istore_n 2, 1) := dk_61 (dk_at dksX2_takes_1 1 rfl rfl)
theorem dX2_takes_26 : decode cX2_takes 26 = .ok (.iload_n 2, 1) := dk_28 (dk_at dksX2_takes_1 2 rfl rfl)
theorem dX2_takes_27 : decode cX2_takes 27 = .ok (.bipush 6, 2) := dk_16 6 (dk_at dksX2_takes_1 3 rfl rfl)
theorem dX2_takes_29 : decode cX2_takes 29 = .ok (.if_icmp .ge 24, 3) := dk_162 0 24 (dk_at dksX2_takes_1 5 rfl rfl)
theorem dX2_takes_32 : decode cX2_takes 32 = .ok (.aload_n 0, 1) := dk_42 (dk_at dksX2_takes_1 8 rfl rfl)
theorem dX2_takes_33 : decode cX2_takes 33 = .ok (.getfield 18, 3) := dk_180 0 18 (dk_at dksX2_takes_1 9 rfl rfl)
theorem dX2_takes_36 : decode cX2_takes 36 = .ok (.iload_n 2, 1) := dk_28 (dk_at dksX2_takes_1 12 rfl rfl)
theorem dX2_takes_37 : decode cX2_takes 37 = .ok (.aaload, 1) := dk_50 (dk_at dksX2_takes_1 13 rfl rfl)
theorem dX2_takes_38 : decode cX2_takes 38 = .ok (.aload_n 1, 1) := dk_43 (dk_at dksX2_takes_1 14 rfl rfl)
theorem dX2_takes_39 : decode cX2_takes 39 = .ok (.getfield 18, 3) := dk_180 0 18 (dk_at dksX2_takes_1 15 rfl rfl)
theorem dX2_takes_42 : decode cX2_takes 42 = .ok (.iload_n 2, 1) := dk_28 (dk_at dksX2_takes_1 18 rfl rfl)
theorem dX2_takes_43 : decode cX2_takes 43 = .ok (.aaload, 1) := dk_50 (dk_at dksX2_takes_1 19 rfl rfl)
theorem dX2_takes_44 : decode cX2_takes 44 = .ok (.invokevirtual 43, 3) := dk_182 0 43 (dk_at dksX2_takes_1 20 rfl rfl)
theorem dX2_takes_47 : decode cX2_takes 47 = .ok (.iinc 2 1, 3) := dk_132 2 1 (dk_at dksX2_takes_2 0 rfl rfl)
theorem dX2_takes_50 : decode cX2_takes 50 = .ok (.goto (-24), 3) := dk_167 255 232 (dk_at dksX2_takes_2 3 rfl rfl)
theorem dX2_takes_53 : decode cX2_takes 53 = .ok (.return_, 1) := dk_177 (dk_at dksX2_takes_2 6 rfl rfl)
abbrev cX2_tries : ByteArray := prog_10_method_11_code
def yX2_tries : MethodName := ⟨RX2, "tries", "(LNextLoad$Result;)I"⟩
def dkwX2_tries_2 : List UInt8 := [180, 0, 22, 43, 182, 0, 112, 42, 180, 0, 18, 28, 50, 180, 0, 89, 62, 42, 182, 0, 116, 29, 172]
abbrev dktX2_tries_2 : List UInt8 := dkwX2_tries_2 ++ []
def dkwX2_tries_1 : List UInt8 := [181, 0, 40, 42, 180, 0, 18, 28, 50, 42, 180, 0, 3, 180, 0, 47, 28, 182, 0, 61, 192, 0, 65, 42]
abbrev dktX2_tries_1 : List UInt8 := dkwX2_tries_1 ++ dktX2_tries_2
def dkwX2_tries_0 : List UInt8 := [42, 182, 0, 96, 61, 42, 42, 180, 0, 40, 42, 180, 0, 18, 28, 50, 180, 0, 89, 184, 0, 106]
abbrev dktX2_tries_0 : List UInt8 := dkwX2_tries_0 ++ dktX2_tries_1
theorem dksX2_tries_0 : cX2_tries.data.toList.drop 0 = dktX2_tries_0 := by decide +kernel
theorem dksX2_tries_1 : cX2_tries.data.toList.drop 22 = dktX2_tries_1 := dk_seg dksX2_tries_0 22 rfl rfl
theorem dksX2_tries_2 : cX2_tries.data.toList.drop 46 = dktX2_tries_2 := dk_seg dksX2_tries_1 24 rfl rfl
theorem dX2_tries_0 : decode cX2_tries 0 = .ok (.aload_n 0, 1) := dk_42 (dk_at dksX2_tries_0 0 rfl rfl)
theorem dX2_tries_1 : decode cX2_tries 1 = .ok (.invokevirtual 96, 3) := dk_182 0 96 (dk_at dksX2_tries_0 1 rfl rfl)
theorem dX2_tries_4 : decode cX2_tries 4 = .ok (.istore_n 2, 1) := dk_61 (dk_at dksX2_tries_0 4 rfl rfl)
theorem dX2_tries_5 : decode cX2_tries 5 = .ok (.aload_n 0, 1) := dk_42 (dk_at dksX2_tries_0 5 rfl rfl)
theorem dX2_tries_6 : decode cX2_tries 6 = .ok (.aload_n 0, 1) := dk_42 (dk_at dksX2_tries_0 6 rfl rfl)
theorem dX2_tries_7 : decode cX2_tries 7 = .ok (.getfield 40, 3) := dk_180 0 40 (dk_at dksX2_tries_0 7 rfl rfl)
theorem dX2_tries_10 : decode cX2_tries 10 = .ok (.aload_n 0, 1) := dk_42 (dk_at dksX2_tries_0 10 rfl rfl)
theorem dX2_tries_11 : decode cX2_tries 11 = .ok (.getfield 18, 3) := dk_180 0 18 (dk_at dksX2_tries_0 11 rfl rfl)
theorem dX2_tries_14 : decode cX2_tries 14 = .ok (.iload_n 2, 1) := dk_28 (dk_at dksX2_tries_0 14 rfl rfl)
theorem dX2_tries_15 : decode cX2_tries 15 = .ok (.aaload, 1) := dk_50 (dk_at dksX2_tries_0 15 rfl rfl)
theorem dX2_tries_16 : decode cX2_tries 16 = .ok (.getfield 89, 3) := dk_180 0 89 (dk_at dksX2_tries_0 16 rfl rfl)
theorem dX2_tries_19 : decode cX2_tries 19 = .ok (.invokestatic 106, 3) := dk_184 0 106 (dk_at dksX2_tries_0 19 rfl rfl)
theorem dX2_tries_22 : decode cX2_tries 22 = .ok (.putfield 40, 3) := dk_181 0 40 (dk_at dksX2_tries_1 0 rfl rfl)
theorem dX2_tries_25 : decode cX2_tries 25 = .ok (.aload_n 0, 1) := dk_42 (dk_at dksX2_tries_1 3 rfl rfl)
theorem dX2_tries_26 : decode cX2_tries 26 = .ok (.getfield 18, 3) := dk_180 0 18 (dk_at dksX2_tries_1 4 rfl rfl)
theorem dX2_tries_29 : decode cX2_tries 29 = .ok (.iload_n 2, 1) := dk_28 (dk_at dksX2_tries_1 7 rfl rfl)
theorem dX2_tries_30 : decode cX2_tries 30 = .ok (.aaload, 1) := dk_50 (dk_at dksX2_tries_1 8 rfl rfl)
theorem dX2_tries_31 : decode cX2_tries 31 = .ok (.aload_n 0, 1) := dk_42 (dk_at dksX2_tries_1 9 rfl rfl)
theorem dX2_tries_32 : decode cX2_tries 32 = .ok (.getfield 3, 3) := dk_180 0 3 (dk_at dksX2_tries_1 10 rfl rfl)
theorem dX2_tries_35 : decode cX2_tries 35 = .ok (.getfield 47, 3) := dk_180 0 47 (dk_at dksX2_tries_1 13 rfl rfl)
theorem dX2_tries_38 : decode cX2_tries 38 = .ok (.iload_n 2, 1) := dk_28 (dk_at dksX2_tries_1 16 rfl rfl)
theorem dX2_tries_39 : decode cX2_tries 39 = .ok (.invokevirtual 61, 3) := dk_182 0 61 (dk_at dksX2_tries_1 17 rfl rfl)
theorem dX2_tries_42 : decode cX2_tries 42 = .ok (.checkcast 65, 3) := dk_192 0 65 (dk_at dksX2_tries_1 20 rfl rfl)
theorem dX2_tries_45 : decode cX2_tries 45 = .ok (.aload_n 0, 1) := dk_42 (dk_at dksX2_tries_1 23 rfl rfl)
theorem dX2_tries_46 : decode cX2_tries 46 = .ok (.getfield 22, 3) := dk_180 0 22 (dk_at dksX2_tries_2 0 rfl rfl)
theorem dX2_tries_49 : decode cX2_tries 49 = .ok (.aload_n 1, 1) := dk_43 (dk_at dksX2_tries_2 3 rfl rfl)
theorem dX2_tries_50 : decode cX2_tries 50 = .ok (.invokevirtual 112, 3) := dk_182 0 112 (dk_at dksX2_tries_2 4 rfl rfl)
theorem dX2_tries_53 : decode cX2_tries 53 = .ok (.aload_n 0, 1) := dk_42 (dk_at dksX2_tries_2 7 rfl rfl)
theorem dX2_tries_54 : decode cX2_tries 54 = .ok (.getfield 18, 3) := dk_180 0 18 (dk_at dksX2_tries_2 8 rfl rfl)
theorem dX2_tries_57 : decode cX2_tries 57 = .ok (.iload_n 2, 1) := dk_28 (dk_at dksX2_tries_2 11 rfl rfl)
theorem dX2_tries_58 : decode cX2_tries 58 = .ok (.aaload, 1) := dk_50 (dk_at dksX2_tries_2 12 rfl rfl)
theorem dX2_tries_59 : decode cX2_tries 59 = .ok (.getfield 89, 3) := dk_180 0 89 (dk_at dksX2_tries_2 13 rfl rfl)
theorem dX2_tries_62 : decode cX2_tries 62 = .ok (.istore_n 3, 1) := dk_62 (dk_at dksX2_tries_2 16 rfl rfl)
theorem dX2_tries_63 : decode cX2_tries 63 = .ok (.aload_n 0, 1) := dk_42 (dk_at dksX2_tries_2 17 rfl rfl)
theorem dX2_tries_64 : decode cX2_tries 64 = .ok (.invokevirtual 116, 3) := dk_182 0 116 (dk_at dksX2_tries_2 18 rfl rfl)
theorem dX2_tries_67 : decode cX2_tries 67 = .ok (.iload_n 3, 1) := dk_29 (dk_at dksX2_tries_2 21 rfl rfl)
theorem dX2_tries_68 : decode cX2_tries 68 = .ok (.ireturn, 1) := dk_172 (dk_at dksX2_tries_2 22 rfl rfl)
abbrev cX2_goesOn : ByteArray := prog_10_method_9_code
def yX2_goesOn : MethodName := ⟨RX2, "goesOn", "()V"⟩
def dkwX2_goesOn_4 : List UInt8 := [4, 96, 181, 0, 22, 42, 182, 0, 34, 167, 255, 155, 177]
abbrev dktX2_goesOn_4 : List UInt8 := dkwX2_goesOn_4 ++ []
def dkwX2_goesOn_3 : List UInt8 := [154, 0, 13, 42, 180, 0, 18, 27, 50, 4, 181, 0, 26, 132, 1, 1, 167, 255, 212, 42, 89, 180, 0, 22]
abbrev dktX2_goesOn_3 : List UInt8 := dkwX2_goesOn_3 ++ dktX2_goesOn_4
def dkwX2_goesOn_2 : List UInt8 := [180, 0, 47, 182, 0, 51, 162, 0, 36, 42, 180, 0, 18, 27, 50, 180, 0, 30, 42, 180, 0, 22, 46]
abbrev dktX2_goesOn_2 : List UInt8 := dkwX2_goesOn_2 ++ dktX2_goesOn_3
def dkwX2_goesOn_1 : List UInt8 := [162, 0, 16, 42, 42, 180, 0, 37, 4, 96, 182, 0, 74, 167, 255, 221, 3, 60, 27, 42, 180, 0, 3]
abbrev dktX2_goesOn_1 : List UInt8 := dkwX2_goesOn_1 ++ dktX2_goesOn_2
def dkwX2_goesOn_0 : List UInt8 := [42, 182, 0, 57, 154, 0, 100, 42, 182, 0, 96, 2, 160, 0, 92, 42, 180, 0, 37, 4, 96, 6]
abbrev dktX2_goesOn_0 : List UInt8 := dkwX2_goesOn_0 ++ dktX2_goesOn_1
theorem dksX2_goesOn_0 : cX2_goesOn.data.toList.drop 0 = dktX2_goesOn_0 := by decide +kernel
theorem dksX2_goesOn_1 : cX2_goesOn.data.toList.drop 22 = dktX2_goesOn_1 := dk_seg dksX2_goesOn_0 22 rfl rfl
theorem dksX2_goesOn_2 : cX2_goesOn.data.toList.drop 45 = dktX2_goesOn_2 := dk_seg dksX2_goesOn_1 23 rfl rfl
theorem dksX2_goesOn_3 : cX2_goesOn.data.toList.drop 68 = dktX2_goesOn_3 := dk_seg dksX2_goesOn_2 23 rfl rfl
theorem dksX2_goesOn_4 : cX2_goesOn.data.toList.drop 92 = dktX2_goesOn_4 := dk_seg dksX2_goesOn_3 24 rfl rfl
theorem dX2_goesOn_0 : decode cX2_goesOn 0 = .ok (.aload_n 0, 1) := dk_42 (dk_at dksX2_goesOn_0 0 rfl rfl)
theorem dX2_goesOn_1 : decode cX2_goesOn 1 = .ok (.invokevirtual 57, 3) := dk_182 0 57 (dk_at dksX2_goesOn_0 1 rfl rfl)
theorem dX2_goesOn_4 : decode cX2_goesOn 4 = .ok (.ifCond .ne 100, 3) := dk_154 0 100 (dk_at dksX2_goesOn_0 4 rfl rfl)
theorem dX2_goesOn_7 : decode cX2_goesOn 7 = .ok (.aload_n 0, 1) := dk_42 (dk_at dksX2_goesOn_0 7 rfl rfl)
theorem dX2_goesOn_8 : decode cX2_goesOn 8 = .ok (.invokevirtual 96, 3) := dk_182 0 96 (dk_at dksX2_goesOn_0 8 rfl rfl)
theorem dX2_goesOn_11 : decode cX2_goesOn 11 = .ok (.iconst (-1), 1) := dk_2 (dk_at dksX2_goesOn_0 11 rfl rfl)
theorem dX2_goesOn_12 : decode cX2_goesOn 12 = .ok (.if_icmp .ne 92, 3) := dk_160 0 92 (dk_at dksX2_goesOn_0 12 rfl rfl)
theorem dX2_goesOn_15 : decode cX2_goesOn 15 = .ok (.aload_n 0, 1) := dk_42 (dk_at dksX2_goesOn_0 15 rfl rfl)
theorem dX2_goesOn_16 : decode cX2_goesOn 16 = .ok (.getfield 37, 3) := dk_180 0 37 (dk_at dksX2_goesOn_0 16 rfl rfl)
theorem dX2_goesOn_19 : decode cX2_goesOn 19 = .ok (.iconst 1, 1) := dk_4 (dk_at dksX2_goesOn_0 19 rfl rfl)
theorem dX2_goesOn_20 : decode cX2_goesOn 20 = .ok (.iadd, 1) := dk_96 (dk_at dksX2_goesOn_0 20 rfl rfl)
theorem dX2_goesOn_21 : decode cX2_goesOn 21 = .ok (.iconst 3, 1) := dk_6 (dk_at dksX2_goesOn_0 21 rfl rfl)
theorem dX2_goesOn_22 : decode cX2_goesOn 22 = .ok (.if_icmp .ge 16, 3) := dk_162 0 16 (dk_at dksX2_goesOn_1 0 rfl rfl)
theorem dX2_goesOn_25 : decode cX2_goesOn 25 = .ok (.aload_n 0, 1) := dk_42 (dk_at dksX2_goesOn_1 3 rfl rfl)
theorem dX2_goesOn_26 : decode cX2_goesOn 26 = .ok (.aload_n 0, 1) := dk_42 (dk_at dksX2_goesOn_1 4 rfl rfl)
theorem dX2_goesOn_27 : decode cX2_goesOn 27 = .ok (.getfield 37, 3) := dk_180 0 37 (dk_at dksX2_goesOn_1 5 rfl rfl)
theorem dX2_goesOn_30 : decode cX2_goesOn 30 = .ok (.iconst 1, 1) := dk_4 (dk_at dksX2_goesOn_1 8 rfl rfl)
theorem dX2_goesOn_31 : decode cX2_goesOn 31 = .ok (.iadd, 1) := dk_96 (dk_at dksX2_goesOn_1 9 rfl rfl)
theorem dX2_goesOn_32 : decode cX2_goesOn 32 = .ok (.invokevirtual 74, 3) := dk_182 0 74 (dk_at dksX2_goesOn_1 10 rfl rfl)
theorem dX2_goesOn_35 : decode cX2_goesOn 35 = .ok (.goto (-35), 3) := dk_167 255 221 (dk_at dksX2_goesOn_1 13 rfl rfl)
theorem dX2_goesOn_38 : decode cX2_goesOn 38 = .ok (.iconst 0, 1) := dk_3 (dk_at dksX2_goesOn_1 16 rfl rfl)
theorem dX2_goesOn_39 : decode cX2_goesOn 39 = .ok (.istore_n 1, 1) := dk_60 (dk_at dksX2_goesOn_1 17 rfl rfl)
theorem dX2_goesOn_40 : decode cX2_goesOn 40 = .ok (.iload_n 1, 1) := dk_27 (dk_at dksX2_goesOn_1 18 rfl rfl)
theorem dX2_goesOn_41 : decode cX2_goesOn 41 = .ok (.aload_n 0, 1) := dk_42 (dk_at dksX2_goesOn_1 19 rfl rfl)
theorem dX2_goesOn_42 : decode cX2_goesOn 42 = .ok (.getfield 3, 3) := dk_180 0 3 (dk_at dksX2_goesOn_1 20 rfl rfl)
theorem dX2_goesOn_45 : decode cX2_goesOn 45 = .ok (.getfield 47, 3) := dk_180 0 47 (dk_at dksX2_goesOn_2 0 rfl rfl)
theorem dX2_goesOn_48 : decode cX2_goesOn 48 = .ok (.invokevirtual 51, 3) := dk_182 0 51 (dk_at dksX2_goesOn_2 3 rfl rfl)
theorem dX2_goesOn_51 : decode cX2_goesOn 51 = .ok (.if_icmp .ge 36, 3) := dk_162 0 36 (dk_at dksX2_goesOn_2 6 rfl rfl)
theorem dX2_goesOn_54 : decode cX2_goesOn 54 = .ok (.aload_n 0, 1) := dk_42 (dk_at dksX2_goesOn_2 9 rfl rfl)
theorem dX2_goesOn_55 : decode cX2_goesOn 55 = .ok (.getfield 18, 3) := dk_180 0 18 (dk_at dksX2_goesOn_2 10 rfl rfl)
theorem dX2_goesOn_58 : decode cX2_goesOn 58 = .ok (.iload_n 1, 1) := dk_27 (dk_at dksX2_goesOn_2 13 rfl rfl)
theorem dX2_goesOn_59 : decode cX2_goesOn 59 = .ok (.aaload, 1) := dk_50 (dk_at dksX2_goesOn_2 14 rfl rfl)
theorem dX2_goesOn_60 : decode cX2_goesOn 60 = .ok (.getfield 30, 3) := dk_180 0 30 (dk_at dksX2_goesOn_2 15 rfl rfl)
theorem dX2_goesOn_63 : decode cX2_goesOn 63 = .ok (.aload_n 0, 1) := dk_42 (dk_at dksX2_goesOn_2 18 rfl rfl)
theorem dX2_goesOn_64 : decode cX2_goesOn 64 = .ok (.getfield 22, 3) := dk_180 0 22 (dk_at dksX2_goesOn_2 19 rfl rfl)
theorem dX2_goesOn_67 : decode cX2_goesOn 67 = .ok (.iaload, 1) := dk_46 (dk_at dksX2_goesOn_2 22 rfl rfl)
theorem dX2_goesOn_68 : decode cX2_goesOn 68 = .ok (.ifCond .ne 13, 3) := dk_154 0 13 (dk_at dksX2_goesOn_3 0 rfl rfl)
theorem dX2_goesOn_71 : decode cX2_goesOn 71 = .ok (.aload_n 0, 1) := dk_42 (dk_at dksX2_goesOn_3 3 rfl rfl)
theorem dX2_goesOn_72 : decode cX2_goesOn 72 = .ok (.getfield 18, 3) := dk_180 0 18 (dk_at dksX2_goesOn_3 4 rfl rfl)
theorem dX2_goesOn_75 : decode cX2_goesOn 75 = .ok (.iload_n 1, 1) := dk_27 (dk_at dksX2_goesOn_3 7 rfl rfl)
theorem dX2_goesOn_76 : decode cX2_goesOn 76 = .ok (.aaload, 1) := dk_50 (dk_at dksX2_goesOn_3 8 rfl rfl)
theorem dX2_goesOn_77 : decode cX2_goesOn 77 = .ok (.iconst 1, 1) := dk_4 (dk_at dksX2_goesOn_3 9 rfl rfl)
theorem dX2_goesOn_78 : decode cX2_goesOn 78 = .ok (.putfield 26, 3) := dk_181 0 26 (dk_at dksX2_goesOn_3 10 rfl rfl)
theorem dX2_goesOn_81 : decode cX2_goesOn 81 = .ok (.iinc 1 1, 3) := dk_132 1 1 (dk_at dksX2_goesOn_3 13 rfl rfl)
theorem dX2_goesOn_84 : decode cX2_goesOn 84 = .ok (.goto (-44), 3) := dk_167 255 212 (dk_at dksX2_goesOn_3 16 rfl rfl)
theorem dX2_goesOn_87 : decode cX2_goesOn 87 = .ok (.aload_n 0, 1) := dk_42 (dk_at dksX2_goesOn_3 19 rfl rfl)
theorem dX2_goesOn_88 : decode cX2_goesOn 88 = .ok (.dup, 1) := dk_89 (dk_at dksX2_goesOn_3 20 rfl rfl)
theorem dX2_goesOn_89 : decode cX2_goesOn 89 = .ok (.getfield 22, 3) := dk_180 0 22 (dk_at dksX2_goesOn_3 21 rfl rfl)
theorem dX2_goesOn_92 : decode cX2_goesOn 92 = .ok (.iconst 1, 1) := dk_4 (dk_at dksX2_goesOn_4 0 rfl rfl)
theorem dX2_goesOn_93 : decode cX2_goesOn 93 = .ok (.iadd, 1) := dk_96 (dk_at dksX2_goesOn_4 1 rfl rfl)
theorem dX2_goesOn_94 : decode cX2_goesOn 94 = .ok (.putfield 22, 3) := dk_181 0 22 (dk_at dksX2_goesOn_4 2 rfl rfl)
theorem dX2_goesOn_97 : decode cX2_goesOn 97 = .ok (.aload_n 0, 1) := dk_42 (dk_at dksX2_goesOn_4 5 rfl rfl)
theorem dX2_goesOn_98 : decode cX2_goesOn 98 = .ok (.invokevirtual 34, 3) := dk_182 0 34 (dk_at dksX2_goesOn_4 6 rfl rfl)
theorem dX2_goesOn_101 : decode cX2_goesOn 101 = .ok (.goto (-101), 3) := dk_167 255 155 (dk_at dksX2_goesOn_4 9 rfl rfl)
theorem dX2_goesOn_104 : decode cX2_goesOn 104 = .ok (.return_, 1) := dk_177 (dk_at dksX2_goesOn_4 12 rfl rfl)
abbrev cX2_atPlace : ByteArray := prog_10_method_15_code
def yX2_atPlace : MethodName := ⟨RX2, "atPlace", "(I)I"⟩
def dkwX2_atPlace_0 : List UInt8 := [3, 61, 42, 28, 182, 0, 136, 27, 159, 0, 9, 132, 2, 1, 167, 255, 244, 28, 172]
abbrev dktX2_atPlace_0 : List UInt8 := dkwX2_atPlace_0 ++ []
theorem dksX2_atPlace_0 : cX2_atPlace.data.toList.drop 0 = dktX2_atPlace_0 := by decide +kernel
theorem dX2_atPlace_0 : decode cX2_atPlace 0 = .ok (.iconst 0, 1) := dk_3 (dk_at dksX2_atPlace_0 0 rfl rfl)
theorem dX2_atPlace_1 : decode cX2_atPlace 1 = .ok (.istore_n 2, 1) := dk_61 (dk_at dksX2_atPlace_0 1 rfl rfl)
theorem dX2_atPlace_2 : decode cX2_atPlace 2 = .ok (.aload_n 0, 1) := dk_42 (dk_at dksX2_atPlace_0 2 rfl rfl)
theorem dX2_atPlace_3 : decode cX2_atPlace 3 = .ok (.iload_n 2, 1) := dk_28 (dk_at dksX2_atPlace_0 3 rfl rfl)
theorem dX2_atPlace_4 : decode cX2_atPlace 4 = .ok (.invokevirtual 136, 3) := dk_182 0 136 (dk_at dksX2_atPlace_0 4 rfl rfl)
theorem dX2_atPlace_7 : decode cX2_atPlace 7 = .ok (.iload_n 1, 1) := dk_27 (dk_at dksX2_atPlace_0 7 rfl rfl)
theorem dX2_atPlace_8 : decode cX2_atPlace 8 = .ok (.if_icmp .eq 9, 3) := dk_159 0 9 (dk_at dksX2_atPlace_0 8 rfl rfl)
theorem dX2_atPlace_11 : decode cX2_atPlace 11 = .ok (.iinc 2 1, 3) := dk_132 2 1 (dk_at dksX2_atPlace_0 11 rfl rfl)
theorem dX2_atPlace_14 : decode cX2_atPlace 14 = .ok (.goto (-12), 3) := dk_167 255 244 (dk_at dksX2_atPlace_0 14 rfl rfl)
theorem dX2_atPlace_17 : decode cX2_atPlace 17 = .ok (.iload_n 2, 1) := dk_28 (dk_at dksX2_atPlace_0 17 rfl rfl)
theorem dX2_atPlace_18 : decode cX2_atPlace 18 = .ok (.ireturn, 1) := dk_172 (dk_at dksX2_atPlace_0 18 rfl rfl)
abbrev cX2_aheadOf : ByteArray := prog_10_method_14_code
def yX2_aheadOf : MethodName := ⟨RX2, "aheadOf", "(I)I"⟩
def dkwX2_aheadOf_2 : List UInt8 := [167, 255, 214, 28, 172]
abbrev dktX2_aheadOf_2 : List UInt8 := dkwX2_aheadOf_2 ++ []
def dkwX2_aheadOf_1 : List UInt8 := [42, 29, 27, 182, 0, 129, 153, 0, 7, 4, 167, 0, 4, 3, 184, 0, 132, 96, 61, 132, 3, 1]
abbrev dktX2_aheadOf_1 : List UInt8 := dkwX2_aheadOf_1 ++ dktX2_aheadOf_2
def dkwX2_aheadOf_0 : List UInt8 := [3, 61, 3, 62, 29, 42, 180, 0, 3, 180, 0, 47, 182, 0, 51, 162, 0, 34, 28, 29, 27, 159, 0, 16]
abbrev dktX2_aheadOf_0 : List UInt8 := dkwX2_aheadOf_0 ++ dktX2_aheadOf_1
theorem dksX2_aheadOf_0 : cX2_aheadOf.data.toList.drop 0 = dktX2_aheadOf_0 := by decide +kernel
theorem dksX2_aheadOf_1 : cX2_aheadOf.data.toList.drop 24 = dktX2_aheadOf_1 := dk_seg dksX2_aheadOf_0 24 rfl rfl
theorem dksX2_aheadOf_2 : cX2_aheadOf.data.toList.drop 46 = dktX2_aheadOf_2 := dk_seg dksX2_aheadOf_1 22 rfl rfl
theorem dX2_aheadOf_0 : decode cX2_aheadOf 0 = .ok (.iconst 0, 1) := dk_3 (dk_at dksX2_aheadOf_0 0 rfl rfl)
theorem dX2_aheadOf_1 : decode cX2_aheadOf 1 = .ok (.istore_n 2, 1) := dk_61 (dk_at dksX2_aheadOf_0 1 rfl rfl)
theorem dX2_aheadOf_2 : decode cX2_aheadOf 2 = .ok (.iconst 0, 1) := dk_3 (dk_at dksX2_aheadOf_0 2 rfl rfl)
theorem dX2_aheadOf_3 : decode cX2_aheadOf 3 = .ok (.istore_n 3, 1) := dk_62 (dk_at dksX2_aheadOf_0 3 rfl rfl)
theorem dX2_aheadOf_4 : decode cX2_aheadOf 4 = .ok (.iload_n 3, 1) := dk_29 (dk_at dksX2_aheadOf_0 4 rfl rfl)
theorem dX2_aheadOf_5 : decode cX2_aheadOf 5 = .ok (.aload_n 0, 1) := dk_42 (dk_at dksX2_aheadOf_0 5 rfl rfl)
theorem dX2_aheadOf_6 : decode cX2_aheadOf 6 = .ok (.getfield 3, 3) := dk_180 0 3 (dk_at dksX2_aheadOf_0 6 rfl rfl)
theorem dX2_aheadOf_9 : decode cX2_aheadOf 9 = .ok (.getfield 47, 3) := dk_180 0 47 (dk_at dksX2_aheadOf_0 9 rfl rfl)
theorem dX2_aheadOf_12 : decode cX2_aheadOf 12 = .ok (.invokevirtual 51, 3) := dk_182 0 51 (dk_at dksX2_aheadOf_0 12 rfl rfl)
theorem dX2_aheadOf_15 : decode cX2_aheadOf 15 = .ok (.if_icmp .ge 34, 3) := dk_162 0 34 (dk_at dksX2_aheadOf_0 15 rfl rfl)
theorem dX2_aheadOf_18 : decode cX2_aheadOf 18 = .ok (.iload_n 2, 1) := dk_28 (dk_at dksX2_aheadOf_0 18 rfl rfl)
theorem dX2_aheadOf_19 : decode cX2_aheadOf 19 = .ok (.iload_n 3, 1) := dk_29 (dk_at dksX2_aheadOf_0 19 rfl rfl)
theorem dX2_aheadOf_20 : decode cX2_aheadOf 20 = .ok (.iload_n 1, 1) := dk_27 (dk_at dksX2_aheadOf_0 20 rfl rfl)
theorem dX2_aheadOf_21 : decode cX2_aheadOf 21 = .ok (.if_icmp .eq 16, 3) := dk_159 0 16 (dk_at dksX2_aheadOf_0 21 rfl rfl)
theorem dX2_aheadOf_24 : decode cX2_aheadOf 24 = .ok (.aload_n 0, 1) := dk_42 (dk_at dksX2_aheadOf_1 0 rfl rfl)
theorem dX2_aheadOf_25 : decode cX2_aheadOf 25 = .ok (.iload_n 3, 1) := dk_29 (dk_at dksX2_aheadOf_1 1 rfl rfl)
theorem dX2_aheadOf_26 : decode cX2_aheadOf 26 = .ok (.iload_n 1, 1) := dk_27 (dk_at dksX2_aheadOf_1 2 rfl rfl)
theorem dX2_aheadOf_27 : decode cX2_aheadOf 27 = .ok (.invokevirtual 129, 3) := dk_182 0 129 (dk_at dksX2_aheadOf_1 3 rfl rfl)
theorem dX2_aheadOf_30 : decode cX2_aheadOf 30 = .ok (.ifCond .eq 7, 3) := dk_153 0 7 (dk_at dksX2_aheadOf_1 6 rfl rfl)
theorem dX2_aheadOf_33 : decode cX2_aheadOf 33 = .ok (.iconst 1, 1) := dk_4 (dk_at dksX2_aheadOf_1 9 rfl rfl)
theorem dX2_aheadOf_34 : decode cX2_aheadOf 34 = .ok (.goto 4, 3) := dk_167 0 4 (dk_at dksX2_aheadOf_1 10 rfl rfl)
theorem dX2_aheadOf_37 : decode cX2_aheadOf 37 = .ok (.iconst 0, 1) := dk_3 (dk_at dksX2_aheadOf_1 13 rfl rfl)
theorem dX2_aheadOf_38 : decode cX2_aheadOf 38 = .ok (.invokestatic 132, 3) := dk_184 0 132 (dk_at dksX2_aheadOf_1 14 rfl rfl)
theorem dX2_aheadOf_41 : decode cX2_aheadOf 41 = .ok (.iadd, 1) := dk_96 (dk_at dksX2_aheadOf_1 17 rfl rfl)
theorem dX2_aheadOf_42 : decode cX2_aheadOf 42 = .ok (.istore_n 2, 1) := dk_61 (dk_at dksX2_aheadOf_1 18 rfl rfl)
theorem dX2_aheadOf_43 : decode cX2_aheadOf 43 = .ok (.iinc 3 1, 3) := dk_132 3 1 (dk_at dksX2_aheadOf_1 19 rfl rfl)
theorem dX2_aheadOf_46 : decode cX2_aheadOf 46 = .ok (.goto (-42), 3) := dk_167 255 214 (dk_at dksX2_aheadOf_2 0 rfl rfl)
theorem dX2_aheadOf_49 : decode cX2_aheadOf 49 = .ok (.iload_n 2, 1) := dk_28 (dk_at dksX2_aheadOf_2 3 rfl rfl)
theorem dX2_aheadOf_50 : decode cX2_aheadOf 50 = .ok (.ireturn, 1) := dk_172 (dk_at dksX2_aheadOf_2 4 rfl rfl)
abbrev cX2_isAhead : ByteArray := prog_10_method_13_code
def yX2_isAhead : MethodName := ⟨RX2, "isAhead", "(II)Z"⟩
def dkwX2_isAhead_1 : List UInt8 := [180, 0, 18, 28, 50, 182, 0, 122, 42, 180, 0, 18, 28, 50, 180, 0, 26, 182, 0, 125, 172]
abbrev dktX2_isAhead_1 : List UInt8 := dkwX2_isAhead_1 ++ []
def dkwX2_isAhead_0 : List UInt8 := [42, 27, 42, 180, 0, 18, 27, 50, 182, 0, 122, 42, 180, 0, 18, 27, 50, 180, 0, 26, 28, 42]
abbrev dktX2_isAhead_0 : List UInt8 := dkwX2_isAhead_0 ++ dktX2_isAhead_1
theorem dksX2_isAhead_0 : cX2_isAhead.data.toList.drop 0 = dktX2_isAhead_0 := by decide +kernel
theorem dksX2_isAhead_1 : cX2_isAhead.data.toList.drop 22 = dktX2_isAhead_1 := dk_seg dksX2_isAhead_0 22 rfl rfl
theorem dX2_isAhead_0 : decode cX2_isAhead 0 = .ok (.aload_n 0, 1) := dk_42 (dk_at dksX2_isAhead_0 0 rfl rfl)
theorem dX2_isAhead_1 : decode cX2_isAhead 1 = .ok (.iload_n 1, 1) := dk_27 (dk_at dksX2_isAhead_0 1 rfl rfl)
theorem dX2_isAhead_2 : decode cX2_isAhead 2 = .ok (.aload_n 0, 1) := dk_42 (dk_at dksX2_isAhead_0 2 rfl rfl)
theorem dX2_isAhead_3 : decode cX2_isAhead 3 = .ok (.getfield 18, 3) := dk_180 0 18 (dk_at dksX2_isAhead_0 3 rfl rfl)
theorem dX2_isAhead_6 : decode cX2_isAhead 6 = .ok (.iload_n 1, 1) := dk_27 (dk_at dksX2_isAhead_0 6 rfl rfl)
theorem dX2_isAhead_7 : decode cX2_isAhead 7 = .ok (.aaload, 1) := dk_50 (dk_at dksX2_isAhead_0 7 rfl rfl)
theorem dX2_isAhead_8 : decode cX2_isAhead 8 = .ok (.invokevirtual 122, 3) := dk_182 0 122 (dk_at dksX2_isAhead_0 8 rfl rfl)
theorem dX2_isAhead_11 : decode cX2_isAhead 11 = .ok (.aload_n 0, 1) := dk_42 (dk_at dksX2_isAhead_0 11 rfl rfl)
theorem dX2_isAhead_12 : decode cX2_isAhead 12 = .ok (.getfield 18, 3) := dk_180 0 18 (dk_at dksX2_isAhead_0 12 rfl rfl)
theorem dX2_isAhead_15 : decode cX2_isAhead 15 = .ok (.iload_n 1, 1) := dk_27 (dk_at dksX2_isAhead_0 15 rfl rfl)
theorem dX2_isAhead_16 : decode cX2_isAhead 16 = .ok (.aaload, 1) := dk_50 (dk_at dksX2_isAhead_0 16 rfl rfl)
theorem dX2_isAhead_17 : decode cX2_isAhead 17 = .ok (.getfield 26, 3) := dk_180 0 26 (dk_at dksX2_isAhead_0 17 rfl rfl)
theorem dX2_isAhead_20 : decode cX2_isAhead 20 = .ok (.iload_n 2, 1) := dk_28 (dk_at dksX2_isAhead_0 20 rfl rfl)
theorem dX2_isAhead_21 : decode cX2_isAhead 21 = .ok (.aload_n 0, 1) := dk_42 (dk_at dksX2_isAhead_0 21 rfl rfl)
theorem dX2_isAhead_22 : decode cX2_isAhead 22 = .ok (.getfield 18, 3) := dk_180 0 18 (dk_at dksX2_isAhead_1 0 rfl rfl)
theorem dX2_isAhead_25 : decode cX2_isAhead 25 = .ok (.iload_n 2, 1) := dk_28 (dk_at dksX2_isAhead_1 3 rfl rfl)
theorem dX2_isAhead_26 : decode cX2_isAhead 26 = .ok (.aaload, 1) := dk_50 (dk_at dksX2_isAhead_1 4 rfl rfl)
theorem dX2_isAhead_27 : decode cX2_isAhead 27 = .ok (.invokevirtual 122, 3) := dk_182 0 122 (dk_at dksX2_isAhead_1 5 rfl rfl)
theorem dX2_isAhead_30 : decode cX2_isAhead 30 = .ok (.aload_n 0, 1) := dk_42 (dk_at dksX2_isAhead_1 8 rfl rfl)
theorem dX2_isAhead_31 : decode cX2_isAhead 31 = .ok (.getfield 18, 3) := dk_180 0 18 (dk_at dksX2_isAhead_1 9 rfl rfl)
theorem dX2_isAhead_34 : decode cX2_isAhead 34 = .ok (.iload_n 2, 1) := dk_28 (dk_at dksX2_isAhead_1 12 rfl rfl)
theorem dX2_isAhead_35 : decode cX2_isAhead 35 = .ok (.aaload, 1) := dk_50 (dk_at dksX2_isAhead_1 13 rfl rfl)
theorem dX2_isAhead_36 : decode cX2_isAhead 36 = .ok (.getfield 26, 3) := dk_180 0 26 (dk_at dksX2_isAhead_1 14 rfl rfl)
theorem dX2_isAhead_39 : decode cX2_isAhead 39 = .ok (.invokevirtual 125, 3) := dk_182 0 125 (dk_at dksX2_isAhead_1 17 rfl rfl)
theorem dX2_isAhead_42 : decode cX2_isAhead 42 = .ok (.ireturn, 1) := dk_172 (dk_at dksX2_isAhead_1 20 rfl rfl)
abbrev cX2_isAhead_2 : ByteArray := prog_10_method_12_code
def yX2_isAhead_2 : MethodName := ⟨RX2, "isAhead", "(IIZIIZ)Z"⟩
def dkwX2_isAhead_2_4 : List UInt8 := [25, 8, 180, 0, 83, 162, 0, 7, 4, 167, 0, 4, 3, 172]
abbrev dktX2_isAhead_2_4 : List UInt8 := dkwX2_isAhead_2_4 ++ []
def dkwX2_isAhead_2_3 : List UInt8 := [180, 0, 119, 161, 0, 29, 25, 7, 180, 0, 119, 25, 8, 180, 0, 119, 160, 0, 20, 25, 7, 180, 0, 83]
abbrev dktX2_isAhead_2_3 : List UInt8 := dkwX2_isAhead_2_3 ++ dktX2_isAhead_2_4
def dkwX2_isAhead_2_2 : List UInt8 := [180, 0, 3, 180, 0, 47, 21, 4, 182, 0, 61, 192, 0, 65, 58, 8, 25, 7, 180, 0, 119, 25, 8]
abbrev dktX2_isAhead_2_2 : List UInt8 := dkwX2_isAhead_2_2 ++ dktX2_isAhead_2_3
def dkwX2_isAhead_2_1 : List UInt8 := [167, 0, 4, 3, 172, 42, 180, 0, 3, 180, 0, 47, 27, 182, 0, 61, 192, 0, 65, 58, 7, 42]
abbrev dktX2_isAhead_2_1 : List UInt8 := dkwX2_isAhead_2_1 ++ dktX2_isAhead_2_2
def dkwX2_isAhead_2_0 : List UInt8 := [29, 21, 6, 159, 0, 6, 21, 6, 172, 28, 21, 5, 159, 0, 15, 28, 21, 5, 164, 0, 7, 4]
abbrev dktX2_isAhead_2_0 : List UInt8 := dkwX2_isAhead_2_0 ++ dktX2_isAhead_2_1
theorem dksX2_isAhead_2_0 : cX2_isAhead_2.data.toList.drop 0 = dktX2_isAhead_2_0 := by decide +kernel
theorem dksX2_isAhead_2_1 : cX2_isAhead_2.data.toList.drop 22 = dktX2_isAhead_2_1 := dk_seg dksX2_isAhead_2_0 22 rfl rfl
theorem dksX2_isAhead_2_2 : cX2_isAhead_2.data.toList.drop 44 = dktX2_isAhead_2_2 := dk_seg dksX2_isAhead_2_1 22 rfl rfl
theorem dksX2_isAhead_2_3 : cX2_isAhead_2.data.toList.drop 67 = dktX2_isAhead_2_3 := dk_seg dksX2_isAhead_2_2 23 rfl rfl
theorem dksX2_isAhead_2_4 : cX2_isAhead_2.data.toList.drop 91 = dktX2_isAhead_2_4 := dk_seg dksX2_isAhead_2_3 24 rfl rfl
theorem dX2_isAhead_2_0 : decode cX2_isAhead_2 0 = .ok (.iload_n 3, 1) := dk_29 (dk_at dksX2_isAhead_2_0 0 rfl rfl)
theorem dX2_isAhead_2_1 : decode cX2_isAhead_2 1 = .ok (.iload 6, 2) := dk_21 6 (dk_at dksX2_isAhead_2_0 1 rfl rfl)
theorem dX2_isAhead_2_3 : decode cX2_isAhead_2 3 = .ok (.if_icmp .eq 6, 3) := dk_159 0 6 (dk_at dksX2_isAhead_2_0 3 rfl rfl)
theorem dX2_isAhead_2_6 : decode cX2_isAhead_2 6 = .ok (.iload 6, 2) := dk_21 6 (dk_at dksX2_isAhead_2_0 6 rfl rfl)
theorem dX2_isAhead_2_8 : decode cX2_isAhead_2 8 = .ok (.ireturn, 1) := dk_172 (dk_at dksX2_isAhead_2_0 8 rfl rfl)
theorem dX2_isAhead_2_9 : decode cX2_isAhead_2 9 = .ok (.iload_n 2, 1) := dk_28 (dk_at dksX2_isAhead_2_0 9 rfl rfl)
theorem dX2_isAhead_2_10 : decode cX2_isAhead_2 10 = .ok (.iload 5, 2) := dk_21 5 (dk_at dksX2_isAhead_2_0 10 rfl rfl)
theorem dX2_isAhead_2_12 : decode cX2_isAhead_2 12 = .ok (.if_icmp .eq 15, 3) := dk_159 0 15 (dk_at dksX2_isAhead_2_0 12 rfl rfl)
theorem dX2_isAhead_2_15 : decode cX2_isAhead_2 15 = .ok (.iload_n 2, 1) := dk_28 (dk_at dksX2_isAhead_2_0 15 rfl rfl)
theorem dX2_isAhead_2_16 : decode cX2_isAhead_2 16 = .ok (.iload 5, 2) := dk_21 5 (dk_at dksX2_isAhead_2_0 16 rfl rfl)
theorem dX2_isAhead_2_18 : decode cX2_isAhead_2 18 = .ok (.if_icmp .le 7, 3) := dk_164 0 7 (dk_at dksX2_isAhead_2_0 18 rfl rfl)
theorem dX2_isAhead_2_21 : decode cX2_isAhead_2 21 = .ok (.iconst 1, 1) := dk_4 (dk_at dksX2_isAhead_2_0 21 rfl rfl)
theorem dX2_isAhead_2_22 : decode cX2_isAhead_2 22 = .ok (.goto 4, 3) := dk_167 0 4 (dk_at dksX2_isAhead_2_1 0 rfl rfl)
theorem dX2_isAhead_2_25 : decode cX2_isAhead_2 25 = .ok (.iconst 0, 1) := dk_3 (dk_at dksX2_isAhead_2_1 3 rfl rfl)
theorem dX2_isAhead_2_26 : decode cX2_isAhead_2 26 = .ok (.ireturn, 1) := dk_172 (dk_at dksX2_isAhead_2_1 4 rfl rfl)
theorem dX2_isAhead_2_27 : decode cX2_isAhead_2 27 = .ok (.aload_n 0, 1) := dk_42 (dk_at dksX2_isAhead_2_1 5 rfl rfl)
theorem dX2_isAhead_2_28 : decode cX2_isAhead_2 28 = .ok (.getfield 3, 3) := dk_180 0 3 (dk_at dksX2_isAhead_2_1 6 rfl rfl)
theorem dX2_isAhead_2_31 : decode cX2_isAhead_2 31 = .ok (.getfield 47, 3) := dk_180 0 47 (dk_at dksX2_isAhead_2_1 9 rfl rfl)
theorem dX2_isAhead_2_34 : decode cX2_isAhead_2 34 = .ok (.iload_n 1, 1) := dk_27 (dk_at dksX2_isAhead_2_1 12 rfl rfl)
theorem dX2_isAhead_2_35 : decode cX2_isAhead_2 35 = .ok (.invokevirtual 61, 3) := dk_182 0 61 (dk_at dksX2_isAhead_2_1 13 rfl rfl)
theorem dX2_isAhead_2_38 : decode cX2_isAhead_2 38 = .ok (.checkcast 65, 3) := dk_192 0 65 (dk_at dksX2_isAhead_2_1 16 rfl rfl)
theorem dX2_isAhead_2_41 : decode cX2_isAhead_2 41 = .ok (.astore 7, 2) := dk_58 7 (dk_at dksX2_isAhead_2_1 19 rfl rfl)
theorem dX2_isAhead_2_43 : decode cX2_isAhead_2 43 = .ok (.aload_n 0, 1) := dk_42 (dk_at dksX2_isAhead_2_1 21 rfl rfl)
theorem dX2_isAhead_2_44 : decode cX2_isAhead_2 44 = .ok (.getfield 3, 3) := dk_180 0 3 (dk_at dksX2_isAhead_2_2 0 rfl rfl)
theorem dX2_isAhead_2_47 : decode cX2_isAhead_2 47 = .ok (.getfield 47, 3) := dk_180 0 47 (dk_at dksX2_isAhead_2_2 3 rfl rfl)
theorem dX2_isAhead_2_50 : decode cX2_isAhead_2 50 = .ok (.iload 4, 2) := dk_21 4 (dk_at dksX2_isAhead_2_2 6 rfl rfl)
theorem dX2_isAhead_2_52 : decode cX2_isAhead_2 52 = .ok (.invokevirtual 61, 3) := dk_182 0 61 (dk_at dksX2_isAhead_2_2 8 rfl rfl)
theorem dX2_isAhead_2_55 : decode cX2_isAhead_2 55 = .ok (.checkcast 65, 3) := dk_192 0 65 (dk_at dksX2_isAhead_2_2 11 rfl rfl)
theorem dX2_isAhead_2_58 : decode cX2_isAhead_2 58 = .ok (.astore 8, 2) := dk_58 8 (dk_at dksX2_isAhead_2_2 14 rfl rfl)
theorem dX2_isAhead_2_60 : decode cX2_isAhead_2 60 = .ok (.aload 7, 2) := dk_25 7 (dk_at dksX2_isAhead_2_2 16 rfl rfl)
theorem dX2_isAhead_2_62 : decode cX2_isAhead_2 62 = .ok (.getfield 119, 3) := dk_180 0 119 (dk_at dksX2_isAhead_2_2 18 rfl rfl)
theorem dX2_isAhead_2_65 : decode cX2_isAhead_2 65 = .ok (.aload 8, 2) := dk_25 8 (dk_at dksX2_isAhead_2_2 21 rfl rfl)
theorem dX2_isAhead_2_67 : decode cX2_isAhead_2 67 = .ok (.getfield 119, 3) := dk_180 0 119 (dk_at dksX2_isAhead_2_3 0 rfl rfl)
theorem dX2_isAhead_2_70 : decode cX2_isAhead_2 70 = .ok (.if_icmp .lt 29, 3) := dk_161 0 29 (dk_at dksX2_isAhead_2_3 3 rfl rfl)
theorem dX2_isAhead_2_73 : decode cX2_isAhead_2 73 = .ok (.aload 7, 2) := dk_25 7 (dk_at dksX2_isAhead_2_3 6 rfl rfl)
theorem dX2_isAhead_2_75 : decode cX2_isAhead_2 75 = .ok (.getfield 119, 3) := dk_180 0 119 (dk_at dksX2_isAhead_2_3 8 rfl rfl)
theorem dX2_isAhead_2_78 : decode cX2_isAhead_2 78 = .ok (.aload 8, 2) := dk_25 8 (dk_at dksX2_isAhead_2_3 11 rfl rfl)
theorem dX2_isAhead_2_80 : decode cX2_isAhead_2 80 = .ok (.getfield 119, 3) := dk_180 0 119 (dk_at dksX2_isAhead_2_3 13 rfl rfl)
theorem dX2_isAhead_2_83 : decode cX2_isAhead_2 83 = .ok (.if_icmp .ne 20, 3) := dk_160 0 20 (dk_at dksX2_isAhead_2_3 16 rfl rfl)
theorem dX2_isAhead_2_86 : decode cX2_isAhead_2 86 = .ok (.aload 7, 2) := dk_25 7 (dk_at dksX2_isAhead_2_3 19 rfl rfl)
theorem dX2_isAhead_2_88 : decode cX2_isAhead_2 88 = .ok (.getfield 83, 3) := dk_180 0 83 (dk_at dksX2_isAhead_2_3 21 rfl rfl)
theorem dX2_isAhead_2_91 : decode cX2_isAhead_2 91 = .ok (.aload 8, 2) := dk_25 8 (dk_at dksX2_isAhead_2_4 0 rfl rfl)
theorem dX2_isAhead_2_93 : decode cX2_isAhead_2 93 = .ok (.getfield 83, 3) := dk_180 0 83 (dk_at dksX2_isAhead_2_4 2 rfl rfl)
theorem dX2_isAhead_2_96 : decode cX2_isAhead_2 96 = .ok (.if_icmp .ge 7, 3) := dk_162 0 7 (dk_at dksX2_isAhead_2_4 5 rfl rfl)
theorem dX2_isAhead_2_99 : decode cX2_isAhead_2 99 = .ok (.iconst 1, 1) := dk_4 (dk_at dksX2_isAhead_2_4 8 rfl rfl)
theorem dX2_isAhead_2_100 : decode cX2_isAhead_2 100 = .ok (.goto 4, 3) := dk_167 0 4 (dk_at dksX2_isAhead_2_4 9 rfl rfl)
theorem dX2_isAhead_2_103 : decode cX2_isAhead_2 103 = .ok (.iconst 0, 1) := dk_3 (dk_at dksX2_isAhead_2_4 12 rfl rfl)
theorem dX2_isAhead_2_104 : decode cX2_isAhead_2 104 = .ok (.ireturn, 1) := dk_172 (dk_at dksX2_isAhead_2_4 13 rfl rfl)
theorem q114 : (Jvm.Cond.initialized "NextLoad$Meet") ∈ lw_all := lw_g (lw_at lw_m1 5 rfl) rfl
theorem q179 : (Jvm.Cond.instantiable "NextLoad$Meet" (5 : Nat)) ∈ lw_all := lw_g (lw_at lw_m1 70 rfl) rfl
theorem q181 : (Jvm.Cond.instanceMethod ({ cls := "NextLoad$Meet", name := "<init>", desc := "(LNextLoad;)V" } : Jvm.MethodName)) ∈ lw_all := lw_g (lw_at lw_m1 72 rfl) rfl
theorem q182 : (Jvm.Cond.code ({ cls := "NextLoad$Meet", name := "<init>", desc := "(LNextLoad;)V" } : Jvm.MethodName) prog_10_method_1_code (2 : Nat) (Option.none : Option Jvm.ClassFile.FieldType)) ∈ lw_all := lw_g (lw_at lw_m1 73 rfl) rfl
theorem q183 : (Jvm.Cond.methodLink "NextLoad$Meet" (9 : Nat) ({ cls := "java/lang/Object", name := "<init>", desc := "()V" } : Jvm.MethodName)) ∈ lw_all := lw_g (lw_at lw_m1 74 rfl) rfl
theorem q184 : (Jvm.Cond.classLink "NextLoad$Meet" (15 : Nat) "NextLoad$Standing") ∈ lw_all := lw_g (lw_at lw_m1 75 rfl) rfl
theorem q187 : (Jvm.Cond.methodLinkNest "NextLoad$Meet" (17 : Nat) ({ cls := "NextLoad$Standing", name := "<init>", desc := "()V" } : Jvm.MethodName) "NextLoad") ∈ lw_tbl := lw_at lw_m1 78 rfl
theorem q192 : (Jvm.Cond.fieldLinkNest "NextLoad$Meet" (30 : Nat) "NextLoad$Standing" "best" "[I" "NextLoad") ∈ lw_tbl := lw_at lw_m1 83 rfl
theorem q205 : (Jvm.Cond.fieldLinkNest "NextLoad$Meet" (99 : Nat) "NextLoad$Standing" "failed" "I" "NextLoad") ∈ lw_tbl := lw_at lw_m1 96 rfl
theorem q210 : (Jvm.Cond.fieldLinkNest "NextLoad$Meet" (89 : Nat) "NextLoad$Standing" "asked" "I" "NextLoad") ∈ lw_tbl := lw_at lw_m1 101 rfl
theorem q214 : (Jvm.Cond.fieldLinkNest "NextLoad$Meet" (80 : Nat) "NextLoad$Standing" "changes" "I" "NextLoad") ∈ lw_tbl := lw_at lw_m1 105 rfl
theorem q217 : (Jvm.Cond.fieldLinkNest "NextLoad$Meet" (77 : Nat) "NextLoad$Standing" "hasTried" "Z" "NextLoad") ∈ lw_tbl := lw_at lw_m1 108 rfl
theorem q219 : (Jvm.Cond.fieldLinkNest "NextLoad$Meet" (26 : Nat) "NextLoad$Standing" "isOut" "Z" "NextLoad") ∈ lw_tbl := lw_at lw_m1 110 rfl
theorem q242 : (Jvm.Cond.fieldLink "NextLoad$Meet" (18 : Nat) "NextLoad$Meet" "at" "[LNextLoad$Standing;") ∈ lw_all := lw_g (lw_at lw_m1 133 rfl) rfl
theorem q245 : (Jvm.Cond.fieldLink "NextLoad$Meet" (22 : Nat) "NextLoad$Meet" "lift" "I") ∈ lw_all := lw_g (lw_at lw_m1 136 rfl) rfl
theorem q249 : (Jvm.Cond.fieldLink "NextLoad$Meet" (37 : Nat) "NextLoad$Meet" "round" "I") ∈ lw_all := lw_g (lw_at lw_m1 140 rfl) rfl
theorem q251 : (Jvm.Cond.fieldLink "NextLoad$Meet" (40 : Nat) "NextLoad$Meet" "bar" "I") ∈ lw_all := lw_g (lw_at lw_m1 142 rfl) rfl
theorem q254 : (Jvm.Cond.fieldLink "NextLoad$Meet" (3 : Nat) "NextLoad$Meet" "this$0" "LNextLoad;") ∈ lw_all := lw_g (lw_at lw_m1 145 rfl) rfl
theorem q255 : (Jvm.Cond.laysFinal "NextLoad$Meet" "NextLoad$Meet" "at" "[LNextLoad$Standing;") ∈ lw_all := lw_g (lw_at lw_m1 146 rfl) rfl
theorem q256 : (Jvm.Cond.soleField "NextLoad$Meet" "at") ∈ lw_all := lw_g (lw_at lw_m1 147 rfl) rfl
theorem q257 : (Jvm.Cond.lays "NextLoad$Meet" "NextLoad$Meet" "lift" "I") ∈ lw_all := lw_g (lw_at lw_m1 148 rfl) rfl
theorem q258 : (Jvm.Cond.soleField "NextLoad$Meet" "lift") ∈ lw_all := lw_g (lw_at lw_m1 149 rfl) rfl
theorem q259 : (Jvm.Cond.lays "NextLoad$Meet" "NextLoad$Meet" "round" "I") ∈ lw_all := lw_g (lw_at lw_m1 150 rfl) rfl
theorem q260 : (Jvm.Cond.soleField "NextLoad$Meet" "round") ∈ lw_all := lw_g (lw_at lw_m1 151 rfl) rfl
theorem q261 : (Jvm.Cond.lays "NextLoad$Meet" "NextLoad$Meet" "bar" "I") ∈ lw_all := lw_g (lw_at lw_m1 152 rfl) rfl
theorem q262 : (Jvm.Cond.soleField "NextLoad$Meet" "bar") ∈ lw_all := lw_g (lw_at lw_m1 153 rfl) rfl
theorem q263 : (Jvm.Cond.laysFinal "NextLoad$Meet" "NextLoad$Meet" "this$0" "LNextLoad;") ∈ lw_all := lw_g (lw_at lw_m1 154 rfl) rfl
theorem q264 : (Jvm.Cond.soleField "NextLoad$Meet" "this$0") ∈ lw_all := lw_g (lw_at lw_m1 155 rfl) rfl
theorem q265 : (Jvm.Cond.superclass "NextLoad$Meet" "java/lang/Object") ∈ lw_all := lw_g (lw_at lw_m1 156 rfl) rfl
theorem q356 : (Jvm.Cond.instanceMethod ({ cls := "NextLoad$Meet", name := "begins", desc := "()V" } : Jvm.MethodName)) ∈ lw_all := lw_g (lw_at lw_m2 7 rfl) rfl
theorem q357 : (Jvm.Cond.selects "NextLoad$Meet" ({ cls := "NextLoad$Meet", name := "begins", desc := "()V" } : Jvm.MethodName) ({ cls := "NextLoad$Meet", name := "begins", desc := "()V" } : Jvm.MethodName)) ∈ lw_all := lw_g (lw_at lw_m2 8 rfl) rfl
theorem q358 : (Jvm.Cond.code ({ cls := "NextLoad$Meet", name := "begins", desc := "()V" } : Jvm.MethodName) prog_10_method_2_code (3 : Nat) (Option.none : Option Jvm.ClassFile.FieldType)) ∈ lw_all := lw_g (lw_at lw_m2 9 rfl) rfl
theorem q359 : (Jvm.Cond.methodLink "NextLoad$Meet" (34 : Nat) ({ cls := "NextLoad$Meet", name := "liftBegins", desc := "()V" } : Jvm.MethodName)) ∈ lw_all := lw_g (lw_at lw_m2 10 rfl) rfl
theorem q360 : (Jvm.Cond.privateMethod ({ cls := "NextLoad$Meet", name := "liftBegins", desc := "()V" } : Jvm.MethodName)) ∈ lw_tbl := lw_at lw_m2 11 rfl
theorem q361 : (Jvm.Cond.instanceMethod ({ cls := "NextLoad$Meet", name := "liftBegins", desc := "()V" } : Jvm.MethodName)) ∈ lw_all := lw_g (lw_at lw_m2 12 rfl) rfl
theorem q362 : (Jvm.Cond.code ({ cls := "NextLoad$Meet", name := "liftBegins", desc := "()V" } : Jvm.MethodName) prog_10_method_5_code (2 : Nat) (Option.none : Option Jvm.ClassFile.FieldType)) ∈ lw_all := lw_g (lw_at lw_m2 13 rfl) rfl
theorem q363 : (Jvm.Cond.methodLink "NextLoad$Meet" (51 : Nat) ({ cls := "java/util/ArrayList", name := "size", desc := "()I" } : Jvm.MethodName)) ∈ lw_all := lw_g (lw_at lw_m2 14 rfl) rfl
theorem q367 : (Jvm.Cond.methodLink "NextLoad$Meet" (57 : Nat) ({ cls := "NextLoad$Meet", name := "isOver", desc := "()Z" } : Jvm.MethodName)) ∈ lw_all := lw_g (lw_at lw_m2 18 rfl) rfl
theorem q368 : (Jvm.Cond.instanceMethod ({ cls := "NextLoad$Meet", name := "isOver", desc := "()Z" } : Jvm.MethodName)) ∈ lw_all := lw_g (lw_at lw_m2 19 rfl) rfl
theorem q369 : (Jvm.Cond.selects "NextLoad$Meet" ({ cls := "NextLoad$Meet", name := "isOver", desc := "()Z" } : Jvm.MethodName) ({ cls := "NextLoad$Meet", name := "isOver", desc := "()Z" } : Jvm.MethodName)) ∈ lw_all := lw_g (lw_at lw_m2 20 rfl) rfl
theorem q370 : (Jvm.Cond.code ({ cls := "NextLoad$Meet", name := "isOver", desc := "()Z" } : Jvm.MethodName) prog_10_method_4_code (1 : Nat) (Option.some Jvm.ClassFile.FieldType.boolean)) ∈ lw_all := lw_g (lw_at lw_m2 21 rfl) rfl
theorem q371 : (Jvm.Cond.methodLink "NextLoad$Meet" (61 : Nat) ({ cls := "java/util/ArrayList", name := "get", desc := "(I)Ljava/lang/Object;" } : Jvm.MethodName)) ∈ lw_all := lw_g (lw_at lw_m2 22 rfl) rfl
theorem q385 : (Jvm.Cond.classLink "NextLoad$Meet" (65 : Nat) "NextLoad$Lifter") ∈ lw_all := lw_g (lw_at lw_m2 36 rfl) rfl
theorem q386 : (Jvm.Cond.methodLink "NextLoad$Meet" (70 : Nat) ({ cls := "NextLoad$Standing", name := "begins", desc := "(I)V" } : Jvm.MethodName)) ∈ lw_all := lw_g (lw_at lw_m2 37 rfl) rfl
theorem q390 : (Jvm.Cond.methodLink "NextLoad$Meet" (74 : Nat) ({ cls := "NextLoad$Meet", name := "roundBegins", desc := "(I)V" } : Jvm.MethodName)) ∈ lw_all := lw_g (lw_at lw_m2 41 rfl) rfl
theorem q391 : (Jvm.Cond.privateMethod ({ cls := "NextLoad$Meet", name := "roundBegins", desc := "(I)V" } : Jvm.MethodName)) ∈ lw_tbl := lw_at lw_m2 42 rfl
theorem q392 : (Jvm.Cond.instanceMethod ({ cls := "NextLoad$Meet", name := "roundBegins", desc := "(I)V" } : Jvm.MethodName)) ∈ lw_all := lw_g (lw_at lw_m2 43 rfl) rfl
theorem q393 : (Jvm.Cond.code ({ cls := "NextLoad$Meet", name := "roundBegins", desc := "(I)V" } : Jvm.MethodName) prog_10_method_6_code (3 : Nat) (Option.none : Option Jvm.ClassFile.FieldType)) ∈ lw_all := lw_g (lw_at lw_m2 44 rfl) rfl
theorem q395 : (Jvm.Cond.fieldLinkNest "NextLoad$Meet" (47 : Nat) "NextLoad" "lifters" "Ljava/util/ArrayList;" "NextLoad") ∈ lw_tbl := lw_at lw_m2 46 rfl
theorem q517 : (Jvm.Cond.fieldLinkNest "NextLoad$Meet" (119 : Nat) "NextLoad$Lifter" "body" "I" "NextLoad") ∈ lw_tbl := lw_at lw_m2 168 rfl
theorem q519 : (Jvm.Cond.fieldLinkNest "NextLoad$Meet" (83 : Nat) "NextLoad$Lifter" "lot" "I" "NextLoad") ∈ lw_tbl := lw_at lw_m2 170 rfl
theorem q527 : (Jvm.Cond.fieldLinkNest "NextLoad$Meet" (67 : Nat) "NextLoad$Lifter" "open" "[I" "NextLoad") ∈ lw_tbl := lw_at lw_m2 178 rfl
theorem q685 : (Jvm.Cond.selects "NextLoad$Meet" ({ cls := "java/lang/Object", name := "getClass", desc := "()Ljava/lang/Class;" } : Jvm.MethodName) ({ cls := "java/lang/Object", name := "getClass", desc := "()Ljava/lang/Class;" } : Jvm.MethodName)) ∈ lw_all := lw_g (lw_at lw_m3 96 rfl) rfl
theorem q798 : (Jvm.Cond.instanceMethod ({ cls := "NextLoad$Meet", name := "called", desc := "()I" } : Jvm.MethodName)) ∈ lw_all := lw_g (lw_at lw_m3 209 rfl) rfl
theorem q799 : (Jvm.Cond.selects "NextLoad$Meet" ({ cls := "NextLoad$Meet", name := "called", desc := "()I" } : Jvm.MethodName) ({ cls := "NextLoad$Meet", name := "called", desc := "()I" } : Jvm.MethodName)) ∈ lw_all := lw_g (lw_at lw_m3 210 rfl) rfl
theorem q800 : (Jvm.Cond.code ({ cls := "NextLoad$Meet", name := "called", desc := "()I" } : Jvm.MethodName) prog_10_method_8_code (3 : Nat) (Option.some Jvm.ClassFile.FieldType.int)) ∈ lw_all := lw_g (lw_at lw_m3 211 rfl) rfl
theorem q801 : (Jvm.Cond.methodLink "NextLoad$Meet" (86 : Nat) ({ cls := "NextLoad$Standing", name := "isToTry", desc := "()Z" } : Jvm.MethodName)) ∈ lw_all := lw_g (lw_at lw_m3 212 rfl) rfl
theorem q802 : (Jvm.Cond.methodLink "NextLoad$Meet" (92 : Nat) ({ cls := "NextLoad$Meet", name := "isAheadAt", desc := "(IIII)Z" } : Jvm.MethodName)) ∈ lw_all := lw_g (lw_at lw_m3 213 rfl) rfl
theorem q803 : (Jvm.Cond.privateMethod ({ cls := "NextLoad$Meet", name := "isAheadAt", desc := "(IIII)Z" } : Jvm.MethodName)) ∈ lw_tbl := lw_at lw_m3 214 rfl
theorem q804 : (Jvm.Cond.instanceMethod ({ cls := "NextLoad$Meet", name := "isAheadAt", desc := "(IIII)Z" } : Jvm.MethodName)) ∈ lw_all := lw_g (lw_at lw_m3 215 rfl) rfl
theorem q805 : (Jvm.Cond.code ({ cls := "NextLoad$Meet", name := "isAheadAt", desc := "(IIII)Z" } : Jvm.MethodName) prog_10_method_7_code (5 : Nat) (Option.some Jvm.ClassFile.FieldType.boolean)) ∈ lw_all := lw_g (lw_at lw_m3 216 rfl) rfl
theorem q811 : (Jvm.Cond.instanceMethod ({ cls := "NextLoad$Meet", name := "odds", desc := "(I)I" } : Jvm.MethodName)) ∈ lw_all := lw_g (lw_at lw_m3 222 rfl) rfl
theorem q812 : (Jvm.Cond.selects "NextLoad$Meet" ({ cls := "NextLoad$Meet", name := "odds", desc := "(I)I" } : Jvm.MethodName) ({ cls := "NextLoad$Meet", name := "odds", desc := "(I)I" } : Jvm.MethodName)) ∈ lw_all := lw_g (lw_at lw_m3 223 rfl) rfl
theorem q813 : (Jvm.Cond.code ({ cls := "NextLoad$Meet", name := "odds", desc := "(I)I" } : Jvm.MethodName) prog_10_method_10_code (2 : Nat) (Option.some Jvm.ClassFile.FieldType.int)) ∈ lw_all := lw_g (lw_at lw_m3 224 rfl) rfl
theorem q814 : (Jvm.Cond.methodLinkNest "NextLoad$Meet" (102 : Nat) ({ cls := "NextLoad", name := "oddsOf", desc := "(LNextLoad$Lifter;III)I" } : Jvm.MethodName) "NextLoad") ∈ lw_tbl := lw_at lw_m3 225 rfl
theorem q820 : (Jvm.Cond.instanceMethod ({ cls := "NextLoad$Meet", name := "takes", desc := "(LNextLoad$Meet;)V" } : Jvm.MethodName)) ∈ lw_all := lw_g (lw_at lw_m3 231 rfl) rfl
theorem q821 : (Jvm.Cond.selects "NextLoad$Meet" ({ cls := "NextLoad$Meet", name := "takes", desc := "(LNextLoad$Meet;)V" } : Jvm.MethodName) ({ cls := "NextLoad$Meet", name := "takes", desc := "(LNextLoad$Meet;)V" } : Jvm.MethodName)) ∈ lw_all := lw_g (lw_at lw_m3 232 rfl) rfl
theorem q822 : (Jvm.Cond.code ({ cls := "NextLoad$Meet", name := "takes", desc := "(LNextLoad$Meet;)V" } : Jvm.MethodName) prog_10_method_3_code (3 : Nat) (Option.none : Option Jvm.ClassFile.FieldType)) ∈ lw_all := lw_g (lw_at lw_m3 233 rfl) rfl
theorem q823 : (Jvm.Cond.methodLink "NextLoad$Meet" (43 : Nat) ({ cls := "NextLoad$Standing", name := "takes", desc := "(LNextLoad$Standing;)V" } : Jvm.MethodName)) ∈ lw_all := lw_g (lw_at lw_m3 234 rfl) rfl
theorem q848 : (Jvm.Cond.instanceMethod ({ cls := "NextLoad$Meet", name := "tries", desc := "(LNextLoad$Result;)I" } : Jvm.MethodName)) ∈ lw_all := lw_g (lw_at lw_m4 19 rfl) rfl
theorem q849 : (Jvm.Cond.selects "NextLoad$Meet" ({ cls := "NextLoad$Meet", name := "tries", desc := "(LNextLoad$Result;)I" } : Jvm.MethodName) ({ cls := "NextLoad$Meet", name := "tries", desc := "(LNextLoad$Result;)I" } : Jvm.MethodName)) ∈ lw_all := lw_g (lw_at lw_m4 20 rfl) rfl
theorem q850 : (Jvm.Cond.code ({ cls := "NextLoad$Meet", name := "tries", desc := "(LNextLoad$Result;)I" } : Jvm.MethodName) prog_10_method_11_code (4 : Nat) (Option.some Jvm.ClassFile.FieldType.int)) ∈ lw_all := lw_g (lw_at lw_m4 21 rfl) rfl
theorem q851 : (Jvm.Cond.methodLink "NextLoad$Meet" (96 : Nat) ({ cls := "NextLoad$Meet", name := "called", desc := "()I" } : Jvm.MethodName)) ∈ lw_all := lw_g (lw_at lw_m4 22 rfl) rfl
theorem q852 : (Jvm.Cond.methodLink "NextLoad$Meet" (106 : Nat) ({ cls := "java/lang/Math", name := "max", desc := "(II)I" } : Jvm.MethodName)) ∈ lw_all := lw_g (lw_at lw_m4 23 rfl) rfl
theorem q853 : (Jvm.Cond.methodLink "NextLoad$Meet" (112 : Nat) ({ cls := "NextLoad$Standing", name := "tried", desc := "(LNextLoad$Lifter;ILNextLoad$Result;)V" } : Jvm.MethodName)) ∈ lw_all := lw_g (lw_at lw_m4 24 rfl) rfl
theorem q897 : (Jvm.Cond.methodLink "NextLoad$Meet" (116 : Nat) ({ cls := "NextLoad$Meet", name := "goesOn", desc := "()V" } : Jvm.MethodName)) ∈ lw_all := lw_g (lw_at lw_m4 68 rfl) rfl
theorem q898 : (Jvm.Cond.privateMethod ({ cls := "NextLoad$Meet", name := "goesOn", desc := "()V" } : Jvm.MethodName)) ∈ lw_tbl := lw_at lw_m4 69 rfl
theorem q899 : (Jvm.Cond.instanceMethod ({ cls := "NextLoad$Meet", name := "goesOn", desc := "()V" } : Jvm.MethodName)) ∈ lw_all := lw_g (lw_at lw_m4 70 rfl) rfl
theorem q900 : (Jvm.Cond.code ({ cls := "NextLoad$Meet", name := "goesOn", desc := "()V" } : Jvm.MethodName) prog_10_method_9_code (2 : Nat) (Option.none : Option Jvm.ClassFile.FieldType)) ∈ lw_all := lw_g (lw_at lw_m4 71 rfl) rfl
theorem q914 : (Jvm.Cond.instanceMethod ({ cls := "NextLoad$Meet", name := "atPlace", desc := "(I)I" } : Jvm.MethodName)) ∈ lw_all := lw_g (lw_at lw_m4 85 rfl) rfl
theorem q915 : (Jvm.Cond.selects "NextLoad$Meet" ({ cls := "NextLoad$Meet", name := "atPlace", desc := "(I)I" } : Jvm.MethodName) ({ cls := "NextLoad$Meet", name := "atPlace", desc := "(I)I" } : Jvm.MethodName)) ∈ lw_all := lw_g (lw_at lw_m4 86 rfl) rfl
theorem q916 : (Jvm.Cond.code ({ cls := "NextLoad$Meet", name := "atPlace", desc := "(I)I" } : Jvm.MethodName) prog_10_method_15_code (3 : Nat) (Option.some Jvm.ClassFile.FieldType.int)) ∈ lw_all := lw_g (lw_at lw_m4 87 rfl) rfl
theorem q917 : (Jvm.Cond.methodLink "NextLoad$Meet" (136 : Nat) ({ cls := "NextLoad$Meet", name := "aheadOf", desc := "(I)I" } : Jvm.MethodName)) ∈ lw_all := lw_g (lw_at lw_m4 88 rfl) rfl
theorem q918 : (Jvm.Cond.instanceMethod ({ cls := "NextLoad$Meet", name := "aheadOf", desc := "(I)I" } : Jvm.MethodName)) ∈ lw_all := lw_g (lw_at lw_m4 89 rfl) rfl
theorem q919 : (Jvm.Cond.selects "NextLoad$Meet" ({ cls := "NextLoad$Meet", name := "aheadOf", desc := "(I)I" } : Jvm.MethodName) ({ cls := "NextLoad$Meet", name := "aheadOf", desc := "(I)I" } : Jvm.MethodName)) ∈ lw_all := lw_g (lw_at lw_m4 90 rfl) rfl
theorem q920 : (Jvm.Cond.code ({ cls := "NextLoad$Meet", name := "aheadOf", desc := "(I)I" } : Jvm.MethodName) prog_10_method_14_code (4 : Nat) (Option.some Jvm.ClassFile.FieldType.int)) ∈ lw_all := lw_g (lw_at lw_m4 91 rfl) rfl
theorem q921 : (Jvm.Cond.methodLink "NextLoad$Meet" (129 : Nat) ({ cls := "NextLoad$Meet", name := "isAhead", desc := "(II)Z" } : Jvm.MethodName)) ∈ lw_all := lw_g (lw_at lw_m4 92 rfl) rfl
theorem q922 : (Jvm.Cond.instanceMethod ({ cls := "NextLoad$Meet", name := "isAhead", desc := "(II)Z" } : Jvm.MethodName)) ∈ lw_all := lw_g (lw_at lw_m4 93 rfl) rfl
theorem q923 : (Jvm.Cond.selects "NextLoad$Meet" ({ cls := "NextLoad$Meet", name := "isAhead", desc := "(II)Z" } : Jvm.MethodName) ({ cls := "NextLoad$Meet", name := "isAhead", desc := "(II)Z" } : Jvm.MethodName)) ∈ lw_all := lw_g (lw_at lw_m4 94 rfl) rfl
theorem q924 : (Jvm.Cond.code ({ cls := "NextLoad$Meet", name := "isAhead", desc := "(II)Z" } : Jvm.MethodName) prog_10_method_13_code (3 : Nat) (Option.some Jvm.ClassFile.FieldType.boolean)) ∈ lw_all := lw_g (lw_at lw_m4 95 rfl) rfl
theorem q925 : (Jvm.Cond.methodLink "NextLoad$Meet" (122 : Nat) ({ cls := "NextLoad$Standing", name := "sum", desc := "()I" } : Jvm.MethodName)) ∈ lw_all := lw_g (lw_at lw_m4 96 rfl) rfl
theorem q926 : (Jvm.Cond.methodLink "NextLoad$Meet" (125 : Nat) ({ cls := "NextLoad$Meet", name := "isAhead", desc := "(IIZIIZ)Z" } : Jvm.MethodName)) ∈ lw_all := lw_g (lw_at lw_m4 97 rfl) rfl
theorem q927 : (Jvm.Cond.instanceMethod ({ cls := "NextLoad$Meet", name := "isAhead", desc := "(IIZIIZ)Z" } : Jvm.MethodName)) ∈ lw_all := lw_g (lw_at lw_m4 98 rfl) rfl
theorem q928 : (Jvm.Cond.selects "NextLoad$Meet" ({ cls := "NextLoad$Meet", name := "isAhead", desc := "(IIZIIZ)Z" } : Jvm.MethodName) ({ cls := "NextLoad$Meet", name := "isAhead", desc := "(IIZIIZ)Z" } : Jvm.MethodName)) ∈ lw_all := lw_g (lw_at lw_m4 99 rfl) rfl
theorem q929 : (Jvm.Cond.code ({ cls := "NextLoad$Meet", name := "isAhead", desc := "(IIZIIZ)Z" } : Jvm.MethodName) prog_10_method_12_code (9 : Nat) (Option.some Jvm.ClassFile.FieldType.boolean)) ∈ lw_all := lw_g (lw_at lw_m4 100 rfl) rfl
theorem q930 : (Jvm.Cond.methodLinkNest "NextLoad$Meet" (132 : Nat) ({ cls := "NextLoad", name := "bit", desc := "(Z)I" } : Jvm.MethodName) "NextLoad") ∈ lw_tbl := lw_at lw_m4 101 rfl
theorem q1935 : (Jvm.Cond.castable "NextLoad$Meet" "java/lang/Object") ∈ lw_tbl := lw_at lw_m8 146 rfl
theorem in_X2 : ∀ w ∈ wsX20, w ∈ lw_all := lw_in wsX20 [255, 257, 259, 261, 263] (by decide +kernel) (by decide +kernel)

/-! NextLoad$Standing -/
set_option maxRecDepth 100000
def RX3 : String := "NextLoad$Standing"
def TX3 : u_T := fun k => match k with
  | 0 => ("NextLoad$Standing", "best", "[I", true)
  | 1 => ("NextLoad$Standing", "tries", "I", false)
  | 2 => ("NextLoad$Standing", "failed", "I", false)
  | 3 => ("NextLoad$Standing", "asked", "I", false)
  | 4 => ("NextLoad$Standing", "least", "I", false)
  | 5 => ("NextLoad$Standing", "changes", "I", false)
  | 6 => ("NextLoad$Standing", "hasTried", "Z", false)
  | _ => ("NextLoad$Standing", "isOut", "Z", false)
def tyX3 : Nat → FieldType := fun k => match k with
  | 0 => .array .int
  | 1 => .int
  | 2 => .int
  | 3 => .int
  | 4 => .int
  | 5 => .int
  | 6 => .boolean
  | _ => .boolean
abbrev wsX30 : List Cond := u_ws RX3 TX3 8
theorem nmX3 : ∀ a, a < 8 → ∀ b, b < 8 → a ≠ b → (TX3 a).2.1 ≠ (TX3 b).2.1 := by decide +kernel
theorem tyX3_ok : ∀ k, k < 8 → parseFieldDescriptor (TX3 k).2.2.1 = some (tyX3 k) := by decide +kernel
abbrev cX3_init : ByteArray := prog_17_method_1_code
def yX3_init : MethodName := ⟨RX3, "<init>", "()V"⟩
def dkwX3_init_0 : List UInt8 := [42, 183, 0, 3, 42, 6, 188, 10, 181, 0, 9, 177]
abbrev dktX3_init_0 : List UInt8 := dkwX3_init_0 ++ []
theorem dksX3_init_0 : cX3_init.data.toList.drop 0 = dktX3_init_0 := by decide +kernel
theorem dX3_init_0 : decode cX3_init 0 = .ok (.aload_n 0, 1) := dk_42 (dk_at dksX3_init_0 0 rfl rfl)
theorem dX3_init_1 : decode cX3_init 1 = .ok (.invokespecial 3, 3) := dk_183 0 3 (dk_at dksX3_init_0 1 rfl rfl)
theorem dX3_init_4 : decode cX3_init 4 = .ok (.aload_n 0, 1) := dk_42 (dk_at dksX3_init_0 4 rfl rfl)
theorem dX3_init_5 : decode cX3_init 5 = .ok (.iconst 3, 1) := dk_6 (dk_at dksX3_init_0 5 rfl rfl)
theorem dX3_init_6 : decode cX3_init 6 = .ok (.newarray .int, 2) := dk_188_10 (dk_at dksX3_init_0 6 rfl rfl)
theorem dX3_init_8 : decode cX3_init 8 = .ok (.putfield 9, 3) := dk_181 0 9 (dk_at dksX3_init_0 8 rfl rfl)
theorem dX3_init_11 : decode cX3_init 11 = .ok (.return_, 1) := dk_177 (dk_at dksX3_init_0 11 rfl rfl)
abbrev cX3_begins : ByteArray := prog_17_method_3_code
def yX3_begins : MethodName := ⟨RX3, "begins", "(I)V"⟩
def dkwX3_begins_1 : List UInt8 := [181, 0, 28, 42, 4, 181, 0, 31, 177]
abbrev dktX3_begins_1 : List UInt8 := dkwX3_begins_1 ++ []
def dkwX3_begins_0 : List UInt8 := [42, 3, 181, 0, 21, 42, 3, 181, 0, 25, 42, 42, 180, 0, 41, 153, 0, 7, 3, 167, 0, 4, 27]
abbrev dktX3_begins_0 : List UInt8 := dkwX3_begins_0 ++ dktX3_begins_1
theorem dksX3_begins_0 : cX3_begins.data.toList.drop 0 = dktX3_begins_0 := by decide +kernel
theorem dksX3_begins_1 : cX3_begins.data.toList.drop 23 = dktX3_begins_1 := dk_seg dksX3_begins_0 23 rfl rfl
theorem dX3_begins_0 : decode cX3_begins 0 = .ok (.aload_n 0, 1) := dk_42 (dk_at dksX3_begins_0 0 rfl rfl)
theorem dX3_begins_1 : decode cX3_begins 1 = .ok (.iconst 0, 1) := dk_3 (dk_at dksX3_begins_0 1 rfl rfl)
theorem dX3_begins_2 : decode cX3_begins 2 = .ok (.putfield 21, 3) := dk_181 0 21 (dk_at dksX3_begins_0 2 rfl rfl)
theorem dX3_begins_5 : decode cX3_begins 5 = .ok (.aload_n 0, 1) := dk_42 (dk_at dksX3_begins_0 5 rfl rfl)
theorem dX3_begins_6 : decode cX3_begins 6 = .ok (.iconst 0, 1) := dk_3 (dk_at dksX3_begins_0 6 rfl rfl)
theorem dX3_begins_7 : decode cX3_begins 7 = .ok (.putfield 25, 3) := dk_181 0 25 (dk_at dksX3_begins_0 7 rfl rfl)
theorem dX3_begins_10 : decode cX3_begins 10 = .ok (.aload_n 0, 1) := dk_42 (dk_at dksX3_begins_0 10 rfl rfl)
theorem dX3_begins_11 : decode cX3_begins 11 = .ok (.aload_n 0, 1) := dk_42 (dk_at dksX3_begins_0 11 rfl rfl)
theorem dX3_begins_12 : decode cX3_begins 12 = .ok (.getfield 41, 3) := dk_180 0 41 (dk_at dksX3_begins_0 12 rfl rfl)
theorem dX3_begins_15 : decode cX3_begins 15 = .ok (.ifCond .eq 7, 3) := dk_153 0 7 (dk_at dksX3_begins_0 15 rfl rfl)
theorem dX3_begins_18 : decode cX3_begins 18 = .ok (.iconst 0, 1) := dk_3 (dk_at dksX3_begins_0 18 rfl rfl)
theorem dX3_begins_19 : decode cX3_begins 19 = .ok (.goto 4, 3) := dk_167 0 4 (dk_at dksX3_begins_0 19 rfl rfl)
theorem dX3_begins_22 : decode cX3_begins 22 = .ok (.iload_n 1, 1) := dk_27 (dk_at dksX3_begins_0 22 rfl rfl)
theorem dX3_begins_23 : decode cX3_begins 23 = .ok (.putfield 28, 3) := dk_181 0 28 (dk_at dksX3_begins_1 0 rfl rfl)
theorem dX3_begins_26 : decode cX3_begins 26 = .ok (.aload_n 0, 1) := dk_42 (dk_at dksX3_begins_1 3 rfl rfl)
theorem dX3_begins_27 : decode cX3_begins 27 = .ok (.iconst 1, 1) := dk_4 (dk_at dksX3_begins_1 4 rfl rfl)
theorem dX3_begins_28 : decode cX3_begins 28 = .ok (.putfield 31, 3) := dk_181 0 31 (dk_at dksX3_begins_1 5 rfl rfl)
theorem dX3_begins_31 : decode cX3_begins 31 = .ok (.return_, 1) := dk_177 (dk_at dksX3_begins_1 8 rfl rfl)
abbrev cX3_least : ByteArray := prog_17_method_6_code
def yX3_least : MethodName := ⟨RX3, "least", "(I)I"⟩
def dkwX3_least_1 : List UInt8 := [167, 0, 11, 42, 180, 0, 31, 27, 184, 0, 44, 172]
abbrev dktX3_least_1 : List UInt8 := dkwX3_least_1 ++ []
def dkwX3_least_0 : List UInt8 := [42, 180, 0, 28, 154, 0, 7, 3, 167, 0, 25, 42, 180, 0, 37, 153, 0, 10, 42, 180, 0, 31]
abbrev dktX3_least_0 : List UInt8 := dkwX3_least_0 ++ dktX3_least_1
theorem dksX3_least_0 : cX3_least.data.toList.drop 0 = dktX3_least_0 := by decide +kernel
theorem dksX3_least_1 : cX3_least.data.toList.drop 22 = dktX3_least_1 := dk_seg dksX3_least_0 22 rfl rfl
theorem dX3_least_0 : decode cX3_least 0 = .ok (.aload_n 0, 1) := dk_42 (dk_at dksX3_least_0 0 rfl rfl)
theorem dX3_least_1 : decode cX3_least 1 = .ok (.getfield 28, 3) := dk_180 0 28 (dk_at dksX3_least_0 1 rfl rfl)
theorem dX3_least_4 : decode cX3_least 4 = .ok (.ifCond .ne 7, 3) := dk_154 0 7 (dk_at dksX3_least_0 4 rfl rfl)
theorem dX3_least_7 : decode cX3_least 7 = .ok (.iconst 0, 1) := dk_3 (dk_at dksX3_least_0 7 rfl rfl)
theorem dX3_least_8 : decode cX3_least 8 = .ok (.goto 25, 3) := dk_167 0 25 (dk_at dksX3_least_0 8 rfl rfl)
theorem dX3_least_11 : decode cX3_least 11 = .ok (.aload_n 0, 1) := dk_42 (dk_at dksX3_least_0 11 rfl rfl)
theorem dX3_least_12 : decode cX3_least 12 = .ok (.getfield 37, 3) := dk_180 0 37 (dk_at dksX3_least_0 12 rfl rfl)
theorem dX3_least_15 : decode cX3_least 15 = .ok (.ifCond .eq 10, 3) := dk_153 0 10 (dk_at dksX3_least_0 15 rfl rfl)
theorem dX3_least_18 : decode cX3_least 18 = .ok (.aload_n 0, 1) := dk_42 (dk_at dksX3_least_0 18 rfl rfl)
theorem dX3_least_19 : decode cX3_least 19 = .ok (.getfield 31, 3) := dk_180 0 31 (dk_at dksX3_least_0 19 rfl rfl)
theorem dX3_least_22 : decode cX3_least 22 = .ok (.goto 11, 3) := dk_167 0 11 (dk_at dksX3_least_1 0 rfl rfl)
theorem dX3_least_25 : decode cX3_least 25 = .ok (.aload_n 0, 1) := dk_42 (dk_at dksX3_least_1 3 rfl rfl)
theorem dX3_least_26 : decode cX3_least 26 = .ok (.getfield 31, 3) := dk_180 0 31 (dk_at dksX3_least_1 4 rfl rfl)
theorem dX3_least_29 : decode cX3_least 29 = .ok (.iload_n 1, 1) := dk_27 (dk_at dksX3_least_1 7 rfl rfl)
theorem dX3_least_30 : decode cX3_least 30 = .ok (.invokestatic 44, 3) := dk_184 0 44 (dk_at dksX3_least_1 8 rfl rfl)
theorem dX3_least_33 : decode cX3_least 33 = .ok (.ireturn, 1) := dk_172 (dk_at dksX3_least_1 11 rfl rfl)
abbrev cX3_isToTry : ByteArray := prog_17_method_4_code
def yX3_isToTry : MethodName := ⟨RX3, "isToTry", "()Z"⟩
def dkwX3_isToTry_0 : List UInt8 := [42, 180, 0, 28, 158, 0, 14, 42, 180, 0, 37, 154, 0, 7, 4, 167, 0, 4, 3, 172]
abbrev dktX3_isToTry_0 : List UInt8 := dkwX3_isToTry_0 ++ []
theorem dksX3_isToTry_0 : cX3_isToTry.data.toList.drop 0 = dktX3_isToTry_0 := by decide +kernel
theorem dX3_isToTry_0 : decode cX3_isToTry 0 = .ok (.aload_n 0, 1) := dk_42 (dk_at dksX3_isToTry_0 0 rfl rfl)
theorem dX3_isToTry_1 : decode cX3_isToTry 1 = .ok (.getfield 28, 3) := dk_180 0 28 (dk_at dksX3_isToTry_0 1 rfl rfl)
theorem dX3_isToTry_4 : decode cX3_isToTry 4 = .ok (.ifCond .le 14, 3) := dk_158 0 14 (dk_at dksX3_isToTry_0 4 rfl rfl)
theorem dX3_isToTry_7 : decode cX3_isToTry 7 = .ok (.aload_n 0, 1) := dk_42 (dk_at dksX3_isToTry_0 7 rfl rfl)
theorem dX3_isToTry_8 : decode cX3_isToTry 8 = .ok (.getfield 37, 3) := dk_180 0 37 (dk_at dksX3_isToTry_0 8 rfl rfl)
theorem dX3_isToTry_11 : decode cX3_isToTry 11 = .ok (.ifCond .ne 7, 3) := dk_154 0 7 (dk_at dksX3_isToTry_0 11 rfl rfl)
theorem dX3_isToTry_14 : decode cX3_isToTry 14 = .ok (.iconst 1, 1) := dk_4 (dk_at dksX3_isToTry_0 14 rfl rfl)
theorem dX3_isToTry_15 : decode cX3_isToTry 15 = .ok (.goto 4, 3) := dk_167 0 4 (dk_at dksX3_isToTry_0 15 rfl rfl)
theorem dX3_isToTry_18 : decode cX3_isToTry 18 = .ok (.iconst 0, 1) := dk_3 (dk_at dksX3_isToTry_0 18 rfl rfl)
theorem dX3_isToTry_19 : decode cX3_isToTry 19 = .ok (.ireturn, 1) := dk_172 (dk_at dksX3_isToTry_0 19 rfl rfl)
abbrev cX3_sum : ByteArray := prog_17_method_5_code
def yX3_sum : MethodName := ⟨RX3, "sum", "()I"⟩
def dkwX3_sum_1 : List UInt8 := [42, 180, 0, 9, 5, 46, 96, 172]
abbrev dktX3_sum_1 : List UInt8 := dkwX3_sum_1 ++ []
def dkwX3_sum_0 : List UInt8 := [42, 180, 0, 41, 153, 0, 7, 3, 167, 0, 23, 42, 180, 0, 9, 3, 46, 42, 180, 0, 9, 4, 46, 96]
abbrev dktX3_sum_0 : List UInt8 := dkwX3_sum_0 ++ dktX3_sum_1
theorem dksX3_sum_0 : cX3_sum.data.toList.drop 0 = dktX3_sum_0 := by decide +kernel
theorem dksX3_sum_1 : cX3_sum.data.toList.drop 24 = dktX3_sum_1 := dk_seg dksX3_sum_0 24 rfl rfl
theorem dX3_sum_0 : decode cX3_sum 0 = .ok (.aload_n 0, 1) := dk_42 (dk_at dksX3_sum_0 0 rfl rfl)
theorem dX3_sum_1 : decode cX3_sum 1 = .ok (.getfield 41, 3) := dk_180 0 41 (dk_at dksX3_sum_0 1 rfl rfl)
theorem dX3_sum_4 : decode cX3_sum 4 = .ok (.ifCond .eq 7, 3) := dk_153 0 7 (dk_at dksX3_sum_0 4 rfl rfl)
theorem dX3_sum_7 : decode cX3_sum 7 = .ok (.iconst 0, 1) := dk_3 (dk_at dksX3_sum_0 7 rfl rfl)
theorem dX3_sum_8 : decode cX3_sum 8 = .ok (.goto 23, 3) := dk_167 0 23 (dk_at dksX3_sum_0 8 rfl rfl)
theorem dX3_sum_11 : decode cX3_sum 11 = .ok (.aload_n 0, 1) := dk_42 (dk_at dksX3_sum_0 11 rfl rfl)
theorem dX3_sum_12 : decode cX3_sum 12 = .ok (.getfield 9, 3) := dk_180 0 9 (dk_at dksX3_sum_0 12 rfl rfl)
theorem dX3_sum_15 : decode cX3_sum 15 = .ok (.iconst 0, 1) := dk_3 (dk_at dksX3_sum_0 15 rfl rfl)
theorem dX3_sum_16 : decode cX3_sum 16 = .ok (.iaload, 1) := dk_46 (dk_at dksX3_sum_0 16 rfl rfl)
theorem dX3_sum_17 : decode cX3_sum 17 = .ok (.aload_n 0, 1) := dk_42 (dk_at dksX3_sum_0 17 rfl rfl)
theorem dX3_sum_18 : decode cX3_sum 18 = .ok (.getfield 9, 3) := dk_180 0 9 (dk_at dksX3_sum_0 18 rfl rfl)
theorem dX3_sum_21 : decode cX3_sum 21 = .ok (.iconst 1, 1) := dk_4 (dk_at dksX3_sum_0 21 rfl rfl)
theorem dX3_sum_22 : decode cX3_sum 22 = .ok (.iaload, 1) := dk_46 (dk_at dksX3_sum_0 22 rfl rfl)
theorem dX3_sum_23 : decode cX3_sum 23 = .ok (.iadd, 1) := dk_96 (dk_at dksX3_sum_0 23 rfl rfl)
theorem dX3_sum_24 : decode cX3_sum 24 = .ok (.aload_n 0, 1) := dk_42 (dk_at dksX3_sum_1 0 rfl rfl)
theorem dX3_sum_25 : decode cX3_sum 25 = .ok (.getfield 9, 3) := dk_180 0 9 (dk_at dksX3_sum_1 1 rfl rfl)
theorem dX3_sum_28 : decode cX3_sum 28 = .ok (.iconst 2, 1) := dk_5 (dk_at dksX3_sum_1 4 rfl rfl)
theorem dX3_sum_29 : decode cX3_sum 29 = .ok (.iaload, 1) := dk_46 (dk_at dksX3_sum_1 5 rfl rfl)
theorem dX3_sum_30 : decode cX3_sum 30 = .ok (.iadd, 1) := dk_96 (dk_at dksX3_sum_1 6 rfl rfl)
theorem dX3_sum_31 : decode cX3_sum 31 = .ok (.ireturn, 1) := dk_172 (dk_at dksX3_sum_1 7 rfl rfl)
abbrev cX3_takes : ByteArray := prog_17_method_2_code
def yX3_takes : MethodName := ⟨RX3, "takes", "(LNextLoad$Standing;)V"⟩
def dkwX3_takes_2 : List UInt8 := [180, 0, 34, 181, 0, 34, 42, 43, 180, 0, 37, 181, 0, 37, 42, 43, 180, 0, 41, 181, 0, 41, 177]
abbrev dktX3_takes_2 : List UInt8 := dkwX3_takes_2 ++ []
def dkwX3_takes_1 : List UInt8 := [180, 0, 25, 181, 0, 25, 42, 43, 180, 0, 28, 181, 0, 28, 42, 43, 180, 0, 31, 181, 0, 31, 42, 43]
abbrev dktX3_takes_1 : List UInt8 := dkwX3_takes_1 ++ dktX3_takes_2
def dkwX3_takes_0 : List UInt8 := [43, 180, 0, 9, 3, 42, 180, 0, 9, 3, 6, 184, 0, 15, 42, 43, 180, 0, 21, 181, 0, 21, 42, 43]
abbrev dktX3_takes_0 : List UInt8 := dkwX3_takes_0 ++ dktX3_takes_1
theorem dksX3_takes_0 : cX3_takes.data.toList.drop 0 = dktX3_takes_0 := by decide +kernel
theorem dksX3_takes_1 : cX3_takes.data.toList.drop 24 = dktX3_takes_1 := dk_seg dksX3_takes_0 24 rfl rfl
theorem dksX3_takes_2 : cX3_takes.data.toList.drop 48 = dktX3_takes_2 := dk_seg dksX3_takes_1 24 rfl rfl
theorem dX3_takes_0 : decode cX3_takes 0 = .ok (.aload_n 1, 1) := dk_43 (dk_at dksX3_takes_0 0 rfl rfl)
theorem dX3_takes_1 : decode cX3_takes 1 = .ok (.getfield 9, 3) := dk_180 0 9 (dk_at dksX3_takes_0 1 rfl rfl)
theorem dX3_takes_4 : decode cX3_takes 4 = .ok (.iconst 0, 1) := dk_3 (dk_at dksX3_takes_0 4 rfl rfl)
theorem dX3_takes_5 : decode cX3_takes 5 = .ok (.aload_n 0, 1) := dk_42 (dk_at dksX3_takes_0 5 rfl rfl)
theorem dX3_takes_6 : decode cX3_takes 6 = .ok (.getfield 9, 3) := dk_180 0 9 (dk_at dksX3_takes_0 6 rfl rfl)
theorem dX3_takes_9 : decode cX3_takes 9 = .ok (.iconst 0, 1) := dk_3 (dk_at dksX3_takes_0 9 rfl rfl)
theorem dX3_takes_10 : decode cX3_takes 10 = .ok (.iconst 3, 1) := dk_6 (dk_at dksX3_takes_0 10 rfl rfl)
theorem dX3_takes_11 : decode cX3_takes 11 = .ok (.invokestatic 15, 3) := dk_184 0 15 (dk_at dksX3_takes_0 11 rfl rfl)
theorem dX3_takes_14 : decode cX3_takes 14 = .ok (.aload_n 0, 1) := dk_42 (dk_at dksX3_takes_0 14 rfl rfl)
theorem dX3_takes_15 : decode cX3_takes 15 = .ok (.aload_n 1, 1) := dk_43 (dk_at dksX3_takes_0 15 rfl rfl)
theorem dX3_takes_16 : decode cX3_takes 16 = .ok (.getfield 21, 3) := dk_180 0 21 (dk_at dksX3_takes_0 16 rfl rfl)
theorem dX3_takes_19 : decode cX3_takes 19 = .ok (.putfield 21, 3) := dk_181 0 21 (dk_at dksX3_takes_0 19 rfl rfl)
theorem dX3_takes_22 : decode cX3_takes 22 = .ok (.aload_n 0, 1) := dk_42 (dk_at dksX3_takes_0 22 rfl rfl)
theorem dX3_takes_23 : decode cX3_takes 23 = .ok (.aload_n 1, 1) := dk_43 (dk_at dksX3_takes_0 23 rfl rfl)
theorem dX3_takes_24 : decode cX3_takes 24 = .ok (.getfield 25, 3) := dk_180 0 25 (dk_at dksX3_takes_1 0 rfl rfl)
theorem dX3_takes_27 : decode cX3_takes 27 = .ok (.putfield 25, 3) := dk_181 0 25 (dk_at dksX3_takes_1 3 rfl rfl)
theorem dX3_takes_30 : decode cX3_takes 30 = .ok (.aload_n 0, 1) := dk_42 (dk_at dksX3_takes_1 6 rfl rfl)
theorem dX3_takes_31 : decode cX3_takes 31 = .ok (.aload_n 1, 1) := dk_43 (dk_at dksX3_takes_1 7 rfl rfl)
theorem dX3_takes_32 : decode cX3_takes 32 = .ok (.getfield 28, 3) := dk_180 0 28 (dk_at dksX3_takes_1 8 rfl rfl)
theorem dX3_takes_35 : decode cX3_takes 35 = .ok (.putfield 28, 3) := dk_181 0 28 (dk_at dksX3_takes_1 11 rfl rfl)
theorem dX3_takes_38 : decode cX3_takes 38 = .ok (.aload_n 0, 1) := dk_42 (dk_at dksX3_takes_1 14 rfl rfl)
theorem dX3_takes_39 : decode cX3_takes 39 = .ok (.aload_n 1, 1) := dk_43 (dk_at dksX3_takes_1 15 rfl rfl)
theorem dX3_takes_40 : decode cX3_takes 40 = .ok (.getfield 31, 3) := dk_180 0 31 (dk_at dksX3_takes_1 16 rfl rfl)
theorem dX3_takes_43 : decode cX3_takes 43 = .ok (.putfield 31, 3) := dk_181 0 31 (dk_at dksX3_takes_1 19 rfl rfl)
theorem dX3_takes_46 : decode cX3_takes 46 = .ok (.aload_n 0, 1) := dk_42 (dk_at dksX3_takes_1 22 rfl rfl)
theorem dX3_takes_47 : decode cX3_takes 47 = .ok (.aload_n 1, 1) := dk_43 (dk_at dksX3_takes_1 23 rfl rfl)
theorem dX3_takes_48 : decode cX3_takes 48 = .ok (.getfield 34, 3) := dk_180 0 34 (dk_at dksX3_takes_2 0 rfl rfl)
theorem dX3_takes_51 : decode cX3_takes 51 = .ok (.putfield 34, 3) := dk_181 0 34 (dk_at dksX3_takes_2 3 rfl rfl)
theorem dX3_takes_54 : decode cX3_takes 54 = .ok (.aload_n 0, 1) := dk_42 (dk_at dksX3_takes_2 6 rfl rfl)
theorem dX3_takes_55 : decode cX3_takes 55 = .ok (.aload_n 1, 1) := dk_43 (dk_at dksX3_takes_2 7 rfl rfl)
theorem dX3_takes_56 : decode cX3_takes 56 = .ok (.getfield 37, 3) := dk_180 0 37 (dk_at dksX3_takes_2 8 rfl rfl)
theorem dX3_takes_59 : decode cX3_takes 59 = .ok (.putfield 37, 3) := dk_181 0 37 (dk_at dksX3_takes_2 11 rfl rfl)
theorem dX3_takes_62 : decode cX3_takes 62 = .ok (.aload_n 0, 1) := dk_42 (dk_at dksX3_takes_2 14 rfl rfl)
theorem dX3_takes_63 : decode cX3_takes 63 = .ok (.aload_n 1, 1) := dk_43 (dk_at dksX3_takes_2 15 rfl rfl)
theorem dX3_takes_64 : decode cX3_takes 64 = .ok (.getfield 41, 3) := dk_180 0 41 (dk_at dksX3_takes_2 16 rfl rfl)
theorem dX3_takes_67 : decode cX3_takes 67 = .ok (.putfield 41, 3) := dk_181 0 41 (dk_at dksX3_takes_2 19 rfl rfl)
theorem dX3_takes_70 : decode cX3_takes 70 = .ok (.return_, 1) := dk_177 (dk_at dksX3_takes_2 22 rfl rfl)
abbrev cX3_tried : ByteArray := prog_17_method_7_code
def yX3_tried : MethodName := ⟨RX3, "tried", "(LNextLoad$Lifter;ILNextLoad$Result;)V"⟩
def dkwX3_tried_4 : List UInt8 := [3, 181, 0, 28, 177]
abbrev dktX3_tried_4 : List UInt8 := dkwX3_tried_4 ++ []
def dkwX3_tried_3 : List UInt8 := [167, 0, 11, 45, 43, 28, 21, 4, 182, 0, 60, 181, 0, 28, 42, 180, 0, 28, 16, 40, 164, 0, 8, 42]
abbrev dktX3_tried_3 : List UInt8 := dkwX3_tried_3 ++ dktX3_tried_4
def dkwX3_tried_2 : List UInt8 := [89, 180, 0, 21, 4, 96, 181, 0, 21, 42, 4, 181, 0, 37, 42, 42, 180, 0, 21, 6, 160, 0, 7, 3]
abbrev dktX3_tried_2 : List UInt8 := dkwX3_tried_2 ++ dktX3_tried_3
def dkwX3_tried_1 : List UInt8 := [42, 45, 21, 4, 182, 0, 54, 181, 0, 31, 42, 89, 180, 0, 25, 45, 182, 0, 57, 96, 181, 0, 25, 42]
abbrev dktX3_tried_1 : List UInt8 := dkwX3_tried_1 ++ dktX3_tried_2
def dkwX3_tried_0 : List UInt8 := [42, 180, 0, 28, 54, 4, 42, 180, 0, 9, 28, 45, 42, 180, 0, 9, 28, 46, 21, 4, 182, 0, 50, 79]
abbrev dktX3_tried_0 : List UInt8 := dkwX3_tried_0 ++ dktX3_tried_1
theorem dksX3_tried_0 : cX3_tried.data.toList.drop 0 = dktX3_tried_0 := by decide +kernel
theorem dksX3_tried_1 : cX3_tried.data.toList.drop 24 = dktX3_tried_1 := dk_seg dksX3_tried_0 24 rfl rfl
theorem dksX3_tried_2 : cX3_tried.data.toList.drop 48 = dktX3_tried_2 := dk_seg dksX3_tried_1 24 rfl rfl
theorem dksX3_tried_3 : cX3_tried.data.toList.drop 72 = dktX3_tried_3 := dk_seg dksX3_tried_2 24 rfl rfl
theorem dksX3_tried_4 : cX3_tried.data.toList.drop 96 = dktX3_tried_4 := dk_seg dksX3_tried_3 24 rfl rfl
theorem dX3_tried_0 : decode cX3_tried 0 = .ok (.aload_n 0, 1) := dk_42 (dk_at dksX3_tried_0 0 rfl rfl)
theorem dX3_tried_1 : decode cX3_tried 1 = .ok (.getfield 28, 3) := dk_180 0 28 (dk_at dksX3_tried_0 1 rfl rfl)
theorem dX3_tried_4 : decode cX3_tried 4 = .ok (.istore 4, 2) := dk_54 4 (dk_at dksX3_tried_0 4 rfl rfl)
theorem dX3_tried_6 : decode cX3_tried 6 = .ok (.aload_n 0, 1) := dk_42 (dk_at dksX3_tried_0 6 rfl rfl)
theorem dX3_tried_7 : decode cX3_tried 7 = .ok (.getfield 9, 3) := dk_180 0 9 (dk_at dksX3_tried_0 7 rfl rfl)
theorem dX3_tried_10 : decode cX3_tried 10 = .ok (.iload_n 2, 1) := dk_28 (dk_at dksX3_tried_0 10 rfl rfl)
theorem dX3_tried_11 : decode cX3_tried 11 = .ok (.aload_n 3, 1) := dk_45 (dk_at dksX3_tried_0 11 rfl rfl)
theorem dX3_tried_12 : decode cX3_tried 12 = .ok (.aload_n 0, 1) := dk_42 (dk_at dksX3_tried_0 12 rfl rfl)
theorem dX3_tried_13 : decode cX3_tried 13 = .ok (.getfield 9, 3) := dk_180 0 9 (dk_at dksX3_tried_0 13 rfl rfl)
theorem dX3_tried_16 : decode cX3_tried 16 = .ok (.iload_n 2, 1) := dk_28 (dk_at dksX3_tried_0 16 rfl rfl)
theorem dX3_tried_17 : decode cX3_tried 17 = .ok (.iaload, 1) := dk_46 (dk_at dksX3_tried_0 17 rfl rfl)
theorem dX3_tried_18 : decode cX3_tried 18 = .ok (.iload 4, 2) := dk_21 4 (dk_at dksX3_tried_0 18 rfl rfl)
theorem dX3_tried_20 : decode cX3_tried 20 = .ok (.invokevirtual 50, 3) := dk_182 0 50 (dk_at dksX3_tried_0 20 rfl rfl)
theorem dX3_tried_23 : decode cX3_tried 23 = .ok (.iastore, 1) := dk_79 (dk_at dksX3_tried_0 23 rfl rfl)
theorem dX3_tried_24 : decode cX3_tried 24 = .ok (.aload_n 0, 1) := dk_42 (dk_at dksX3_tried_1 0 rfl rfl)
theorem dX3_tried_25 : decode cX3_tried 25 = .ok (.aload_n 3, 1) := dk_45 (dk_at dksX3_tried_1 1 rfl rfl)
theorem dX3_tried_26 : decode cX3_tried 26 = .ok (.iload 4, 2) := dk_21 4 (dk_at dksX3_tried_1 2 rfl rfl)
theorem dX3_tried_28 : decode cX3_tried 28 = .ok (.invokevirtual 54, 3) := dk_182 0 54 (dk_at dksX3_tried_1 4 rfl rfl)
theorem dX3_tried_31 : decode cX3_tried 31 = .ok (.putfield 31, 3) := dk_181 0 31 (dk_at dksX3_tried_1 7 rfl rfl)
theorem dX3_tried_34 : decode cX3_tried 34 = .ok (.aload_n 0, 1) := dk_42 (dk_at dksX3_tried_1 10 rfl rfl)
theorem dX3_tried_35 : decode cX3_tried 35 = .ok (.dup, 1) := dk_89 (dk_at dksX3_tried_1 11 rfl rfl)
theorem dX3_tried_36 : decode cX3_tried 36 = .ok (.getfield 25, 3) := dk_180 0 25 (dk_at dksX3_tried_1 12 rfl rfl)
theorem dX3_tried_39 : decode cX3_tried 39 = .ok (.aload_n 3, 1) := dk_45 (dk_at dksX3_tried_1 15 rfl rfl)
theorem dX3_tried_40 : decode cX3_tried 40 = .ok (.invokevirtual 57, 3) := dk_182 0 57 (dk_at dksX3_tried_1 16 rfl rfl)
theorem dX3_tried_43 : decode cX3_tried 43 = .ok (.iadd, 1) := dk_96 (dk_at dksX3_tried_1 19 rfl rfl)
theorem dX3_tried_44 : decode cX3_tried 44 = .ok (.putfield 25, 3) := dk_181 0 25 (dk_at dksX3_tried_1 20 rfl rfl)
theorem dX3_tried_47 : decode cX3_tried 47 = .ok (.aload_n 0, 1) := dk_42 (dk_at dksX3_tried_1 23 rfl rfl)
theorem dX3_tried_48 : decode cX3_tried 48 = .ok (.dup, 1) := dk_89 (dk_at dksX3_tried_2 0 rfl rfl)
theorem dX3_tried_49 : decode cX3_tried 49 = .ok (.getfield 21, 3) := dk_180 0 21 (dk_at dksX3_tried_2 1 rfl rfl)
theorem dX3_tried_52 : decode cX3_tried 52 = .ok (.iconst 1, 1) := dk_4 (dk_at dksX3_tried_2 4 rfl rfl)
theorem dX3_tried_53 : decode cX3_tried 53 = .ok (.iadd, 1) := dk_96 (dk_at dksX3_tried_2 5 rfl rfl)
theorem dX3_tried_54 : decode cX3_tried 54 = .ok (.putfield 21, 3) := dk_181 0 21 (dk_at dksX3_tried_2 6 rfl rfl)
theorem dX3_tried_57 : decode cX3_tried 57 = .ok (.aload_n 0, 1) := dk_42 (dk_at dksX3_tried_2 9 rfl rfl)
theorem dX3_tried_58 : decode cX3_tried 58 = .ok (.iconst 1, 1) := dk_4 (dk_at dksX3_tried_2 10 rfl rfl)
theorem dX3_tried_59 : decode cX3_tried 59 = .ok (.putfield 37, 3) := dk_181 0 37 (dk_at dksX3_tried_2 11 rfl rfl)
theorem dX3_tried_62 : decode cX3_tried 62 = .ok (.aload_n 0, 1) := dk_42 (dk_at dksX3_tried_2 14 rfl rfl)
theorem dX3_tried_63 : decode cX3_tried 63 = .ok (.aload_n 0, 1) := dk_42 (dk_at dksX3_tried_2 15 rfl rfl)
theorem dX3_tried_64 : decode cX3_tried 64 = .ok (.getfield 21, 3) := dk_180 0 21 (dk_at dksX3_tried_2 16 rfl rfl)
theorem dX3_tried_67 : decode cX3_tried 67 = .ok (.iconst 3, 1) := dk_6 (dk_at dksX3_tried_2 19 rfl rfl)
theorem dX3_tried_68 : decode cX3_tried 68 = .ok (.if_icmp .ne 7, 3) := dk_160 0 7 (dk_at dksX3_tried_2 20 rfl rfl)
theorem dX3_tried_71 : decode cX3_tried 71 = .ok (.iconst 0, 1) := dk_3 (dk_at dksX3_tried_2 23 rfl rfl)
theorem dX3_tried_72 : decode cX3_tried 72 = .ok (.goto 11, 3) := dk_167 0 11 (dk_at dksX3_tried_3 0 rfl rfl)
theorem dX3_tried_75 : decode cX3_tried 75 = .ok (.aload_n 3, 1) := dk_45 (dk_at dksX3_tried_3 3 rfl rfl)
theorem dX3_tried_76 : decode cX3_tried 76 = .ok (.aload_n 1, 1) := dk_43 (dk_at dksX3_tried_3 4 rfl rfl)
theorem dX3_tried_77 : decode cX3_tried 77 = .ok (.iload_n 2, 1) := dk_28 (dk_at dksX3_tried_3 5 rfl rfl)
theorem dX3_tried_78 : decode cX3_tried 78 = .ok (.iload 4, 2) := dk_21 4 (dk_at dksX3_tried_3 6 rfl rfl)
theorem dX3_tried_80 : decode cX3_tried 80 = .ok (.invokevirtual 60, 3) := dk_182 0 60 (dk_at dksX3_tried_3 8 rfl rfl)
theorem dX3_tried_83 : decode cX3_tried 83 = .ok (.putfield 28, 3) := dk_181 0 28 (dk_at dksX3_tried_3 11 rfl rfl)
theorem dX3_tried_86 : decode cX3_tried 86 = .ok (.aload_n 0, 1) := dk_42 (dk_at dksX3_tried_3 14 rfl rfl)
theorem dX3_tried_87 : decode cX3_tried 87 = .ok (.getfield 28, 3) := dk_180 0 28 (dk_at dksX3_tried_3 15 rfl rfl)
theorem dX3_tried_90 : decode cX3_tried 90 = .ok (.bipush 40, 2) := dk_16 40 (dk_at dksX3_tried_3 18 rfl rfl)
theorem dX3_tried_92 : decode cX3_tried 92 = .ok (.if_icmp .le 8, 3) := dk_164 0 8 (dk_at dksX3_tried_3 20 rfl rfl)
theorem dX3_tried_95 : decode cX3_tried 95 = .ok (.aload_n 0, 1) := dk_42 (dk_at dksX3_tried_3 23 rfl rfl)
theorem dX3_tried_96 : decode cX3_tried 96 = .ok (.iconst 0, 1) := dk_3 (dk_at dksX3_tried_4 0 rfl rfl)
theorem dX3_tried_97 : decode cX3_tried 97 = .ok (.putfield 28, 3) := dk_181 0 28 (dk_at dksX3_tried_4 1 rfl rfl)
theorem dX3_tried_100 : decode cX3_tried 100 = .ok (.return_, 1) := dk_177 (dk_at dksX3_tried_4 4 rfl rfl)
theorem q115 : (Jvm.Cond.initialized "NextLoad$Standing") ∈ lw_all := lw_g (lw_at lw_m1 6 rfl) rfl
theorem q186 : (Jvm.Cond.instantiable "NextLoad$Standing" (8 : Nat)) ∈ lw_all := lw_g (lw_at lw_m1 77 rfl) rfl
theorem q188 : (Jvm.Cond.instanceMethod ({ cls := "NextLoad$Standing", name := "<init>", desc := "()V" } : Jvm.MethodName)) ∈ lw_all := lw_g (lw_at lw_m1 79 rfl) rfl
theorem q189 : (Jvm.Cond.code ({ cls := "NextLoad$Standing", name := "<init>", desc := "()V" } : Jvm.MethodName) prog_17_method_1_code (1 : Nat) (Option.none : Option Jvm.ClassFile.FieldType)) ∈ lw_all := lw_g (lw_at lw_m1 80 rfl) rfl
theorem q190 : (Jvm.Cond.methodLink "NextLoad$Standing" (3 : Nat) ({ cls := "java/lang/Object", name := "<init>", desc := "()V" } : Jvm.MethodName)) ∈ lw_all := lw_g (lw_at lw_m1 81 rfl) rfl
theorem q191 : (Jvm.Cond.fieldLink "NextLoad$Standing" (9 : Nat) "NextLoad$Standing" "best" "[I") ∈ lw_all := lw_g (lw_at lw_m1 82 rfl) rfl
theorem q197 : (Jvm.Cond.fieldLink "NextLoad$Standing" (21 : Nat) "NextLoad$Standing" "tries" "I") ∈ lw_all := lw_g (lw_at lw_m1 88 rfl) rfl
theorem q201 : (Jvm.Cond.fieldLink "NextLoad$Standing" (25 : Nat) "NextLoad$Standing" "failed" "I") ∈ lw_all := lw_g (lw_at lw_m1 92 rfl) rfl
theorem q207 : (Jvm.Cond.fieldLink "NextLoad$Standing" (28 : Nat) "NextLoad$Standing" "asked" "I") ∈ lw_all := lw_g (lw_at lw_m1 98 rfl) rfl
theorem q212 : (Jvm.Cond.fieldLink "NextLoad$Standing" (31 : Nat) "NextLoad$Standing" "least" "I") ∈ lw_all := lw_g (lw_at lw_m1 103 rfl) rfl
theorem q213 : (Jvm.Cond.fieldLink "NextLoad$Standing" (34 : Nat) "NextLoad$Standing" "changes" "I") ∈ lw_all := lw_g (lw_at lw_m1 104 rfl) rfl
theorem q216 : (Jvm.Cond.fieldLink "NextLoad$Standing" (37 : Nat) "NextLoad$Standing" "hasTried" "Z") ∈ lw_all := lw_g (lw_at lw_m1 107 rfl) rfl
theorem q220 : (Jvm.Cond.fieldLink "NextLoad$Standing" (41 : Nat) "NextLoad$Standing" "isOut" "Z") ∈ lw_all := lw_g (lw_at lw_m1 111 rfl) rfl
theorem q224 : (Jvm.Cond.laysFinal "NextLoad$Standing" "NextLoad$Standing" "best" "[I") ∈ lw_all := lw_g (lw_at lw_m1 115 rfl) rfl
theorem q225 : (Jvm.Cond.soleField "NextLoad$Standing" "best") ∈ lw_all := lw_g (lw_at lw_m1 116 rfl) rfl
theorem q226 : (Jvm.Cond.lays "NextLoad$Standing" "NextLoad$Standing" "tries" "I") ∈ lw_all := lw_g (lw_at lw_m1 117 rfl) rfl
theorem q227 : (Jvm.Cond.soleField "NextLoad$Standing" "tries") ∈ lw_all := lw_g (lw_at lw_m1 118 rfl) rfl
theorem q228 : (Jvm.Cond.lays "NextLoad$Standing" "NextLoad$Standing" "failed" "I") ∈ lw_all := lw_g (lw_at lw_m1 119 rfl) rfl
theorem q229 : (Jvm.Cond.soleField "NextLoad$Standing" "failed") ∈ lw_all := lw_g (lw_at lw_m1 120 rfl) rfl
theorem q230 : (Jvm.Cond.lays "NextLoad$Standing" "NextLoad$Standing" "asked" "I") ∈ lw_all := lw_g (lw_at lw_m1 121 rfl) rfl
theorem q231 : (Jvm.Cond.soleField "NextLoad$Standing" "asked") ∈ lw_all := lw_g (lw_at lw_m1 122 rfl) rfl
theorem q232 : (Jvm.Cond.lays "NextLoad$Standing" "NextLoad$Standing" "least" "I") ∈ lw_all := lw_g (lw_at lw_m1 123 rfl) rfl
theorem q233 : (Jvm.Cond.soleField "NextLoad$Standing" "least") ∈ lw_all := lw_g (lw_at lw_m1 124 rfl) rfl
theorem q234 : (Jvm.Cond.lays "NextLoad$Standing" "NextLoad$Standing" "changes" "I") ∈ lw_all := lw_g (lw_at lw_m1 125 rfl) rfl
theorem q235 : (Jvm.Cond.soleField "NextLoad$Standing" "changes") ∈ lw_all := lw_g (lw_at lw_m1 126 rfl) rfl
theorem q236 : (Jvm.Cond.lays "NextLoad$Standing" "NextLoad$Standing" "hasTried" "Z") ∈ lw_all := lw_g (lw_at lw_m1 127 rfl) rfl
theorem q237 : (Jvm.Cond.soleField "NextLoad$Standing" "hasTried") ∈ lw_all := lw_g (lw_at lw_m1 128 rfl) rfl
theorem q238 : (Jvm.Cond.lays "NextLoad$Standing" "NextLoad$Standing" "isOut" "Z") ∈ lw_all := lw_g (lw_at lw_m1 129 rfl) rfl
theorem q239 : (Jvm.Cond.soleField "NextLoad$Standing" "isOut") ∈ lw_all := lw_g (lw_at lw_m1 130 rfl) rfl
theorem q240 : (Jvm.Cond.superclass "NextLoad$Standing" "java/lang/Object") ∈ lw_all := lw_g (lw_at lw_m1 131 rfl) rfl
theorem q387 : (Jvm.Cond.instanceMethod ({ cls := "NextLoad$Standing", name := "begins", desc := "(I)V" } : Jvm.MethodName)) ∈ lw_all := lw_g (lw_at lw_m2 38 rfl) rfl
theorem q388 : (Jvm.Cond.selects "NextLoad$Standing" ({ cls := "NextLoad$Standing", name := "begins", desc := "(I)V" } : Jvm.MethodName) ({ cls := "NextLoad$Standing", name := "begins", desc := "(I)V" } : Jvm.MethodName)) ∈ lw_all := lw_g (lw_at lw_m2 39 rfl) rfl
theorem q389 : (Jvm.Cond.code ({ cls := "NextLoad$Standing", name := "begins", desc := "(I)V" } : Jvm.MethodName) prog_17_method_3_code (2 : Nat) (Option.none : Option Jvm.ClassFile.FieldType)) ∈ lw_all := lw_g (lw_at lw_m2 40 rfl) rfl
theorem q691 : (Jvm.Cond.selects "NextLoad$Standing" ({ cls := "java/lang/Object", name := "getClass", desc := "()Ljava/lang/Class;" } : Jvm.MethodName) ({ cls := "java/lang/Object", name := "getClass", desc := "()Ljava/lang/Class;" } : Jvm.MethodName)) ∈ lw_all := lw_g (lw_at lw_m3 102 rfl) rfl
theorem q778 : (Jvm.Cond.instanceMethod ({ cls := "NextLoad$Standing", name := "least", desc := "(I)I" } : Jvm.MethodName)) ∈ lw_all := lw_g (lw_at lw_m3 189 rfl) rfl
theorem q779 : (Jvm.Cond.selects "NextLoad$Standing" ({ cls := "NextLoad$Standing", name := "least", desc := "(I)I" } : Jvm.MethodName) ({ cls := "NextLoad$Standing", name := "least", desc := "(I)I" } : Jvm.MethodName)) ∈ lw_all := lw_g (lw_at lw_m3 190 rfl) rfl
theorem q780 : (Jvm.Cond.code ({ cls := "NextLoad$Standing", name := "least", desc := "(I)I" } : Jvm.MethodName) prog_17_method_6_code (2 : Nat) (Option.some Jvm.ClassFile.FieldType.int)) ∈ lw_all := lw_g (lw_at lw_m3 191 rfl) rfl
theorem q781 : (Jvm.Cond.methodLink "NextLoad$Standing" (44 : Nat) ({ cls := "java/lang/Math", name := "max", desc := "(II)I" } : Jvm.MethodName)) ∈ lw_all := lw_g (lw_at lw_m3 192 rfl) rfl
theorem q783 : (Jvm.Cond.instanceMethod ({ cls := "NextLoad$Standing", name := "isToTry", desc := "()Z" } : Jvm.MethodName)) ∈ lw_all := lw_g (lw_at lw_m3 194 rfl) rfl
theorem q784 : (Jvm.Cond.selects "NextLoad$Standing" ({ cls := "NextLoad$Standing", name := "isToTry", desc := "()Z" } : Jvm.MethodName) ({ cls := "NextLoad$Standing", name := "isToTry", desc := "()Z" } : Jvm.MethodName)) ∈ lw_all := lw_g (lw_at lw_m3 195 rfl) rfl
theorem q785 : (Jvm.Cond.code ({ cls := "NextLoad$Standing", name := "isToTry", desc := "()Z" } : Jvm.MethodName) prog_17_method_4_code (1 : Nat) (Option.some Jvm.ClassFile.FieldType.boolean)) ∈ lw_all := lw_g (lw_at lw_m3 196 rfl) rfl
theorem q790 : (Jvm.Cond.instanceMethod ({ cls := "NextLoad$Standing", name := "sum", desc := "()I" } : Jvm.MethodName)) ∈ lw_all := lw_g (lw_at lw_m3 201 rfl) rfl
theorem q791 : (Jvm.Cond.selects "NextLoad$Standing" ({ cls := "NextLoad$Standing", name := "sum", desc := "()I" } : Jvm.MethodName) ({ cls := "NextLoad$Standing", name := "sum", desc := "()I" } : Jvm.MethodName)) ∈ lw_all := lw_g (lw_at lw_m3 202 rfl) rfl
theorem q792 : (Jvm.Cond.code ({ cls := "NextLoad$Standing", name := "sum", desc := "()I" } : Jvm.MethodName) prog_17_method_5_code (1 : Nat) (Option.some Jvm.ClassFile.FieldType.int)) ∈ lw_all := lw_g (lw_at lw_m3 203 rfl) rfl
theorem q824 : (Jvm.Cond.instanceMethod ({ cls := "NextLoad$Standing", name := "takes", desc := "(LNextLoad$Standing;)V" } : Jvm.MethodName)) ∈ lw_all := lw_g (lw_at lw_m3 235 rfl) rfl
theorem q825 : (Jvm.Cond.selects "NextLoad$Standing" ({ cls := "NextLoad$Standing", name := "takes", desc := "(LNextLoad$Standing;)V" } : Jvm.MethodName) ({ cls := "NextLoad$Standing", name := "takes", desc := "(LNextLoad$Standing;)V" } : Jvm.MethodName)) ∈ lw_all := lw_g (lw_at lw_m3 236 rfl) rfl
theorem q826 : (Jvm.Cond.code ({ cls := "NextLoad$Standing", name := "takes", desc := "(LNextLoad$Standing;)V" } : Jvm.MethodName) prog_17_method_2_code (2 : Nat) (Option.none : Option Jvm.ClassFile.FieldType)) ∈ lw_all := lw_g (lw_at lw_m3 237 rfl) rfl
theorem q827 : (Jvm.Cond.methodLink "NextLoad$Standing" (15 : Nat) ({ cls := "java/lang/System", name := "arraycopy", desc := "(Ljava/lang/Object;ILjava/lang/Object;II)V" } : Jvm.MethodName)) ∈ lw_all := lw_g (lw_at lw_m3 238 rfl) rfl
theorem q854 : (Jvm.Cond.instanceMethod ({ cls := "NextLoad$Standing", name := "tried", desc := "(LNextLoad$Lifter;ILNextLoad$Result;)V" } : Jvm.MethodName)) ∈ lw_all := lw_g (lw_at lw_m4 25 rfl) rfl
theorem q855 : (Jvm.Cond.selects "NextLoad$Standing" ({ cls := "NextLoad$Standing", name := "tried", desc := "(LNextLoad$Lifter;ILNextLoad$Result;)V" } : Jvm.MethodName) ({ cls := "NextLoad$Standing", name := "tried", desc := "(LNextLoad$Lifter;ILNextLoad$Result;)V" } : Jvm.MethodName)) ∈ lw_all := lw_g (lw_at lw_m4 26 rfl) rfl
theorem q856 : (Jvm.Cond.code ({ cls := "NextLoad$Standing", name := "tried", desc := "(LNextLoad$Lifter;ILNextLoad$Result;)V" } : Jvm.MethodName) prog_17_method_7_code (5 : Nat) (Option.none : Option Jvm.ClassFile.FieldType)) ∈ lw_all := lw_g (lw_at lw_m4 27 rfl) rfl
theorem q857 : (Jvm.Cond.methodLink "NextLoad$Standing" (50 : Nat) ({ cls := "NextLoad$Result", name := "best", desc := "(II)I" } : Jvm.MethodName)) ∈ lw_all := lw_g (lw_at lw_m4 28 rfl) rfl
theorem q866 : (Jvm.Cond.methodLink "NextLoad$Standing" (54 : Nat) ({ cls := "NextLoad$Result", name := "least", desc := "(I)I" } : Jvm.MethodName)) ∈ lw_all := lw_g (lw_at lw_m4 37 rfl) rfl
theorem q875 : (Jvm.Cond.methodLink "NextLoad$Standing" (57 : Nat) ({ cls := "NextLoad$Result", name := "failed", desc := "()I" } : Jvm.MethodName)) ∈ lw_all := lw_g (lw_at lw_m4 46 rfl) rfl
theorem q888 : (Jvm.Cond.methodLink "NextLoad$Standing" (60 : Nat) ({ cls := "NextLoad$Result", name := "asks", desc := "(LNextLoad$Lifter;II)I" } : Jvm.MethodName)) ∈ lw_all := lw_g (lw_at lw_m4 59 rfl) rfl
theorem q1930 : (Jvm.Cond.castable "NextLoad$Standing" "java/lang/Object") ∈ lw_tbl := lw_at lw_m8 141 rfl
theorem in_X3 : ∀ w ∈ wsX30, w ∈ lw_all := lw_in wsX30 [224, 226, 228, 230, 232, 234, 236, 238] (by decide +kernel) (by decide +kernel)

/-! NextLoad$Looker -/
set_option maxRecDepth 100000
def RX4 : String := "NextLoad$Looker"
abbrev cX4_init : ByteArray := prog_8_method_1_code
def yX4_init : MethodName := ⟨RX4, "<init>", "(LNextLoad;)V"⟩
def dkwX4_init_0 : List UInt8 := [42, 43, 181, 0, 3, 42, 183, 0, 9, 177]
abbrev dktX4_init_0 : List UInt8 := dkwX4_init_0 ++ []
theorem dksX4_init_0 : cX4_init.data.toList.drop 0 = dktX4_init_0 := by decide +kernel
theorem dX4_init_0 : decode cX4_init 0 = .ok (.aload_n 0, 1) := dk_42 (dk_at dksX4_init_0 0 rfl rfl)
theorem dX4_init_1 : decode cX4_init 1 = .ok (.aload_n 1, 1) := dk_43 (dk_at dksX4_init_0 1 rfl rfl)
theorem dX4_init_2 : decode cX4_init 2 = .ok (.putfield 3, 3) := dk_181 0 3 (dk_at dksX4_init_0 2 rfl rfl)
theorem dX4_init_5 : decode cX4_init 5 = .ok (.aload_n 0, 1) := dk_42 (dk_at dksX4_init_0 5 rfl rfl)
theorem dX4_init_6 : decode cX4_init 6 = .ok (.invokespecial 9, 3) := dk_183 0 9 (dk_at dksX4_init_0 6 rfl rfl)
theorem dX4_init_9 : decode cX4_init 9 = .ok (.return_, 1) := dk_177 (dk_at dksX4_init_0 9 rfl rfl)
abbrev cX4_looks : ByteArray := prog_8_method_2_code
def yX4_looks : MethodName := ⟨RX4, "looks", "(LNextLoad$Lifter;LNextLoad$Aim;)V"⟩
def dkwX4_looks_0 : List UInt8 := [42, 43, 181, 0, 15, 42, 44, 181, 0, 19, 177]
abbrev dktX4_looks_0 : List UInt8 := dkwX4_looks_0 ++ []
theorem dksX4_looks_0 : cX4_looks.data.toList.drop 0 = dktX4_looks_0 := by decide +kernel
theorem dX4_looks_0 : decode cX4_looks 0 = .ok (.aload_n 0, 1) := dk_42 (dk_at dksX4_looks_0 0 rfl rfl)
theorem dX4_looks_1 : decode cX4_looks 1 = .ok (.aload_n 1, 1) := dk_43 (dk_at dksX4_looks_0 1 rfl rfl)
theorem dX4_looks_2 : decode cX4_looks 2 = .ok (.putfield 15, 3) := dk_181 0 15 (dk_at dksX4_looks_0 2 rfl rfl)
theorem dX4_looks_5 : decode cX4_looks 5 = .ok (.aload_n 0, 1) := dk_42 (dk_at dksX4_looks_0 5 rfl rfl)
theorem dX4_looks_6 : decode cX4_looks 6 = .ok (.aload_n 2, 1) := dk_44 (dk_at dksX4_looks_0 6 rfl rfl)
theorem dX4_looks_7 : decode cX4_looks 7 = .ok (.putfield 19, 3) := dk_181 0 19 (dk_at dksX4_looks_0 7 rfl rfl)
theorem dX4_looks_10 : decode cX4_looks 10 = .ok (.return_, 1) := dk_177 (dk_at dksX4_looks_0 10 rfl rfl)
abbrev cX4_now : ByteArray := prog_8_method_7_code
def yX4_now : MethodName := ⟨RX4, "now", "(LNextLoad$Standing;I)J"⟩
def dkwX4_now_4 : List UInt8 := [21, 4, 43, 180, 0, 80, 43, 180, 0, 83, 43, 180, 0, 69, 29, 46, 28, 182, 0, 33, 173]
abbrev dktX4_now_4 : List UInt8 := dkwX4_now_4 ++ []
def dkwX4_now_3 : List UInt8 := [180, 0, 73, 154, 0, 19, 42, 29, 43, 180, 0, 69, 29, 46, 21, 4, 182, 0, 76, 167, 0, 25, 42, 29]
abbrev dktX4_now_3 : List UInt8 := dkwX4_now_3 ++ dktX4_now_4
def dkwX4_now_2 : List UInt8 := [180, 0, 3, 180, 0, 51, 180, 0, 65, 62, 43, 182, 0, 61, 43, 180, 0, 69, 29, 46, 100, 54, 4, 43]
abbrev dktX4_now_2 : List UInt8 := dkwX4_now_2 ++ dktX4_now_3
def dkwX4_now_1 : List UInt8 := [180, 0, 51, 182, 0, 55, 153, 0, 17, 42, 180, 0, 19, 43, 182, 0, 61, 185, 0, 23, 2, 0, 173, 42]
abbrev dktX4_now_1 : List UInt8 := dkwX4_now_1 ++ dktX4_now_2
def dkwX4_now_0 : List UInt8 := [43, 180, 0, 45, 153, 0, 14, 42, 180, 0, 19, 3, 185, 0, 23, 2, 0, 173, 42, 180, 0, 3]
abbrev dktX4_now_0 : List UInt8 := dkwX4_now_0 ++ dktX4_now_1
theorem dksX4_now_0 : cX4_now.data.toList.drop 0 = dktX4_now_0 := by decide +kernel
theorem dksX4_now_1 : cX4_now.data.toList.drop 22 = dktX4_now_1 := dk_seg dksX4_now_0 22 rfl rfl
theorem dksX4_now_2 : cX4_now.data.toList.drop 46 = dktX4_now_2 := dk_seg dksX4_now_1 24 rfl rfl
theorem dksX4_now_3 : cX4_now.data.toList.drop 70 = dktX4_now_3 := dk_seg dksX4_now_2 24 rfl rfl
theorem dksX4_now_4 : cX4_now.data.toList.drop 94 = dktX4_now_4 := dk_seg dksX4_now_3 24 rfl rfl
theorem dX4_now_0 : decode cX4_now 0 = .ok (.aload_n 1, 1) := dk_43 (dk_at dksX4_now_0 0 rfl rfl)
theorem dX4_now_1 : decode cX4_now 1 = .ok (.getfield 45, 3) := dk_180 0 45 (dk_at dksX4_now_0 1 rfl rfl)
theorem dX4_now_4 : decode cX4_now 4 = .ok (.ifCond .eq 14, 3) := dk_153 0 14 (dk_at dksX4_now_0 4 rfl rfl)
theorem dX4_now_7 : decode cX4_now 7 = .ok (.aload_n 0, 1) := dk_42 (dk_at dksX4_now_0 7 rfl rfl)
theorem dX4_now_8 : decode cX4_now 8 = .ok (.getfield 19, 3) := dk_180 0 19 (dk_at dksX4_now_0 8 rfl rfl)
theorem dX4_now_11 : decode cX4_now 11 = .ok (.iconst 0, 1) := dk_3 (dk_at dksX4_now_0 11 rfl rfl)
theorem dX4_now_12 : decode cX4_now 12 = .ok (.invokeinterface 23 2, 5) := by decide +kernel
theorem dX4_now_17 : decode cX4_now 17 = .ok (.lreturn, 1) := dk_173 (dk_at dksX4_now_0 17 rfl rfl)
theorem dX4_now_18 : decode cX4_now 18 = .ok (.aload_n 0, 1) := dk_42 (dk_at dksX4_now_0 18 rfl rfl)
theorem dX4_now_19 : decode cX4_now 19 = .ok (.getfield 3, 3) := dk_180 0 3 (dk_at dksX4_now_0 19 rfl rfl)
theorem dX4_now_22 : decode cX4_now 22 = .ok (.getfield 51, 3) := dk_180 0 51 (dk_at dksX4_now_1 0 rfl rfl)
theorem dX4_now_25 : decode cX4_now 25 = .ok (.invokevirtual 55, 3) := dk_182 0 55 (dk_at dksX4_now_1 3 rfl rfl)
theorem dX4_now_28 : decode cX4_now 28 = .ok (.ifCond .eq 17, 3) := dk_153 0 17 (dk_at dksX4_now_1 6 rfl rfl)
theorem dX4_now_31 : decode cX4_now 31 = .ok (.aload_n 0, 1) := dk_42 (dk_at dksX4_now_1 9 rfl rfl)
theorem dX4_now_32 : decode cX4_now 32 = .ok (.getfield 19, 3) := dk_180 0 19 (dk_at dksX4_now_1 10 rfl rfl)
theorem dX4_now_35 : decode cX4_now 35 = .ok (.aload_n 1, 1) := dk_43 (dk_at dksX4_now_1 13 rfl rfl)
theorem dX4_now_36 : decode cX4_now 36 = .ok (.invokevirtual 61, 3) := dk_182 0 61 (dk_at dksX4_now_1 14 rfl rfl)
theorem dX4_now_39 : decode cX4_now 39 = .ok (.invokeinterface 23 2, 5) := by decide +kernel
theorem dX4_now_44 : decode cX4_now 44 = .ok (.lreturn, 1) := dk_173 (dk_at dksX4_now_1 22 rfl rfl)
theorem dX4_now_45 : decode cX4_now 45 = .ok (.aload_n 0, 1) := dk_42 (dk_at dksX4_now_1 23 rfl rfl)
theorem dX4_now_46 : decode cX4_now 46 = .ok (.getfield 3, 3) := dk_180 0 3 (dk_at dksX4_now_2 0 rfl rfl)
theorem dX4_now_49 : decode cX4_now 49 = .ok (.getfield 51, 3) := dk_180 0 51 (dk_at dksX4_now_2 3 rfl rfl)
theorem dX4_now_52 : decode cX4_now 52 = .ok (.getfield 65, 3) := dk_180 0 65 (dk_at dksX4_now_2 6 rfl rfl)
theorem dX4_now_55 : decode cX4_now 55 = .ok (.istore_n 3, 1) := dk_62 (dk_at dksX4_now_2 9 rfl rfl)
theorem dX4_now_56 : decode cX4_now 56 = .ok (.aload_n 1, 1) := dk_43 (dk_at dksX4_now_2 10 rfl rfl)
theorem dX4_now_57 : decode cX4_now 57 = .ok (.invokevirtual 61, 3) := dk_182 0 61 (dk_at dksX4_now_2 11 rfl rfl)
theorem dX4_now_60 : decode cX4_now 60 = .ok (.aload_n 1, 1) := dk_43 (dk_at dksX4_now_2 14 rfl rfl)
theorem dX4_now_61 : decode cX4_now 61 = .ok (.getfield 69, 3) := dk_180 0 69 (dk_at dksX4_now_2 15 rfl rfl)
theorem dX4_now_64 : decode cX4_now 64 = .ok (.iload_n 3, 1) := dk_29 (dk_at dksX4_now_2 18 rfl rfl)
theorem dX4_now_65 : decode cX4_now 65 = .ok (.iaload, 1) := dk_46 (dk_at dksX4_now_2 19 rfl rfl)
theorem dX4_now_66 : decode cX4_now 66 = .ok (.isub, 1) := dk_100 (dk_at dksX4_now_2 20 rfl rfl)
theorem dX4_now_67 : decode cX4_now 67 = .ok (.istore 4, 2) := dk_54 4 (dk_at dksX4_now_2 21 rfl rfl)
theorem dX4_now_69 : decode cX4_now 69 = .ok (.aload_n 1, 1) := dk_43 (dk_at dksX4_now_2 23 rfl rfl)
theorem dX4_now_70 : decode cX4_now 70 = .ok (.getfield 73, 3) := dk_180 0 73 (dk_at dksX4_now_3 0 rfl rfl)
theorem dX4_now_73 : decode cX4_now 73 = .ok (.ifCond .ne 19, 3) := dk_154 0 19 (dk_at dksX4_now_3 3 rfl rfl)
theorem dX4_now_76 : decode cX4_now 76 = .ok (.aload_n 0, 1) := dk_42 (dk_at dksX4_now_3 6 rfl rfl)
theorem dX4_now_77 : decode cX4_now 77 = .ok (.iload_n 3, 1) := dk_29 (dk_at dksX4_now_3 7 rfl rfl)
theorem dX4_now_78 : decode cX4_now 78 = .ok (.aload_n 1, 1) := dk_43 (dk_at dksX4_now_3 8 rfl rfl)
theorem dX4_now_79 : decode cX4_now 79 = .ok (.getfield 69, 3) := dk_180 0 69 (dk_at dksX4_now_3 9 rfl rfl)
theorem dX4_now_82 : decode cX4_now 82 = .ok (.iload_n 3, 1) := dk_29 (dk_at dksX4_now_3 12 rfl rfl)
theorem dX4_now_83 : decode cX4_now 83 = .ok (.iaload, 1) := dk_46 (dk_at dksX4_now_3 13 rfl rfl)
theorem dX4_now_84 : decode cX4_now 84 = .ok (.iload 4, 2) := dk_21 4 (dk_at dksX4_now_3 14 rfl rfl)
theorem dX4_now_86 : decode cX4_now 86 = .ok (.invokevirtual 76, 3) := dk_182 0 76 (dk_at dksX4_now_3 16 rfl rfl)
theorem dX4_now_89 : decode cX4_now 89 = .ok (.goto 25, 3) := dk_167 0 25 (dk_at dksX4_now_3 19 rfl rfl)
theorem dX4_now_92 : decode cX4_now 92 = .ok (.aload_n 0, 1) := dk_42 (dk_at dksX4_now_3 22 rfl rfl)
theorem dX4_now_93 : decode cX4_now 93 = .ok (.iload_n 3, 1) := dk_29 (dk_at dksX4_now_3 23 rfl rfl)
theorem dX4_now_94 : decode cX4_now 94 = .ok (.iload 4, 2) := dk_21 4 (dk_at dksX4_now_4 0 rfl rfl)
theorem dX4_now_96 : decode cX4_now 96 = .ok (.aload_n 1, 1) := dk_43 (dk_at dksX4_now_4 2 rfl rfl)
theorem dX4_now_97 : decode cX4_now 97 = .ok (.getfield 80, 3) := dk_180 0 80 (dk_at dksX4_now_4 3 rfl rfl)
theorem dX4_now_100 : decode cX4_now 100 = .ok (.aload_n 1, 1) := dk_43 (dk_at dksX4_now_4 6 rfl rfl)
theorem dX4_now_101 : decode cX4_now 101 = .ok (.getfield 83, 3) := dk_180 0 83 (dk_at dksX4_now_4 7 rfl rfl)
theorem dX4_now_104 : decode cX4_now 104 = .ok (.aload_n 1, 1) := dk_43 (dk_at dksX4_now_4 10 rfl rfl)
theorem dX4_now_105 : decode cX4_now 105 = .ok (.getfield 69, 3) := dk_180 0 69 (dk_at dksX4_now_4 11 rfl rfl)
theorem dX4_now_108 : decode cX4_now 108 = .ok (.iload_n 3, 1) := dk_29 (dk_at dksX4_now_4 14 rfl rfl)
theorem dX4_now_109 : decode cX4_now 109 = .ok (.iaload, 1) := dk_46 (dk_at dksX4_now_4 15 rfl rfl)
theorem dX4_now_110 : decode cX4_now 110 = .ok (.iload_n 2, 1) := dk_28 (dk_at dksX4_now_4 16 rfl rfl)
theorem dX4_now_111 : decode cX4_now 111 = .ok (.invokevirtual 33, 3) := dk_182 0 33 (dk_at dksX4_now_4 17 rfl rfl)
theorem dX4_now_114 : decode cX4_now 114 = .ok (.lreturn, 1) := dk_173 (dk_at dksX4_now_4 20 rfl rfl)
abbrev cX4_ended : ByteArray := prog_8_method_3_code
def yX4_ended : MethodName := ⟨RX4, "ended", "(III)J"⟩
def dkwX4_ended_1 : List UInt8 := [29, 28, 96, 185, 0, 23, 2, 0, 167, 0, 13, 42, 27, 4, 96, 29, 28, 96, 182, 0, 29, 173]
abbrev dktX4_ended_1 : List UInt8 := dkwX4_ended_1 ++ []
def dkwX4_ended_0 : List UInt8 := [28, 154, 0, 14, 42, 180, 0, 19, 3, 185, 0, 23, 2, 0, 173, 27, 5, 160, 0, 18, 42, 180, 0, 19]
abbrev dktX4_ended_0 : List UInt8 := dkwX4_ended_0 ++ dktX4_ended_1
theorem dksX4_ended_0 : cX4_ended.data.toList.drop 0 = dktX4_ended_0 := by decide +kernel
theorem dksX4_ended_1 : cX4_ended.data.toList.drop 24 = dktX4_ended_1 := dk_seg dksX4_ended_0 24 rfl rfl
theorem dX4_ended_0 : decode cX4_ended 0 = .ok (.iload_n 2, 1) := dk_28 (dk_at dksX4_ended_0 0 rfl rfl)
theorem dX4_ended_1 : decode cX4_ended 1 = .ok (.ifCond .ne 14, 3) := dk_154 0 14 (dk_at dksX4_ended_0 1 rfl rfl)
theorem dX4_ended_4 : decode cX4_ended 4 = .ok (.aload_n 0, 1) := dk_42 (dk_at dksX4_ended_0 4 rfl rfl)
theorem dX4_ended_5 : decode cX4_ended 5 = .ok (.getfield 19, 3) := dk_180 0 19 (dk_at dksX4_ended_0 5 rfl rfl)
theorem dX4_ended_8 : decode cX4_ended 8 = .ok (.iconst 0, 1) := dk_3 (dk_at dksX4_ended_0 8 rfl rfl)
theorem dX4_ended_9 : decode cX4_ended 9 = .ok (.invokeinterface 23 2, 5) := by decide +kernel
theorem dX4_ended_14 : decode cX4_ended 14 = .ok (.lreturn, 1) := dk_173 (dk_at dksX4_ended_0 14 rfl rfl)
theorem dX4_ended_15 : decode cX4_ended 15 = .ok (.iload_n 1, 1) := dk_27 (dk_at dksX4_ended_0 15 rfl rfl)
theorem dX4_ended_16 : decode cX4_ended 16 = .ok (.iconst 2, 1) := dk_5 (dk_at dksX4_ended_0 16 rfl rfl)
theorem dX4_ended_17 : decode cX4_ended 17 = .ok (.if_icmp .ne 18, 3) := dk_160 0 18 (dk_at dksX4_ended_0 17 rfl rfl)
theorem dX4_ended_20 : decode cX4_ended 20 = .ok (.aload_n 0, 1) := dk_42 (dk_at dksX4_ended_0 20 rfl rfl)
theorem dX4_ended_21 : decode cX4_ended 21 = .ok (.getfield 19, 3) := dk_180 0 19 (dk_at dksX4_ended_0 21 rfl rfl)
theorem dX4_ended_24 : decode cX4_ended 24 = .ok (.iload_n 3, 1) := dk_29 (dk_at dksX4_ended_1 0 rfl rfl)
theorem dX4_ended_25 : decode cX4_ended 25 = .ok (.iload_n 2, 1) := dk_28 (dk_at dksX4_ended_1 1 rfl rfl)
theorem dX4_ended_26 : decode cX4_ended 26 = .ok (.iadd, 1) := dk_96 (dk_at dksX4_ended_1 2 rfl rfl)
theorem dX4_ended_27 : decode cX4_ended 27 = .ok (.invokeinterface 23 2, 5) := by decide +kernel
theorem dX4_ended_32 : decode cX4_ended 32 = .ok (.goto 13, 3) := dk_167 0 13 (dk_at dksX4_ended_1 8 rfl rfl)
theorem dX4_ended_35 : decode cX4_ended 35 = .ok (.aload_n 0, 1) := dk_42 (dk_at dksX4_ended_1 11 rfl rfl)
theorem dX4_ended_36 : decode cX4_ended 36 = .ok (.iload_n 1, 1) := dk_27 (dk_at dksX4_ended_1 12 rfl rfl)
theorem dX4_ended_37 : decode cX4_ended 37 = .ok (.iconst 1, 1) := dk_4 (dk_at dksX4_ended_1 13 rfl rfl)
theorem dX4_ended_38 : decode cX4_ended 38 = .ok (.iadd, 1) := dk_96 (dk_at dksX4_ended_1 14 rfl rfl)
theorem dX4_ended_39 : decode cX4_ended 39 = .ok (.iload_n 3, 1) := dk_29 (dk_at dksX4_ended_1 15 rfl rfl)
theorem dX4_ended_40 : decode cX4_ended 40 = .ok (.iload_n 2, 1) := dk_28 (dk_at dksX4_ended_1 16 rfl rfl)
theorem dX4_ended_41 : decode cX4_ended 41 = .ok (.iadd, 1) := dk_96 (dk_at dksX4_ended_1 17 rfl rfl)
theorem dX4_ended_42 : decode cX4_ended 42 = .ok (.invokevirtual 29, 3) := dk_182 0 29 (dk_at dksX4_ended_1 18 rfl rfl)
theorem dX4_ended_45 : decode cX4_ended 45 = .ok (.lreturn, 1) := dk_173 (dk_at dksX4_ended_1 21 rfl rfl)
abbrev cX4_tried : ByteArray := prog_8_method_6_code
def yX4_tried : MethodName := ⟨RX4, "tried", "(IIIIIIII)J"⟩
def dkwX4_tried_2 : List UInt8 := [21, 5, 21, 8, 182, 0, 33, 184, 0, 41, 173]
abbrev dktX4_tried_2 : List UInt8 := dkwX4_tried_2 ++ []
def dkwX4_tried_1 : List UInt8 := [180, 0, 15, 27, 21, 6, 21, 4, 182, 0, 37, 22, 9, 42, 27, 28, 29, 4, 96, 21, 4, 4, 96]
abbrev dktX4_tried_1 : List UInt8 := dkwX4_tried_1 ++ dktX4_tried_2
def dkwX4_tried_0 : List UInt8 := [42, 27, 28, 29, 4, 96, 21, 4, 21, 6, 21, 7, 182, 0, 33, 55, 9, 42, 180, 0, 3, 42]
abbrev dktX4_tried_0 : List UInt8 := dkwX4_tried_0 ++ dktX4_tried_1
theorem dksX4_tried_0 : cX4_tried.data.toList.drop 0 = dktX4_tried_0 := by decide +kernel
theorem dksX4_tried_1 : cX4_tried.data.toList.drop 22 = dktX4_tried_1 := dk_seg dksX4_tried_0 22 rfl rfl
theorem dksX4_tried_2 : cX4_tried.data.toList.drop 45 = dktX4_tried_2 := dk_seg dksX4_tried_1 23 rfl rfl
theorem dX4_tried_0 : decode cX4_tried 0 = .ok (.aload_n 0, 1) := dk_42 (dk_at dksX4_tried_0 0 rfl rfl)
theorem dX4_tried_1 : decode cX4_tried 1 = .ok (.iload_n 1, 1) := dk_27 (dk_at dksX4_tried_0 1 rfl rfl)
theorem dX4_tried_2 : decode cX4_tried 2 = .ok (.iload_n 2, 1) := dk_28 (dk_at dksX4_tried_0 2 rfl rfl)
theorem dX4_tried_3 : decode cX4_tried 3 = .ok (.iload_n 3, 1) := dk_29 (dk_at dksX4_tried_0 3 rfl rfl)
theorem dX4_tried_4 : decode cX4_tried 4 = .ok (.iconst 1, 1) := dk_4 (dk_at dksX4_tried_0 4 rfl rfl)
theorem dX4_tried_5 : decode cX4_tried 5 = .ok (.iadd, 1) := dk_96 (dk_at dksX4_tried_0 5 rfl rfl)
theorem dX4_tried_6 : decode cX4_tried 6 = .ok (.iload 4, 2) := dk_21 4 (dk_at dksX4_tried_0 6 rfl rfl)
theorem dX4_tried_8 : decode cX4_tried 8 = .ok (.iload 6, 2) := dk_21 6 (dk_at dksX4_tried_0 8 rfl rfl)
theorem dX4_tried_10 : decode cX4_tried 10 = .ok (.iload 7, 2) := dk_21 7 (dk_at dksX4_tried_0 10 rfl rfl)
theorem dX4_tried_12 : decode cX4_tried 12 = .ok (.invokevirtual 33, 3) := dk_182 0 33 (dk_at dksX4_tried_0 12 rfl rfl)
theorem dX4_tried_15 : decode cX4_tried 15 = .ok (.lstore 9, 2) := dk_55 9 (dk_at dksX4_tried_0 15 rfl rfl)
theorem dX4_tried_17 : decode cX4_tried 17 = .ok (.aload_n 0, 1) := dk_42 (dk_at dksX4_tried_0 17 rfl rfl)
theorem dX4_tried_18 : decode cX4_tried 18 = .ok (.getfield 3, 3) := dk_180 0 3 (dk_at dksX4_tried_0 18 rfl rfl)
theorem dX4_tried_21 : decode cX4_tried 21 = .ok (.aload_n 0, 1) := dk_42 (dk_at dksX4_tried_0 21 rfl rfl)
theorem dX4_tried_22 : decode cX4_tried 22 = .ok (.getfield 15, 3) := dk_180 0 15 (dk_at dksX4_tried_1 0 rfl rfl)
theorem dX4_tried_25 : decode cX4_tried 25 = .ok (.iload_n 1, 1) := dk_27 (dk_at dksX4_tried_1 3 rfl rfl)
theorem dX4_tried_26 : decode cX4_tried 26 = .ok (.iload 6, 2) := dk_21 6 (dk_at dksX4_tried_1 4 rfl rfl)
theorem dX4_tried_28 : decode cX4_tried 28 = .ok (.iload 4, 2) := dk_21 4 (dk_at dksX4_tried_1 6 rfl rfl)
theorem dX4_tried_30 : decode cX4_tried 30 = .ok (.invokevirtual 37, 3) := dk_182 0 37 (dk_at dksX4_tried_1 8 rfl rfl)
theorem dX4_tried_33 : decode cX4_tried 33 = .ok (.lload 9, 2) := dk_22 9 (dk_at dksX4_tried_1 11 rfl rfl)
theorem dX4_tried_35 : decode cX4_tried 35 = .ok (.aload_n 0, 1) := dk_42 (dk_at dksX4_tried_1 13 rfl rfl)
theorem dX4_tried_36 : decode cX4_tried 36 = .ok (.iload_n 1, 1) := dk_27 (dk_at dksX4_tried_1 14 rfl rfl)
theorem dX4_tried_37 : decode cX4_tried 37 = .ok (.iload_n 2, 1) := dk_28 (dk_at dksX4_tried_1 15 rfl rfl)
theorem dX4_tried_38 : decode cX4_tried 38 = .ok (.iload_n 3, 1) := dk_29 (dk_at dksX4_tried_1 16 rfl rfl)
theorem dX4_tried_39 : decode cX4_tried 39 = .ok (.iconst 1, 1) := dk_4 (dk_at dksX4_tried_1 17 rfl rfl)
theorem dX4_tried_40 : decode cX4_tried 40 = .ok (.iadd, 1) := dk_96 (dk_at dksX4_tried_1 18 rfl rfl)
theorem dX4_tried_41 : decode cX4_tried 41 = .ok (.iload 4, 2) := dk_21 4 (dk_at dksX4_tried_1 19 rfl rfl)
theorem dX4_tried_43 : decode cX4_tried 43 = .ok (.iconst 1, 1) := dk_4 (dk_at dksX4_tried_1 21 rfl rfl)
theorem dX4_tried_44 : decode cX4_tried 44 = .ok (.iadd, 1) := dk_96 (dk_at dksX4_tried_1 22 rfl rfl)
theorem dX4_tried_45 : decode cX4_tried 45 = .ok (.iload 5, 2) := dk_21 5 (dk_at dksX4_tried_2 0 rfl rfl)
theorem dX4_tried_47 : decode cX4_tried 47 = .ok (.iload 8, 2) := dk_21 8 (dk_at dksX4_tried_2 2 rfl rfl)
theorem dX4_tried_49 : decode cX4_tried 49 = .ok (.invokevirtual 33, 3) := dk_182 0 33 (dk_at dksX4_tried_2 4 rfl rfl)
theorem dX4_tried_52 : decode cX4_tried 52 = .ok (.invokestatic 41, 3) := dk_184 0 41 (dk_at dksX4_tried_2 7 rfl rfl)
theorem dX4_tried_55 : decode cX4_tried 55 = .ok (.lreturn, 1) := dk_173 (dk_at dksX4_tried_2 10 rfl rfl)
theorem q116 : (Jvm.Cond.initialized "NextLoad$Looker") ∈ lw_all := lw_g (lw_at lw_m1 7 rfl) rfl
theorem q195 : (Jvm.Cond.fieldLinkNest "NextLoad$Looker" (69 : Nat) "NextLoad$Standing" "best" "[I" "NextLoad") ∈ lw_tbl := lw_at lw_m1 86 rfl
theorem q199 : (Jvm.Cond.fieldLinkNest "NextLoad$Looker" (80 : Nat) "NextLoad$Standing" "tries" "I" "NextLoad") ∈ lw_tbl := lw_at lw_m1 90 rfl
theorem q204 : (Jvm.Cond.fieldLinkNest "NextLoad$Looker" (83 : Nat) "NextLoad$Standing" "failed" "I" "NextLoad") ∈ lw_tbl := lw_at lw_m1 95 rfl
theorem q209 : (Jvm.Cond.fieldLinkNest "NextLoad$Looker" (73 : Nat) "NextLoad$Standing" "asked" "I" "NextLoad") ∈ lw_tbl := lw_at lw_m1 100 rfl
theorem q221 : (Jvm.Cond.fieldLinkNest "NextLoad$Looker" (45 : Nat) "NextLoad$Standing" "isOut" "Z" "NextLoad") ∈ lw_tbl := lw_at lw_m1 112 rfl
theorem q247 : (Jvm.Cond.fieldLinkNest "NextLoad$Looker" (65 : Nat) "NextLoad$Meet" "lift" "I" "NextLoad") ∈ lw_tbl := lw_at lw_m1 138 rfl
theorem q272 : (Jvm.Cond.instanceMethod ({ cls := "NextLoad$Looker", name := "<init>", desc := "(LNextLoad;)V" } : Jvm.MethodName)) ∈ lw_all := lw_g (lw_at lw_m1 163 rfl) rfl
theorem q273 : (Jvm.Cond.code ({ cls := "NextLoad$Looker", name := "<init>", desc := "(LNextLoad;)V" } : Jvm.MethodName) prog_8_method_1_code (2 : Nat) (Option.none : Option Jvm.ClassFile.FieldType)) ∈ lw_all := lw_g (lw_at lw_m1 164 rfl) rfl
theorem q274 : (Jvm.Cond.methodLink "NextLoad$Looker" (9 : Nat) ({ cls := "java/lang/Object", name := "<init>", desc := "()V" } : Jvm.MethodName)) ∈ lw_all := lw_g (lw_at lw_m1 165 rfl) rfl
theorem q276 : (Jvm.Cond.fieldLink "NextLoad$Looker" (15 : Nat) "NextLoad$Looker" "lifter" "LNextLoad$Lifter;") ∈ lw_all := lw_g (lw_at lw_m1 167 rfl) rfl
theorem q279 : (Jvm.Cond.fieldLink "NextLoad$Looker" (19 : Nat) "NextLoad$Looker" "aim" "LNextLoad$Aim;") ∈ lw_all := lw_g (lw_at lw_m1 170 rfl) rfl
theorem q280 : (Jvm.Cond.fieldLink "NextLoad$Looker" (3 : Nat) "NextLoad$Looker" "this$0" "LNextLoad;") ∈ lw_all := lw_g (lw_at lw_m1 171 rfl) rfl
theorem q284 : (Jvm.Cond.soleField "NextLoad$Looker" "lifter") ∈ lw_all := lw_g (lw_at lw_m1 175 rfl) rfl
theorem q286 : (Jvm.Cond.soleField "NextLoad$Looker" "aim") ∈ lw_all := lw_g (lw_at lw_m1 177 rfl) rfl
theorem q288 : (Jvm.Cond.soleField "NextLoad$Looker" "this$0") ∈ lw_all := lw_g (lw_at lw_m1 179 rfl) rfl
theorem q402 : (Jvm.Cond.fieldLinkNest "NextLoad$Looker" (51 : Nat) "NextLoad" "meet" "LNextLoad$Meet;" "NextLoad") ∈ lw_tbl := lw_at lw_m2 53 rfl
theorem q963 : (Jvm.Cond.declares ({ cls := "NextLoad$Looker", name := "looks", desc := "(LNextLoad$Lifter;LNextLoad$Aim;)V" } : Jvm.MethodName)) ∈ lw_tbl := lw_at lw_m4 134 rfl
theorem q965 : (Jvm.Cond.instanceMethod ({ cls := "NextLoad$Looker", name := "looks", desc := "(LNextLoad$Lifter;LNextLoad$Aim;)V" } : Jvm.MethodName)) ∈ lw_all := lw_g (lw_at lw_m4 136 rfl) rfl
theorem q966 : (Jvm.Cond.code ({ cls := "NextLoad$Looker", name := "looks", desc := "(LNextLoad$Lifter;LNextLoad$Aim;)V" } : Jvm.MethodName) prog_8_method_2_code (3 : Nat) (Option.none : Option Jvm.ClassFile.FieldType)) ∈ lw_all := lw_g (lw_at lw_m4 137 rfl) rfl
theorem q969 : (Jvm.Cond.declares ({ cls := "NextLoad$Looker", name := "now", desc := "(LNextLoad$Standing;I)J" } : Jvm.MethodName)) ∈ lw_tbl := lw_at lw_m4 140 rfl
theorem q971 : (Jvm.Cond.instanceMethod ({ cls := "NextLoad$Looker", name := "now", desc := "(LNextLoad$Standing;I)J" } : Jvm.MethodName)) ∈ lw_all := lw_g (lw_at lw_m4 142 rfl) rfl
theorem q972 : (Jvm.Cond.code ({ cls := "NextLoad$Looker", name := "now", desc := "(LNextLoad$Standing;I)J" } : Jvm.MethodName) prog_8_method_7_code (5 : Nat) (Option.some Jvm.ClassFile.FieldType.long)) ∈ lw_all := lw_g (lw_at lw_m4 143 rfl) rfl
theorem q973 : (Jvm.Cond.interfaceEntry "NextLoad$Looker" (23 : Nat)) ∈ lw_tbl := lw_at lw_m4 144 rfl
theorem q974 : (Jvm.Cond.methodLink "NextLoad$Looker" (23 : Nat) ({ cls := "NextLoad$Aim", name := "of", desc := "(I)J" } : Jvm.MethodName)) ∈ lw_all := lw_g (lw_at lw_m4 145 rfl) rfl
theorem q1006 : (Jvm.Cond.methodLink "NextLoad$Looker" (55 : Nat) ({ cls := "NextLoad$Meet", name := "isOver", desc := "()Z" } : Jvm.MethodName)) ∈ lw_all := lw_g (lw_at lw_m4 177 rfl) rfl
theorem q1007 : (Jvm.Cond.methodLink "NextLoad$Looker" (61 : Nat) ({ cls := "NextLoad$Standing", name := "sum", desc := "()I" } : Jvm.MethodName)) ∈ lw_all := lw_g (lw_at lw_m4 178 rfl) rfl
theorem q1008 : (Jvm.Cond.methodLink "NextLoad$Looker" (76 : Nat) ({ cls := "NextLoad$Looker", name := "ended", desc := "(III)J" } : Jvm.MethodName)) ∈ lw_all := lw_g (lw_at lw_m4 179 rfl) rfl
theorem q1009 : (Jvm.Cond.instanceMethod ({ cls := "NextLoad$Looker", name := "ended", desc := "(III)J" } : Jvm.MethodName)) ∈ lw_all := lw_g (lw_at lw_m4 180 rfl) rfl
theorem q1010 : (Jvm.Cond.sameMethod "NextLoad$Looker" "NextLoad$Looker" "ended" "(III)J") ∈ lw_all := lw_g (lw_at lw_m4 181 rfl) rfl
theorem q1013 : (Jvm.Cond.code ({ cls := "NextLoad$Looker", name := "ended", desc := "(III)J" } : Jvm.MethodName) prog_8_method_3_code (4 : Nat) (Option.some Jvm.ClassFile.FieldType.long)) ∈ lw_all := lw_g (lw_at lw_m4 184 rfl) rfl
theorem q1014 : (Jvm.Cond.methodLink "NextLoad$Looker" (29 : Nat) ({ cls := "NextLoad$Looker", name := "begun", desc := "(II)J" } : Jvm.MethodName)) ∈ lw_all := lw_g (lw_at lw_m4 185 rfl) rfl
theorem q1015 : (Jvm.Cond.declares ({ cls := "NextLoad$Looker", name := "begun", desc := "(II)J" } : Jvm.MethodName)) ∈ lw_tbl := lw_at lw_m4 186 rfl
theorem q1016 : (Jvm.Cond.sameMethod "NextLoad$Looker" "NextLoad$Looker" "begun" "(II)J") ∈ lw_all := lw_g (lw_at lw_m4 187 rfl) rfl
theorem q1026 : (Jvm.Cond.declares ({ cls := "NextLoad$Looker", name := "ended", desc := "(III)J" } : Jvm.MethodName)) ∈ lw_tbl := lw_at lw_m4 197 rfl
theorem q1038 : (Jvm.Cond.declares ({ cls := "NextLoad$Looker", name := "tried", desc := "(IIIIIIII)J" } : Jvm.MethodName)) ∈ lw_tbl := lw_at lw_m4 209 rfl
theorem q1040 : (Jvm.Cond.instanceMethod ({ cls := "NextLoad$Looker", name := "tried", desc := "(IIIIIIII)J" } : Jvm.MethodName)) ∈ lw_all := lw_g (lw_at lw_m4 211 rfl) rfl
theorem q1041 : (Jvm.Cond.code ({ cls := "NextLoad$Looker", name := "tried", desc := "(IIIIIIII)J" } : Jvm.MethodName) prog_8_method_6_code (11 : Nat) (Option.some Jvm.ClassFile.FieldType.long)) ∈ lw_all := lw_g (lw_at lw_m4 212 rfl) rfl
theorem q1042 : (Jvm.Cond.methodLink "NextLoad$Looker" (33 : Nat) ({ cls := "NextLoad$Looker", name := "worth", desc := "(IIIIII)J" } : Jvm.MethodName)) ∈ lw_all := lw_g (lw_at lw_m4 213 rfl) rfl
theorem q1043 : (Jvm.Cond.declares ({ cls := "NextLoad$Looker", name := "worth", desc := "(IIIIII)J" } : Jvm.MethodName)) ∈ lw_tbl := lw_at lw_m4 214 rfl
theorem q1044 : (Jvm.Cond.sameMethod "NextLoad$Looker" "NextLoad$Looker" "worth" "(IIIIII)J") ∈ lw_all := lw_g (lw_at lw_m4 215 rfl) rfl
theorem q1058 : (Jvm.Cond.methodLinkNest "NextLoad$Looker" (37 : Nat) ({ cls := "NextLoad", name := "oddsOf", desc := "(LNextLoad$Lifter;III)I" } : Jvm.MethodName) "NextLoad") ∈ lw_tbl := lw_at lw_m4 229 rfl
theorem q1059 : (Jvm.Cond.methodLinkNest "NextLoad$Looker" (41 : Nat) ({ cls := "NextLoad", name := "mixed", desc := "(IJJ)J" } : Jvm.MethodName) "NextLoad") ∈ lw_tbl := lw_at lw_m4 230 rfl
theorem q1928 : (Jvm.Cond.sameMethod "NextLoad$Looker" "NextLoad$Looker" "looks" "(LNextLoad$Lifter;LNextLoad$Aim;)V") ∈ lw_all := lw_g (lw_at lw_m8 139 rfl) rfl

/-! NextLoad$Planned -/
set_option maxRecDepth 100000
def RX5 : String := "NextLoad$Planned"
def TX5 : u_T := fun k => match k with
  | 0 => ("NextLoad$Looker", "lifter", "LNextLoad$Lifter;", false)
  | 1 => ("NextLoad$Looker", "aim", "LNextLoad$Aim;", false)
  | 2 => ("NextLoad$Looker", "this$0", "LNextLoad;", true)
  | _ => ("NextLoad$Planned", "this$0", "LNextLoad;", true)
def tyX5 : Nat → FieldType := fun k => match k with
  | 0 => .object "NextLoad$Lifter"
  | 1 => .object "NextLoad$Aim"
  | 2 => .object "NextLoad"
  | _ => .object "NextLoad"
abbrev wsX50 : List Cond := u_ws RX5 TX5 4
-- two fields of one name: no nmX5
theorem tyX5_ok : ∀ k, k < 4 → parseFieldDescriptor (TX5 k).2.2.1 = some (tyX5 k) := by decide +kernel
abbrev cX5_init : ByteArray := prog_11_method_1_code
def yX5_init : MethodName := ⟨RX5, "<init>", "(LNextLoad;)V"⟩
def dkwX5_init_0 : List UInt8 := [42, 43, 181, 0, 3, 42, 43, 183, 0, 9, 177]
abbrev dktX5_init_0 : List UInt8 := dkwX5_init_0 ++ []
theorem dksX5_init_0 : cX5_init.data.toList.drop 0 = dktX5_init_0 := by decide +kernel
theorem dX5_init_0 : decode cX5_init 0 = .ok (.aload_n 0, 1) := dk_42 (dk_at dksX5_init_0 0 rfl rfl)
theorem dX5_init_1 : decode cX5_init 1 = .ok (.aload_n 1, 1) := dk_43 (dk_at dksX5_init_0 1 rfl rfl)
theorem dX5_init_2 : decode cX5_init 2 = .ok (.putfield 3, 3) := dk_181 0 3 (dk_at dksX5_init_0 2 rfl rfl)
theorem dX5_init_5 : decode cX5_init 5 = .ok (.aload_n 0, 1) := dk_42 (dk_at dksX5_init_0 5 rfl rfl)
theorem dX5_init_6 : decode cX5_init 6 = .ok (.aload_n 1, 1) := dk_43 (dk_at dksX5_init_0 6 rfl rfl)
theorem dX5_init_7 : decode cX5_init 7 = .ok (.invokespecial 9, 3) := dk_183 0 9 (dk_at dksX5_init_0 7 rfl rfl)
theorem dX5_init_10 : decode cX5_init 10 = .ok (.return_, 1) := dk_177 (dk_at dksX5_init_0 10 rfl rfl)
abbrev cX5_worth : ByteArray := prog_11_method_3_code
def yX5_worth : MethodName := ⟨RX5, "worth", "(IIIIII)J"⟩
def dkwX5_worth_2 : List UInt8 := [180, 0, 15, 27, 21, 6, 182, 0, 39, 182, 0, 46, 173]
abbrev dktX5_worth_2 : List UInt8 := dkwX5_worth_2 ++ []
def dkwX5_worth_1 : List UInt8 := [29, 21, 4, 21, 5, 21, 6, 178, 0, 33, 42, 180, 0, 15, 27, 21, 6, 182, 0, 39, 178, 0, 43, 42]
abbrev dktX5_worth_1 : List UInt8 := dkwX5_worth_1 ++ dktX5_worth_2
def dkwX5_worth_0 : List UInt8 := [29, 6, 159, 0, 10, 21, 6, 16, 40, 164, 0, 12, 42, 27, 21, 5, 28, 182, 0, 29, 173, 42, 27, 28]
abbrev dktX5_worth_0 : List UInt8 := dkwX5_worth_0 ++ dktX5_worth_1
theorem dksX5_worth_0 : cX5_worth.data.toList.drop 0 = dktX5_worth_0 := by decide +kernel
theorem dksX5_worth_1 : cX5_worth.data.toList.drop 24 = dktX5_worth_1 := dk_seg dksX5_worth_0 24 rfl rfl
theorem dksX5_worth_2 : cX5_worth.data.toList.drop 48 = dktX5_worth_2 := dk_seg dksX5_worth_1 24 rfl rfl
theorem dX5_worth_0 : decode cX5_worth 0 = .ok (.iload_n 3, 1) := dk_29 (dk_at dksX5_worth_0 0 rfl rfl)
theorem dX5_worth_1 : decode cX5_worth 1 = .ok (.iconst 3, 1) := dk_6 (dk_at dksX5_worth_0 1 rfl rfl)
theorem dX5_worth_2 : decode cX5_worth 2 = .ok (.if_icmp .eq 10, 3) := dk_159 0 10 (dk_at dksX5_worth_0 2 rfl rfl)
theorem dX5_worth_5 : decode cX5_worth 5 = .ok (.iload 6, 2) := dk_21 6 (dk_at dksX5_worth_0 5 rfl rfl)
theorem dX5_worth_7 : decode cX5_worth 7 = .ok (.bipush 40, 2) := dk_16 40 (dk_at dksX5_worth_0 7 rfl rfl)
theorem dX5_worth_9 : decode cX5_worth 9 = .ok (.if_icmp .le 12, 3) := dk_164 0 12 (dk_at dksX5_worth_0 9 rfl rfl)
theorem dX5_worth_12 : decode cX5_worth 12 = .ok (.aload_n 0, 1) := dk_42 (dk_at dksX5_worth_0 12 rfl rfl)
theorem dX5_worth_13 : decode cX5_worth 13 = .ok (.iload_n 1, 1) := dk_27 (dk_at dksX5_worth_0 13 rfl rfl)
theorem dX5_worth_14 : decode cX5_worth 14 = .ok (.iload 5, 2) := dk_21 5 (dk_at dksX5_worth_0 14 rfl rfl)
theorem dX5_worth_16 : decode cX5_worth 16 = .ok (.iload_n 2, 1) := dk_28 (dk_at dksX5_worth_0 16 rfl rfl)
theorem dX5_worth_17 : decode cX5_worth 17 = .ok (.invokevirtual 29, 3) := dk_182 0 29 (dk_at dksX5_worth_0 17 rfl rfl)
theorem dX5_worth_20 : decode cX5_worth 20 = .ok (.lreturn, 1) := dk_173 (dk_at dksX5_worth_0 20 rfl rfl)
theorem dX5_worth_21 : decode cX5_worth 21 = .ok (.aload_n 0, 1) := dk_42 (dk_at dksX5_worth_0 21 rfl rfl)
theorem dX5_worth_22 : decode cX5_worth 22 = .ok (.iload_n 1, 1) := dk_27 (dk_at dksX5_worth_0 22 rfl rfl)
theorem dX5_worth_23 : decode cX5_worth 23 = .ok (.iload_n 2, 1) := dk_28 (dk_at dksX5_worth_0 23 rfl rfl)
theorem dX5_worth_24 : decode cX5_worth 24 = .ok (.iload_n 3, 1) := dk_29 (dk_at dksX5_worth_1 0 rfl rfl)
theorem dX5_worth_25 : decode cX5_worth 25 = .ok (.iload 4, 2) := dk_21 4 (dk_at dksX5_worth_1 1 rfl rfl)
theorem dX5_worth_27 : decode cX5_worth 27 = .ok (.iload 5, 2) := dk_21 5 (dk_at dksX5_worth_1 3 rfl rfl)
theorem dX5_worth_29 : decode cX5_worth 29 = .ok (.iload 6, 2) := dk_21 6 (dk_at dksX5_worth_1 5 rfl rfl)
theorem dX5_worth_31 : decode cX5_worth 31 = .ok (.getstatic 33, 3) := dk_178 0 33 (dk_at dksX5_worth_1 7 rfl rfl)
theorem dX5_worth_34 : decode cX5_worth 34 = .ok (.aload_n 0, 1) := dk_42 (dk_at dksX5_worth_1 10 rfl rfl)
theorem dX5_worth_35 : decode cX5_worth 35 = .ok (.getfield 15, 3) := dk_180 0 15 (dk_at dksX5_worth_1 11 rfl rfl)
theorem dX5_worth_38 : decode cX5_worth 38 = .ok (.iload_n 1, 1) := dk_27 (dk_at dksX5_worth_1 14 rfl rfl)
theorem dX5_worth_39 : decode cX5_worth 39 = .ok (.iload 6, 2) := dk_21 6 (dk_at dksX5_worth_1 15 rfl rfl)
theorem dX5_worth_41 : decode cX5_worth 41 = .ok (.invokevirtual 39, 3) := dk_182 0 39 (dk_at dksX5_worth_1 17 rfl rfl)
theorem dX5_worth_44 : decode cX5_worth 44 = .ok (.getstatic 43, 3) := dk_178 0 43 (dk_at dksX5_worth_1 20 rfl rfl)
theorem dX5_worth_47 : decode cX5_worth 47 = .ok (.aload_n 0, 1) := dk_42 (dk_at dksX5_worth_1 23 rfl rfl)
theorem dX5_worth_48 : decode cX5_worth 48 = .ok (.getfield 15, 3) := dk_180 0 15 (dk_at dksX5_worth_2 0 rfl rfl)
theorem dX5_worth_51 : decode cX5_worth 51 = .ok (.iload_n 1, 1) := dk_27 (dk_at dksX5_worth_2 3 rfl rfl)
theorem dX5_worth_52 : decode cX5_worth 52 = .ok (.iload 6, 2) := dk_21 6 (dk_at dksX5_worth_2 4 rfl rfl)
theorem dX5_worth_54 : decode cX5_worth 54 = .ok (.invokevirtual 39, 3) := dk_182 0 39 (dk_at dksX5_worth_2 6 rfl rfl)
theorem dX5_worth_57 : decode cX5_worth 57 = .ok (.invokevirtual 46, 3) := dk_182 0 46 (dk_at dksX5_worth_2 9 rfl rfl)
theorem dX5_worth_60 : decode cX5_worth 60 = .ok (.lreturn, 1) := dk_173 (dk_at dksX5_worth_2 12 rfl rfl)
abbrev cX5_begun : ByteArray := prog_11_method_2_code
def yX5_begun : MethodName := ⟨RX5, "begun", "(II)J"⟩
def dkwX5_begun_0 : List UInt8 := [42, 27, 28, 3, 3, 3, 42, 180, 0, 15, 180, 0, 19, 27, 46, 182, 0, 25, 173]
abbrev dktX5_begun_0 : List UInt8 := dkwX5_begun_0 ++ []
theorem dksX5_begun_0 : cX5_begun.data.toList.drop 0 = dktX5_begun_0 := by decide +kernel
theorem dX5_begun_0 : decode cX5_begun 0 = .ok (.aload_n 0, 1) := dk_42 (dk_at dksX5_begun_0 0 rfl rfl)
theorem dX5_begun_1 : decode cX5_begun 1 = .ok (.iload_n 1, 1) := dk_27 (dk_at dksX5_begun_0 1 rfl rfl)
theorem dX5_begun_2 : decode cX5_begun 2 = .ok (.iload_n 2, 1) := dk_28 (dk_at dksX5_begun_0 2 rfl rfl)
theorem dX5_begun_3 : decode cX5_begun 3 = .ok (.iconst 0, 1) := dk_3 (dk_at dksX5_begun_0 3 rfl rfl)
theorem dX5_begun_4 : decode cX5_begun 4 = .ok (.iconst 0, 1) := dk_3 (dk_at dksX5_begun_0 4 rfl rfl)
theorem dX5_begun_5 : decode cX5_begun 5 = .ok (.iconst 0, 1) := dk_3 (dk_at dksX5_begun_0 5 rfl rfl)
theorem dX5_begun_6 : decode cX5_begun 6 = .ok (.aload_n 0, 1) := dk_42 (dk_at dksX5_begun_0 6 rfl rfl)
theorem dX5_begun_7 : decode cX5_begun 7 = .ok (.getfield 15, 3) := dk_180 0 15 (dk_at dksX5_begun_0 7 rfl rfl)
theorem dX5_begun_10 : decode cX5_begun 10 = .ok (.getfield 19, 3) := dk_180 0 19 (dk_at dksX5_begun_0 10 rfl rfl)
theorem dX5_begun_13 : decode cX5_begun 13 = .ok (.iload_n 1, 1) := dk_27 (dk_at dksX5_begun_0 13 rfl rfl)
theorem dX5_begun_14 : decode cX5_begun 14 = .ok (.iaload, 1) := dk_46 (dk_at dksX5_begun_0 14 rfl rfl)
theorem dX5_begun_15 : decode cX5_begun 15 = .ok (.invokevirtual 25, 3) := dk_182 0 25 (dk_at dksX5_begun_0 15 rfl rfl)
theorem dX5_begun_18 : decode cX5_begun 18 = .ok (.lreturn, 1) := dk_173 (dk_at dksX5_begun_0 18 rfl rfl)
theorem q117 : (Jvm.Cond.initialized "NextLoad$Planned") ∈ lw_all := lw_g (lw_at lw_m1 8 rfl) rfl
theorem q267 : (Jvm.Cond.instantiable "NextLoad$Planned" (4 : Nat)) ∈ lw_all := lw_g (lw_at lw_m1 158 rfl) rfl
theorem q269 : (Jvm.Cond.instanceMethod ({ cls := "NextLoad$Planned", name := "<init>", desc := "(LNextLoad;)V" } : Jvm.MethodName)) ∈ lw_all := lw_g (lw_at lw_m1 160 rfl) rfl
theorem q270 : (Jvm.Cond.code ({ cls := "NextLoad$Planned", name := "<init>", desc := "(LNextLoad;)V" } : Jvm.MethodName) prog_11_method_1_code (2 : Nat) (Option.none : Option Jvm.ClassFile.FieldType)) ∈ lw_all := lw_g (lw_at lw_m1 161 rfl) rfl
theorem q271 : (Jvm.Cond.methodLinkNest "NextLoad$Planned" (9 : Nat) ({ cls := "NextLoad$Looker", name := "<init>", desc := "(LNextLoad;)V" } : Jvm.MethodName) "NextLoad") ∈ lw_tbl := lw_at lw_m1 162 rfl
theorem q275 : (Jvm.Cond.fieldLink "NextLoad$Planned" (3 : Nat) "NextLoad$Planned" "this$0" "LNextLoad;") ∈ lw_all := lw_g (lw_at lw_m1 166 rfl) rfl
theorem q277 : (Jvm.Cond.fieldLink "NextLoad$Planned" (15 : Nat) "NextLoad$Planned" "lifter" "LNextLoad$Lifter;") ∈ lw_all := lw_g (lw_at lw_m1 168 rfl) rfl
theorem q278 : (Jvm.Cond.sameField "NextLoad$Planned" "NextLoad$Looker" "lifter" "LNextLoad$Lifter;") ∈ lw_all := lw_g (lw_at lw_m1 169 rfl) rfl
theorem q281 : (Jvm.Cond.laysFinal "NextLoad$Planned" "NextLoad$Planned" "this$0" "LNextLoad;") ∈ lw_all := lw_g (lw_at lw_m1 172 rfl) rfl
theorem q282 : (Jvm.Cond.soleField "NextLoad$Planned" "this$0") ∈ lw_all := lw_g (lw_at lw_m1 173 rfl) rfl
theorem q283 : (Jvm.Cond.lays "NextLoad$Planned" "NextLoad$Looker" "lifter" "LNextLoad$Lifter;") ∈ lw_all := lw_g (lw_at lw_m1 174 rfl) rfl
theorem q285 : (Jvm.Cond.lays "NextLoad$Planned" "NextLoad$Looker" "aim" "LNextLoad$Aim;") ∈ lw_all := lw_g (lw_at lw_m1 176 rfl) rfl
theorem q287 : (Jvm.Cond.laysFinal "NextLoad$Planned" "NextLoad$Looker" "this$0" "LNextLoad;") ∈ lw_all := lw_g (lw_at lw_m1 178 rfl) rfl
theorem q289 : (Jvm.Cond.superclass "NextLoad$Planned" "NextLoad$Looker") ∈ lw_all := lw_g (lw_at lw_m1 180 rfl) rfl
theorem q526 : (Jvm.Cond.fieldLinkNest "NextLoad$Planned" (19 : Nat) "NextLoad$Lifter" "open" "[I" "NextLoad") ∈ lw_tbl := lw_at lw_m2 177 rfl
theorem q686 : (Jvm.Cond.selects "NextLoad$Planned" ({ cls := "java/lang/Object", name := "getClass", desc := "()Ljava/lang/Class;" } : Jvm.MethodName) ({ cls := "java/lang/Object", name := "getClass", desc := "()Ljava/lang/Class;" } : Jvm.MethodName)) ∈ lw_all := lw_g (lw_at lw_m3 97 rfl) rfl
theorem q962 : (Jvm.Cond.sameMethod "NextLoad$Planned" "NextLoad$Looker" "looks" "(LNextLoad$Lifter;LNextLoad$Aim;)V") ∈ lw_all := lw_g (lw_at lw_m4 133 rfl) rfl
theorem q964 : (Jvm.Cond.selects "NextLoad$Planned" ({ cls := "NextLoad$Planned", name := "looks", desc := "(LNextLoad$Lifter;LNextLoad$Aim;)V" } : Jvm.MethodName) ({ cls := "NextLoad$Looker", name := "looks", desc := "(LNextLoad$Lifter;LNextLoad$Aim;)V" } : Jvm.MethodName)) ∈ lw_all := lw_g (lw_at lw_m4 135 rfl) rfl
theorem q968 : (Jvm.Cond.sameMethod "NextLoad$Planned" "NextLoad$Looker" "now" "(LNextLoad$Standing;I)J") ∈ lw_all := lw_g (lw_at lw_m4 139 rfl) rfl
theorem q970 : (Jvm.Cond.selects "NextLoad$Planned" ({ cls := "NextLoad$Planned", name := "now", desc := "(LNextLoad$Standing;I)J" } : Jvm.MethodName) ({ cls := "NextLoad$Looker", name := "now", desc := "(LNextLoad$Standing;I)J" } : Jvm.MethodName)) ∈ lw_all := lw_g (lw_at lw_m4 141 rfl) rfl
theorem q1012 : (Jvm.Cond.selects "NextLoad$Planned" ({ cls := "NextLoad$Looker", name := "ended", desc := "(III)J" } : Jvm.MethodName) ({ cls := "NextLoad$Looker", name := "ended", desc := "(III)J" } : Jvm.MethodName)) ∈ lw_all := lw_g (lw_at lw_m4 183 rfl) rfl
theorem q1046 : (Jvm.Cond.selects "NextLoad$Planned" ({ cls := "NextLoad$Looker", name := "worth", desc := "(IIIIII)J" } : Jvm.MethodName) ({ cls := "NextLoad$Planned", name := "worth", desc := "(IIIIII)J" } : Jvm.MethodName)) ∈ lw_all := lw_g (lw_at lw_m4 217 rfl) rfl
theorem q1047 : (Jvm.Cond.instanceMethod ({ cls := "NextLoad$Planned", name := "worth", desc := "(IIIIII)J" } : Jvm.MethodName)) ∈ lw_all := lw_g (lw_at lw_m4 218 rfl) rfl
theorem q1048 : (Jvm.Cond.code ({ cls := "NextLoad$Planned", name := "worth", desc := "(IIIIII)J" } : Jvm.MethodName) prog_11_method_3_code (7 : Nat) (Option.some Jvm.ClassFile.FieldType.long)) ∈ lw_all := lw_g (lw_at lw_m4 219 rfl) rfl
theorem q1049 : (Jvm.Cond.methodLink "NextLoad$Planned" (29 : Nat) ({ cls := "NextLoad$Planned", name := "ended", desc := "(III)J" } : Jvm.MethodName)) ∈ lw_all := lw_g (lw_at lw_m4 220 rfl) rfl
theorem q1050 : (Jvm.Cond.sameMethod "NextLoad$Planned" "NextLoad$Looker" "ended" "(III)J") ∈ lw_all := lw_g (lw_at lw_m4 221 rfl) rfl
theorem q1051 : (Jvm.Cond.selects "NextLoad$Planned" ({ cls := "NextLoad$Planned", name := "ended", desc := "(III)J" } : Jvm.MethodName) ({ cls := "NextLoad$Looker", name := "ended", desc := "(III)J" } : Jvm.MethodName)) ∈ lw_all := lw_g (lw_at lw_m4 222 rfl) rfl
theorem q1052 : (Jvm.Cond.fieldLink "NextLoad$Planned" (33 : Nat) "NextLoad$Result" "GOOD" "LNextLoad$Result;") ∈ lw_all := lw_g (lw_at lw_m4 223 rfl) rfl
theorem q1053 : (Jvm.Cond.methodLink "NextLoad$Planned" (39 : Nat) ({ cls := "NextLoad$Result", name := "asks", desc := "(LNextLoad$Lifter;II)I" } : Jvm.MethodName)) ∈ lw_all := lw_g (lw_at lw_m4 224 rfl) rfl
theorem q1054 : (Jvm.Cond.fieldLink "NextLoad$Planned" (43 : Nat) "NextLoad$Result" "FAILED" "LNextLoad$Result;") ∈ lw_all := lw_g (lw_at lw_m4 225 rfl) rfl
theorem q1055 : (Jvm.Cond.methodLink "NextLoad$Planned" (46 : Nat) ({ cls := "NextLoad$Planned", name := "tried", desc := "(IIIIIIII)J" } : Jvm.MethodName)) ∈ lw_all := lw_g (lw_at lw_m4 226 rfl) rfl
theorem q1056 : (Jvm.Cond.sameMethod "NextLoad$Planned" "NextLoad$Looker" "tried" "(IIIIIIII)J") ∈ lw_all := lw_g (lw_at lw_m4 227 rfl) rfl
theorem q1057 : (Jvm.Cond.selects "NextLoad$Planned" ({ cls := "NextLoad$Planned", name := "tried", desc := "(IIIIIIII)J" } : Jvm.MethodName) ({ cls := "NextLoad$Looker", name := "tried", desc := "(IIIIIIII)J" } : Jvm.MethodName)) ∈ lw_all := lw_g (lw_at lw_m4 228 rfl) rfl
theorem q1063 : (Jvm.Cond.selects "NextLoad$Planned" ({ cls := "NextLoad$Looker", name := "begun", desc := "(II)J" } : Jvm.MethodName) ({ cls := "NextLoad$Planned", name := "begun", desc := "(II)J" } : Jvm.MethodName)) ∈ lw_all := lw_g (lw_at lw_m4 234 rfl) rfl
theorem q1064 : (Jvm.Cond.instanceMethod ({ cls := "NextLoad$Planned", name := "begun", desc := "(II)J" } : Jvm.MethodName)) ∈ lw_all := lw_g (lw_at lw_m4 235 rfl) rfl
theorem q1065 : (Jvm.Cond.code ({ cls := "NextLoad$Planned", name := "begun", desc := "(II)J" } : Jvm.MethodName) prog_11_method_2_code (3 : Nat) (Option.some Jvm.ClassFile.FieldType.long)) ∈ lw_all := lw_g (lw_at lw_m4 236 rfl) rfl
theorem q1066 : (Jvm.Cond.methodLink "NextLoad$Planned" (25 : Nat) ({ cls := "NextLoad$Planned", name := "worth", desc := "(IIIIII)J" } : Jvm.MethodName)) ∈ lw_all := lw_g (lw_at lw_m4 237 rfl) rfl
theorem q1927 : (Jvm.Cond.selects "NextLoad$Planned" ({ cls := "NextLoad$Planned", name := "worth", desc := "(IIIIII)J" } : Jvm.MethodName) ({ cls := "NextLoad$Planned", name := "worth", desc := "(IIIIII)J" } : Jvm.MethodName)) ∈ lw_all := lw_g (lw_at lw_m8 138 rfl) rfl
theorem q1936 : (Jvm.Cond.castable "NextLoad$Planned" "java/lang/Object") ∈ lw_tbl := lw_at lw_m8 147 rfl
theorem in_X5 : ∀ w ∈ wsX50, w ∈ lw_all := lw_in wsX50 [283, 285, 287, 281] (by decide +kernel) (by decide +kernel)

/-! NextLoad$Free -/
set_option maxRecDepth 100000
def RX6 : String := "NextLoad$Free"
def TX6 : u_T := fun k => match k with
  | 0 => ("NextLoad$Looker", "lifter", "LNextLoad$Lifter;", false)
  | 1 => ("NextLoad$Looker", "aim", "LNextLoad$Aim;", false)
  | 2 => ("NextLoad$Looker", "this$0", "LNextLoad;", true)
  | 3 => ("NextLoad$Free", "begun", "[J", true)
  | 4 => ("NextLoad$Free", "isBegun", "[Z", true)
  | 5 => ("NextLoad$Free", "worth", "[[J", true)
  | 6 => ("NextLoad$Free", "load", "[[I", true)
  | 7 => ("NextLoad$Free", "stands", "[[I", true)
  | 8 => ("NextLoad$Free", "looked", "I", false)
  | _ => ("NextLoad$Free", "this$0", "LNextLoad;", true)
def tyX6 : Nat → FieldType := fun k => match k with
  | 0 => .object "NextLoad$Lifter"
  | 1 => .object "NextLoad$Aim"
  | 2 => .object "NextLoad"
  | 3 => .array .long
  | 4 => .array .boolean
  | 5 => .array (.array .long)
  | 6 => .array (.array .int)
  | 7 => .array (.array .int)
  | 8 => .int
  | _ => .object "NextLoad"
abbrev wsX60 : List Cond := u_ws RX6 TX6 10
-- two fields of one name: no nmX6
theorem tyX6_ok : ∀ k, k < 10 → parseFieldDescriptor (TX6 k).2.2.1 = some (tyX6 k) := by decide +kernel
abbrev cX6_init : ByteArray := prog_6_method_1_code
def yX6_init : MethodName := ⟨RX6, "<init>", "(LNextLoad;)V"⟩
def dkwX6_init_2 : List UInt8 := [197, 0, 28, 2, 181, 0, 30, 42, 6, 17, 60, 138, 197, 0, 28, 2, 181, 0, 33, 177]
abbrev dktX6_init_2 : List UInt8 := dkwX6_init_2 ++ []
def dkwX6_init_1 : List UInt8 := [188, 4, 181, 0, 19, 42, 6, 17, 60, 138, 197, 0, 23, 2, 181, 0, 25, 42, 6, 17, 60, 138]
abbrev dktX6_init_1 : List UInt8 := dkwX6_init_1 ++ dktX6_init_2
def dkwX6_init_0 : List UInt8 := [42, 43, 181, 0, 5, 42, 43, 183, 0, 9, 42, 17, 1, 107, 188, 11, 181, 0, 15, 42, 17, 1, 107]
abbrev dktX6_init_0 : List UInt8 := dkwX6_init_0 ++ dktX6_init_1
theorem dksX6_init_0 : cX6_init.data.toList.drop 0 = dktX6_init_0 := by decide +kernel
theorem dksX6_init_1 : cX6_init.data.toList.drop 23 = dktX6_init_1 := dk_seg dksX6_init_0 23 rfl rfl
theorem dksX6_init_2 : cX6_init.data.toList.drop 45 = dktX6_init_2 := dk_seg dksX6_init_1 22 rfl rfl
theorem dX6_init_0 : decode cX6_init 0 = .ok (.aload_n 0, 1) := dk_42 (dk_at dksX6_init_0 0 rfl rfl)
theorem dX6_init_1 : decode cX6_init 1 = .ok (.aload_n 1, 1) := dk_43 (dk_at dksX6_init_0 1 rfl rfl)
theorem dX6_init_2 : decode cX6_init 2 = .ok (.putfield 5, 3) := dk_181 0 5 (dk_at dksX6_init_0 2 rfl rfl)
theorem dX6_init_5 : decode cX6_init 5 = .ok (.aload_n 0, 1) := dk_42 (dk_at dksX6_init_0 5 rfl rfl)
theorem dX6_init_6 : decode cX6_init 6 = .ok (.aload_n 1, 1) := dk_43 (dk_at dksX6_init_0 6 rfl rfl)
theorem dX6_init_7 : decode cX6_init 7 = .ok (.invokespecial 9, 3) := dk_183 0 9 (dk_at dksX6_init_0 7 rfl rfl)
theorem dX6_init_10 : decode cX6_init 10 = .ok (.aload_n 0, 1) := dk_42 (dk_at dksX6_init_0 10 rfl rfl)
theorem dX6_init_11 : decode cX6_init 11 = .ok (.sipush 363, 3) := dk_17 1 107 (dk_at dksX6_init_0 11 rfl rfl)
theorem dX6_init_14 : decode cX6_init 14 = .ok (.newarray .long, 2) := dk_188_11 (dk_at dksX6_init_0 14 rfl rfl)
theorem dX6_init_16 : decode cX6_init 16 = .ok (.putfield 15, 3) := dk_181 0 15 (dk_at dksX6_init_0 16 rfl rfl)
theorem dX6_init_19 : decode cX6_init 19 = .ok (.aload_n 0, 1) := dk_42 (dk_at dksX6_init_0 19 rfl rfl)
theorem dX6_init_20 : decode cX6_init 20 = .ok (.sipush 363, 3) := dk_17 1 107 (dk_at dksX6_init_0 20 rfl rfl)
theorem dX6_init_23 : decode cX6_init 23 = .ok (.newarray .boolean, 2) := dk_188_4 (dk_at dksX6_init_1 0 rfl rfl)
theorem dX6_init_25 : decode cX6_init 25 = .ok (.putfield 19, 3) := dk_181 0 19 (dk_at dksX6_init_1 2 rfl rfl)
theorem dX6_init_28 : decode cX6_init 28 = .ok (.aload_n 0, 1) := dk_42 (dk_at dksX6_init_1 5 rfl rfl)
theorem dX6_init_29 : decode cX6_init 29 = .ok (.iconst 3, 1) := dk_6 (dk_at dksX6_init_1 6 rfl rfl)
theorem dX6_init_30 : decode cX6_init 30 = .ok (.sipush 15498, 3) := dk_17 60 138 (dk_at dksX6_init_1 7 rfl rfl)
theorem dX6_init_33 : decode cX6_init 33 = .ok (.multianewarray 23 2, 4) := by decide +kernel
theorem dX6_init_37 : decode cX6_init 37 = .ok (.putfield 25, 3) := dk_181 0 25 (dk_at dksX6_init_1 14 rfl rfl)
theorem dX6_init_40 : decode cX6_init 40 = .ok (.aload_n 0, 1) := dk_42 (dk_at dksX6_init_1 17 rfl rfl)
theorem dX6_init_41 : decode cX6_init 41 = .ok (.iconst 3, 1) := dk_6 (dk_at dksX6_init_1 18 rfl rfl)
theorem dX6_init_42 : decode cX6_init 42 = .ok (.sipush 15498, 3) := dk_17 60 138 (dk_at dksX6_init_1 19 rfl rfl)
theorem dX6_init_45 : decode cX6_init 45 = .ok (.multianewarray 28 2, 4) := by decide +kernel
theorem dX6_init_49 : decode cX6_init 49 = .ok (.putfield 30, 3) := dk_181 0 30 (dk_at dksX6_init_2 4 rfl rfl)
theorem dX6_init_52 : decode cX6_init 52 = .ok (.aload_n 0, 1) := dk_42 (dk_at dksX6_init_2 7 rfl rfl)
theorem dX6_init_53 : decode cX6_init 53 = .ok (.iconst 3, 1) := dk_6 (dk_at dksX6_init_2 8 rfl rfl)
theorem dX6_init_54 : decode cX6_init 54 = .ok (.sipush 15498, 3) := dk_17 60 138 (dk_at dksX6_init_2 9 rfl rfl)
theorem dX6_init_57 : decode cX6_init 57 = .ok (.multianewarray 28 2, 4) := by decide +kernel
theorem dX6_init_61 : decode cX6_init 61 = .ok (.putfield 33, 3) := dk_181 0 33 (dk_at dksX6_init_2 16 rfl rfl)
theorem dX6_init_64 : decode cX6_init 64 = .ok (.return_, 1) := dk_177 (dk_at dksX6_init_2 19 rfl rfl)
abbrev cX6_begun : ByteArray := prog_6_method_3_code
def yX6_begun : MethodName := ⟨RX6, "begun", "(II)J"⟩
def dkwX6_begun_1 : List UInt8 := [3, 3, 3, 4, 182, 0, 44, 80, 42, 180, 0, 19, 29, 4, 84, 42, 180, 0, 15, 29, 47, 173]
abbrev dktX6_begun_1 : List UInt8 := dkwX6_begun_1 ++ []
def dkwX6_begun_0 : List UInt8 := [16, 121, 27, 104, 28, 96, 62, 42, 180, 0, 19, 29, 51, 154, 0, 26, 42, 180, 0, 15, 29, 42, 27, 28]
abbrev dktX6_begun_0 : List UInt8 := dkwX6_begun_0 ++ dktX6_begun_1
theorem dksX6_begun_0 : cX6_begun.data.toList.drop 0 = dktX6_begun_0 := by decide +kernel
theorem dksX6_begun_1 : cX6_begun.data.toList.drop 24 = dktX6_begun_1 := dk_seg dksX6_begun_0 24 rfl rfl
theorem dX6_begun_0 : decode cX6_begun 0 = .ok (.bipush 121, 2) := dk_16 121 (dk_at dksX6_begun_0 0 rfl rfl)
theorem dX6_begun_2 : decode cX6_begun 2 = .ok (.iload_n 1, 1) := dk_27 (dk_at dksX6_begun_0 2 rfl rfl)
theorem dX6_begun_3 : decode cX6_begun 3 = .ok (.imul, 1) := dk_104 (dk_at dksX6_begun_0 3 rfl rfl)
theorem dX6_begun_4 : decode cX6_begun 4 = .ok (.iload_n 2, 1) := dk_28 (dk_at dksX6_begun_0 4 rfl rfl)
theorem dX6_begun_5 : decode cX6_begun 5 = .ok (.iadd, 1) := dk_96 (dk_at dksX6_begun_0 5 rfl rfl)
theorem dX6_begun_6 : decode cX6_begun 6 = .ok (.istore_n 3, 1) := dk_62 (dk_at dksX6_begun_0 6 rfl rfl)
theorem dX6_begun_7 : decode cX6_begun 7 = .ok (.aload_n 0, 1) := dk_42 (dk_at dksX6_begun_0 7 rfl rfl)
theorem dX6_begun_8 : decode cX6_begun 8 = .ok (.getfield 19, 3) := dk_180 0 19 (dk_at dksX6_begun_0 8 rfl rfl)
theorem dX6_begun_11 : decode cX6_begun 11 = .ok (.iload_n 3, 1) := dk_29 (dk_at dksX6_begun_0 11 rfl rfl)
theorem dX6_begun_12 : decode cX6_begun 12 = .ok (.baload, 1) := dk_51 (dk_at dksX6_begun_0 12 rfl rfl)
theorem dX6_begun_13 : decode cX6_begun 13 = .ok (.ifCond .ne 26, 3) := dk_154 0 26 (dk_at dksX6_begun_0 13 rfl rfl)
theorem dX6_begun_16 : decode cX6_begun 16 = .ok (.aload_n 0, 1) := dk_42 (dk_at dksX6_begun_0 16 rfl rfl)
theorem dX6_begun_17 : decode cX6_begun 17 = .ok (.getfield 15, 3) := dk_180 0 15 (dk_at dksX6_begun_0 17 rfl rfl)
theorem dX6_begun_20 : decode cX6_begun 20 = .ok (.iload_n 3, 1) := dk_29 (dk_at dksX6_begun_0 20 rfl rfl)
theorem dX6_begun_21 : decode cX6_begun 21 = .ok (.aload_n 0, 1) := dk_42 (dk_at dksX6_begun_0 21 rfl rfl)
theorem dX6_begun_22 : decode cX6_begun 22 = .ok (.iload_n 1, 1) := dk_27 (dk_at dksX6_begun_0 22 rfl rfl)
theorem dX6_begun_23 : decode cX6_begun 23 = .ok (.iload_n 2, 1) := dk_28 (dk_at dksX6_begun_0 23 rfl rfl)
theorem dX6_begun_24 : decode cX6_begun 24 = .ok (.iconst 0, 1) := dk_3 (dk_at dksX6_begun_1 0 rfl rfl)
theorem dX6_begun_25 : decode cX6_begun 25 = .ok (.iconst 0, 1) := dk_3 (dk_at dksX6_begun_1 1 rfl rfl)
theorem dX6_begun_26 : decode cX6_begun 26 = .ok (.iconst 0, 1) := dk_3 (dk_at dksX6_begun_1 2 rfl rfl)
theorem dX6_begun_27 : decode cX6_begun 27 = .ok (.iconst 1, 1) := dk_4 (dk_at dksX6_begun_1 3 rfl rfl)
theorem dX6_begun_28 : decode cX6_begun 28 = .ok (.invokevirtual 44, 3) := dk_182 0 44 (dk_at dksX6_begun_1 4 rfl rfl)
theorem dX6_begun_31 : decode cX6_begun 31 = .ok (.lastore, 1) := dk_80 (dk_at dksX6_begun_1 7 rfl rfl)
theorem dX6_begun_32 : decode cX6_begun 32 = .ok (.aload_n 0, 1) := dk_42 (dk_at dksX6_begun_1 8 rfl rfl)
theorem dX6_begun_33 : decode cX6_begun 33 = .ok (.getfield 19, 3) := dk_180 0 19 (dk_at dksX6_begun_1 9 rfl rfl)
theorem dX6_begun_36 : decode cX6_begun 36 = .ok (.iload_n 3, 1) := dk_29 (dk_at dksX6_begun_1 12 rfl rfl)
theorem dX6_begun_37 : decode cX6_begun 37 = .ok (.iconst 1, 1) := dk_4 (dk_at dksX6_begun_1 13 rfl rfl)
theorem dX6_begun_38 : decode cX6_begun 38 = .ok (.bastore, 1) := dk_84 (dk_at dksX6_begun_1 14 rfl rfl)
theorem dX6_begun_39 : decode cX6_begun 39 = .ok (.aload_n 0, 1) := dk_42 (dk_at dksX6_begun_1 15 rfl rfl)
theorem dX6_begun_40 : decode cX6_begun 40 = .ok (.getfield 15, 3) := dk_180 0 15 (dk_at dksX6_begun_1 16 rfl rfl)
theorem dX6_begun_43 : decode cX6_begun 43 = .ok (.iload_n 3, 1) := dk_29 (dk_at dksX6_begun_1 19 rfl rfl)
theorem dX6_begun_44 : decode cX6_begun 44 = .ok (.laload, 1) := dk_47 (dk_at dksX6_begun_1 20 rfl rfl)
theorem dX6_begun_45 : decode cX6_begun 45 = .ok (.lreturn, 1) := dk_173 (dk_at dksX6_begun_1 21 rfl rfl)
abbrev cX6_worth : ByteArray := prog_6_method_5_code
def yX6_worth : MethodName := ⟨RX6, "worth", "(IIIIII)J"⟩
def dkwX6_worth_7 : List UInt8 := [180, 0, 30, 27, 50, 21, 7, 21, 10, 79, 22, 8, 173]
abbrev dktX6_worth_7 : List UInt8 := dkwX6_worth_7 ++ []
def dkwX6_worth_6 : List UInt8 := [27, 50, 21, 7, 42, 180, 0, 40, 28, 96, 79, 42, 180, 0, 25, 27, 50, 21, 7, 22, 8, 80, 42]
abbrev dktX6_worth_6 : List UInt8 := dkwX6_worth_6 ++ dktX6_worth_7
def dkwX6_worth_5 : List UInt8 := [157, 0, 6, 167, 0, 11, 22, 12, 55, 8, 21, 11, 54, 10, 132, 11, 1, 167, 255, 196, 42, 180, 0, 33]
abbrev dktX6_worth_5 : List UInt8 := dkwX6_worth_5 ++ dktX6_worth_6
def dkwX6_worth_4 : List UInt8 := [21, 11, 182, 0, 63, 178, 0, 67, 21, 11, 182, 0, 63, 182, 0, 70, 55, 12, 22, 12, 22, 8, 148]
abbrev dktX6_worth_4 : List UInt8 := dkwX6_worth_4 ++ dktX6_worth_5
def dkwX6_worth_3 : List UInt8 := [21, 6, 54, 11, 21, 11, 16, 40, 163, 0, 59, 42, 27, 28, 29, 21, 4, 21, 5, 21, 11, 178, 0, 57]
abbrev dktX6_worth_3 : List UInt8 := dkwX6_worth_3 ++ dktX6_worth_4
def dkwX6_worth_2 : List UInt8 := [28, 96, 160, 0, 13, 42, 180, 0, 25, 27, 50, 21, 7, 47, 173, 20, 0, 55, 55, 8, 3, 54, 10]
abbrev dktX6_worth_2 : List UInt8 := dkwX6_worth_2 ++ dktX6_worth_3
def dkwX6_worth_1 : List UInt8 := [21, 4, 21, 5, 21, 6, 182, 0, 51, 54, 7, 42, 180, 0, 33, 27, 50, 21, 7, 46, 42, 180, 0, 40]
abbrev dktX6_worth_1 : List UInt8 := dkwX6_worth_1 ++ dktX6_worth_2
def dkwX6_worth_0 : List UInt8 := [29, 6, 159, 0, 10, 21, 6, 16, 40, 164, 0, 12, 42, 27, 21, 5, 28, 182, 0, 47, 173, 42, 29]
abbrev dktX6_worth_0 : List UInt8 := dkwX6_worth_0 ++ dktX6_worth_1
theorem dksX6_worth_0 : cX6_worth.data.toList.drop 0 = dktX6_worth_0 := by decide +kernel
theorem dksX6_worth_1 : cX6_worth.data.toList.drop 23 = dktX6_worth_1 := dk_seg dksX6_worth_0 23 rfl rfl
theorem dksX6_worth_2 : cX6_worth.data.toList.drop 47 = dktX6_worth_2 := dk_seg dksX6_worth_1 24 rfl rfl
theorem dksX6_worth_3 : cX6_worth.data.toList.drop 70 = dktX6_worth_3 := dk_seg dksX6_worth_2 23 rfl rfl
theorem dksX6_worth_4 : cX6_worth.data.toList.drop 94 = dktX6_worth_4 := dk_seg dksX6_worth_3 24 rfl rfl
theorem dksX6_worth_5 : cX6_worth.data.toList.drop 117 = dktX6_worth_5 := dk_seg dksX6_worth_4 23 rfl rfl
theorem dksX6_worth_6 : cX6_worth.data.toList.drop 141 = dktX6_worth_6 := dk_seg dksX6_worth_5 24 rfl rfl
theorem dksX6_worth_7 : cX6_worth.data.toList.drop 164 = dktX6_worth_7 := dk_seg dksX6_worth_6 23 rfl rfl
theorem dX6_worth_0 : decode cX6_worth 0 = .ok (.iload_n 3, 1) := dk_29 (dk_at dksX6_worth_0 0 rfl rfl)
theorem dX6_worth_1 : decode cX6_worth 1 = .ok (.iconst 3, 1) := dk_6 (dk_at dksX6_worth_0 1 rfl rfl)
theorem dX6_worth_2 : decode cX6_worth 2 = .ok (.if_icmp .eq 10, 3) := dk_159 0 10 (dk_at dksX6_worth_0 2 rfl rfl)
theorem dX6_worth_5 : decode cX6_worth 5 = .ok (.iload 6, 2) := dk_21 6 (dk_at dksX6_worth_0 5 rfl rfl)
theorem dX6_worth_7 : decode cX6_worth 7 = .ok (.bipush 40, 2) := dk_16 40 (dk_at dksX6_worth_0 7 rfl rfl)
theorem dX6_worth_9 : decode cX6_worth 9 = .ok (.if_icmp .le 12, 3) := dk_164 0 12 (dk_at dksX6_worth_0 9 rfl rfl)
theorem dX6_worth_12 : decode cX6_worth 12 = .ok (.aload_n 0, 1) := dk_42 (dk_at dksX6_worth_0 12 rfl rfl)
theorem dX6_worth_13 : decode cX6_worth 13 = .ok (.iload_n 1, 1) := dk_27 (dk_at dksX6_worth_0 13 rfl rfl)
theorem dX6_worth_14 : decode cX6_worth 14 = .ok (.iload 5, 2) := dk_21 5 (dk_at dksX6_worth_0 14 rfl rfl)
theorem dX6_worth_16 : decode cX6_worth 16 = .ok (.iload_n 2, 1) := dk_28 (dk_at dksX6_worth_0 16 rfl rfl)
theorem dX6_worth_17 : decode cX6_worth 17 = .ok (.invokevirtual 47, 3) := dk_182 0 47 (dk_at dksX6_worth_0 17 rfl rfl)
theorem dX6_worth_20 : decode cX6_worth 20 = .ok (.lreturn, 1) := dk_173 (dk_at dksX6_worth_0 20 rfl rfl)
theorem dX6_worth_21 : decode cX6_worth 21 = .ok (.aload_n 0, 1) := dk_42 (dk_at dksX6_worth_0 21 rfl rfl)
theorem dX6_worth_22 : decode cX6_worth 22 = .ok (.iload_n 3, 1) := dk_29 (dk_at dksX6_worth_0 22 rfl rfl)
theorem dX6_worth_23 : decode cX6_worth 23 = .ok (.iload 4, 2) := dk_21 4 (dk_at dksX6_worth_1 0 rfl rfl)
theorem dX6_worth_25 : decode cX6_worth 25 = .ok (.iload 5, 2) := dk_21 5 (dk_at dksX6_worth_1 2 rfl rfl)
theorem dX6_worth_27 : decode cX6_worth 27 = .ok (.iload 6, 2) := dk_21 6 (dk_at dksX6_worth_1 4 rfl rfl)
theorem dX6_worth_29 : decode cX6_worth 29 = .ok (.invokevirtual 51, 3) := dk_182 0 51 (dk_at dksX6_worth_1 6 rfl rfl)
theorem dX6_worth_32 : decode cX6_worth 32 = .ok (.istore 7, 2) := dk_54 7 (dk_at dksX6_worth_1 9 rfl rfl)
theorem dX6_worth_34 : decode cX6_worth 34 = .ok (.aload_n 0, 1) := dk_42 (dk_at dksX6_worth_1 11 rfl rfl)
theorem dX6_worth_35 : decode cX6_worth 35 = .ok (.getfield 33, 3) := dk_180 0 33 (dk_at dksX6_worth_1 12 rfl rfl)
theorem dX6_worth_38 : decode cX6_worth 38 = .ok (.iload_n 1, 1) := dk_27 (dk_at dksX6_worth_1 15 rfl rfl)
theorem dX6_worth_39 : decode cX6_worth 39 = .ok (.aaload, 1) := dk_50 (dk_at dksX6_worth_1 16 rfl rfl)
theorem dX6_worth_40 : decode cX6_worth 40 = .ok (.iload 7, 2) := dk_21 7 (dk_at dksX6_worth_1 17 rfl rfl)
theorem dX6_worth_42 : decode cX6_worth 42 = .ok (.iaload, 1) := dk_46 (dk_at dksX6_worth_1 19 rfl rfl)
theorem dX6_worth_43 : decode cX6_worth 43 = .ok (.aload_n 0, 1) := dk_42 (dk_at dksX6_worth_1 20 rfl rfl)
theorem dX6_worth_44 : decode cX6_worth 44 = .ok (.getfield 40, 3) := dk_180 0 40 (dk_at dksX6_worth_1 21 rfl rfl)
theorem dX6_worth_47 : decode cX6_worth 47 = .ok (.iload_n 2, 1) := dk_28 (dk_at dksX6_worth_2 0 rfl rfl)
theorem dX6_worth_48 : decode cX6_worth 48 = .ok (.iadd, 1) := dk_96 (dk_at dksX6_worth_2 1 rfl rfl)
theorem dX6_worth_49 : decode cX6_worth 49 = .ok (.if_icmp .ne 13, 3) := dk_160 0 13 (dk_at dksX6_worth_2 2 rfl rfl)
theorem dX6_worth_52 : decode cX6_worth 52 = .ok (.aload_n 0, 1) := dk_42 (dk_at dksX6_worth_2 5 rfl rfl)
theorem dX6_worth_53 : decode cX6_worth 53 = .ok (.getfield 25, 3) := dk_180 0 25 (dk_at dksX6_worth_2 6 rfl rfl)
theorem dX6_worth_56 : decode cX6_worth 56 = .ok (.iload_n 1, 1) := dk_27 (dk_at dksX6_worth_2 9 rfl rfl)
theorem dX6_worth_57 : decode cX6_worth 57 = .ok (.aaload, 1) := dk_50 (dk_at dksX6_worth_2 10 rfl rfl)
theorem dX6_worth_58 : decode cX6_worth 58 = .ok (.iload 7, 2) := dk_21 7 (dk_at dksX6_worth_2 11 rfl rfl)
theorem dX6_worth_60 : decode cX6_worth 60 = .ok (.laload, 1) := dk_47 (dk_at dksX6_worth_2 13 rfl rfl)
theorem dX6_worth_61 : decode cX6_worth 61 = .ok (.lreturn, 1) := dk_173 (dk_at dksX6_worth_2 14 rfl rfl)
theorem dX6_worth_62 : decode cX6_worth 62 = .ok (.ldc2_w 55, 3) := dk_20 0 55 (dk_at dksX6_worth_2 15 rfl rfl)
theorem dX6_worth_65 : decode cX6_worth 65 = .ok (.lstore 8, 2) := dk_55 8 (dk_at dksX6_worth_2 18 rfl rfl)
theorem dX6_worth_67 : decode cX6_worth 67 = .ok (.iconst 0, 1) := dk_3 (dk_at dksX6_worth_2 20 rfl rfl)
theorem dX6_worth_68 : decode cX6_worth 68 = .ok (.istore 10, 2) := dk_54 10 (dk_at dksX6_worth_2 21 rfl rfl)
theorem dX6_worth_70 : decode cX6_worth 70 = .ok (.iload 6, 2) := dk_21 6 (dk_at dksX6_worth_3 0 rfl rfl)
theorem dX6_worth_72 : decode cX6_worth 72 = .ok (.istore 11, 2) := dk_54 11 (dk_at dksX6_worth_3 2 rfl rfl)
theorem dX6_worth_74 : decode cX6_worth 74 = .ok (.iload 11, 2) := dk_21 11 (dk_at dksX6_worth_3 4 rfl rfl)
theorem dX6_worth_76 : decode cX6_worth 76 = .ok (.bipush 40, 2) := dk_16 40 (dk_at dksX6_worth_3 6 rfl rfl)
theorem dX6_worth_78 : decode cX6_worth 78 = .ok (.if_icmp .gt 59, 3) := dk_163 0 59 (dk_at dksX6_worth_3 8 rfl rfl)
theorem dX6_worth_81 : decode cX6_worth 81 = .ok (.aload_n 0, 1) := dk_42 (dk_at dksX6_worth_3 11 rfl rfl)
theorem dX6_worth_82 : decode cX6_worth 82 = .ok (.iload_n 1, 1) := dk_27 (dk_at dksX6_worth_3 12 rfl rfl)
theorem dX6_worth_83 : decode cX6_worth 83 = .ok (.iload_n 2, 1) := dk_28 (dk_at dksX6_worth_3 13 rfl rfl)
theorem dX6_worth_84 : decode cX6_worth 84 = .ok (.iload_n 3, 1) := dk_29 (dk_at dksX6_worth_3 14 rfl rfl)
theorem dX6_worth_85 : decode cX6_worth 85 = .ok (.iload 4, 2) := dk_21 4 (dk_at dksX6_worth_3 15 rfl rfl)
theorem dX6_worth_87 : decode cX6_worth 87 = .ok (.iload 5, 2) := dk_21 5 (dk_at dksX6_worth_3 17 rfl rfl)
theorem dX6_worth_89 : decode cX6_worth 89 = .ok (.iload 11, 2) := dk_21 11 (dk_at dksX6_worth_3 19 rfl rfl)
theorem dX6_worth_91 : decode cX6_worth 91 = .ok (.getstatic 57, 3) := dk_178 0 57 (dk_at dksX6_worth_3 21 rfl rfl)
theorem dX6_worth_94 : decode cX6_worth 94 = .ok (.iload 11, 2) := dk_21 11 (dk_at dksX6_worth_4 0 rfl rfl)
theorem dX6_worth_96 : decode cX6_worth 96 = .ok (.invokevirtual 63, 3) := dk_182 0 63 (dk_at dksX6_worth_4 2 rfl rfl)
theorem dX6_worth_99 : decode cX6_worth 99 = .ok (.getstatic 67, 3) := dk_178 0 67 (dk_at dksX6_worth_4 5 rfl rfl)
theorem dX6_worth_102 : decode cX6_worth 102 = .ok (.iload 11, 2) := dk_21 11 (dk_at dksX6_worth_4 8 rfl rfl)
theorem dX6_worth_104 : decode cX6_worth 104 = .ok (.invokevirtual 63, 3) := dk_182 0 63 (dk_at dksX6_worth_4 10 rfl rfl)
theorem dX6_worth_107 : decode cX6_worth 107 = .ok (.invokevirtual 70, 3) := dk_182 0 70 (dk_at dksX6_worth_4 13 rfl rfl)
theorem dX6_worth_110 : decode cX6_worth 110 = .ok (.lstore 12, 2) := dk_55 12 (dk_at dksX6_worth_4 16 rfl rfl)
theorem dX6_worth_112 : decode cX6_worth 112 = .ok (.lload 12, 2) := dk_22 12 (dk_at dksX6_worth_4 18 rfl rfl)
theorem dX6_worth_114 : decode cX6_worth 114 = .ok (.lload 8, 2) := dk_22 8 (dk_at dksX6_worth_4 20 rfl rfl)
theorem dX6_worth_116 : decode cX6_worth 116 = .ok (.lcmp, 1) := dk_148 (dk_at dksX6_worth_4 22 rfl rfl)
theorem dX6_worth_117 : decode cX6_worth 117 = .ok (.ifCond .gt 6, 3) := dk_157 0 6 (dk_at dksX6_worth_5 0 rfl rfl)
theorem dX6_worth_120 : decode cX6_worth 120 = .ok (.goto 11, 3) := dk_167 0 11 (dk_at dksX6_worth_5 3 rfl rfl)
theorem dX6_worth_123 : decode cX6_worth 123 = .ok (.lload 12, 2) := dk_22 12 (dk_at dksX6_worth_5 6 rfl rfl)
theorem dX6_worth_125 : decode cX6_worth 125 = .ok (.lstore 8, 2) := dk_55 8 (dk_at dksX6_worth_5 8 rfl rfl)
theorem dX6_worth_127 : decode cX6_worth 127 = .ok (.iload 11, 2) := dk_21 11 (dk_at dksX6_worth_5 10 rfl rfl)
theorem dX6_worth_129 : decode cX6_worth 129 = .ok (.istore 10, 2) := dk_54 10 (dk_at dksX6_worth_5 12 rfl rfl)
theorem dX6_worth_131 : decode cX6_worth 131 = .ok (.iinc 11 1, 3) := dk_132 11 1 (dk_at dksX6_worth_5 14 rfl rfl)
theorem dX6_worth_134 : decode cX6_worth 134 = .ok (.goto (-60), 3) := dk_167 255 196 (dk_at dksX6_worth_5 17 rfl rfl)
theorem dX6_worth_137 : decode cX6_worth 137 = .ok (.aload_n 0, 1) := dk_42 (dk_at dksX6_worth_5 20 rfl rfl)
theorem dX6_worth_138 : decode cX6_worth 138 = .ok (.getfield 33, 3) := dk_180 0 33 (dk_at dksX6_worth_5 21 rfl rfl)
theorem dX6_worth_141 : decode cX6_worth 141 = .ok (.iload_n 1, 1) := dk_27 (dk_at dksX6_worth_6 0 rfl rfl)
theorem dX6_worth_142 : decode cX6_worth 142 = .ok (.aaload, 1) := dk_50 (dk_at dksX6_worth_6 1 rfl rfl)
theorem dX6_worth_143 : decode cX6_worth 143 = .ok (.iload 7, 2) := dk_21 7 (dk_at dksX6_worth_6 2 rfl rfl)
theorem dX6_worth_145 : decode cX6_worth 145 = .ok (.aload_n 0, 1) := dk_42 (dk_at dksX6_worth_6 4 rfl rfl)
theorem dX6_worth_146 : decode cX6_worth 146 = .ok (.getfield 40, 3) := dk_180 0 40 (dk_at dksX6_worth_6 5 rfl rfl)
theorem dX6_worth_149 : decode cX6_worth 149 = .ok (.iload_n 2, 1) := dk_28 (dk_at dksX6_worth_6 8 rfl rfl)
theorem dX6_worth_150 : decode cX6_worth 150 = .ok (.iadd, 1) := dk_96 (dk_at dksX6_worth_6 9 rfl rfl)
theorem dX6_worth_151 : decode cX6_worth 151 = .ok (.iastore, 1) := dk_79 (dk_at dksX6_worth_6 10 rfl rfl)
theorem dX6_worth_152 : decode cX6_worth 152 = .ok (.aload_n 0, 1) := dk_42 (dk_at dksX6_worth_6 11 rfl rfl)
theorem dX6_worth_153 : decode cX6_worth 153 = .ok (.getfield 25, 3) := dk_180 0 25 (dk_at dksX6_worth_6 12 rfl rfl)
theorem dX6_worth_156 : decode cX6_worth 156 = .ok (.iload_n 1, 1) := dk_27 (dk_at dksX6_worth_6 15 rfl rfl)
theorem dX6_worth_157 : decode cX6_worth 157 = .ok (.aaload, 1) := dk_50 (dk_at dksX6_worth_6 16 rfl rfl)
theorem dX6_worth_158 : decode cX6_worth 158 = .ok (.iload 7, 2) := dk_21 7 (dk_at dksX6_worth_6 17 rfl rfl)
theorem dX6_worth_160 : decode cX6_worth 160 = .ok (.lload 8, 2) := dk_22 8 (dk_at dksX6_worth_6 19 rfl rfl)
theorem dX6_worth_162 : decode cX6_worth 162 = .ok (.lastore, 1) := dk_80 (dk_at dksX6_worth_6 21 rfl rfl)
theorem dX6_worth_163 : decode cX6_worth 163 = .ok (.aload_n 0, 1) := dk_42 (dk_at dksX6_worth_6 22 rfl rfl)
theorem dX6_worth_164 : decode cX6_worth 164 = .ok (.getfield 30, 3) := dk_180 0 30 (dk_at dksX6_worth_7 0 rfl rfl)
theorem dX6_worth_167 : decode cX6_worth 167 = .ok (.iload_n 1, 1) := dk_27 (dk_at dksX6_worth_7 3 rfl rfl)
theorem dX6_worth_168 : decode cX6_worth 168 = .ok (.aaload, 1) := dk_50 (dk_at dksX6_worth_7 4 rfl rfl)
theorem dX6_worth_169 : decode cX6_worth 169 = .ok (.iload 7, 2) := dk_21 7 (dk_at dksX6_worth_7 5 rfl rfl)
theorem dX6_worth_171 : decode cX6_worth 171 = .ok (.iload 10, 2) := dk_21 10 (dk_at dksX6_worth_7 7 rfl rfl)
theorem dX6_worth_173 : decode cX6_worth 173 = .ok (.iastore, 1) := dk_79 (dk_at dksX6_worth_7 9 rfl rfl)
theorem dX6_worth_174 : decode cX6_worth 174 = .ok (.lload 8, 2) := dk_22 8 (dk_at dksX6_worth_7 10 rfl rfl)
theorem dX6_worth_176 : decode cX6_worth 176 = .ok (.lreturn, 1) := dk_173 (dk_at dksX6_worth_7 12 rfl rfl)
abbrev cX6_cell : ByteArray := prog_6_method_4_code
def yX6_cell : MethodName := ⟨RX6, "cell", "(IIII)I"⟩
def dkwX6_cell_0 : List UInt8 := [6, 27, 104, 28, 96, 16, 41, 104, 29, 96, 16, 42, 104, 21, 4, 96, 172]
abbrev dktX6_cell_0 : List UInt8 := dkwX6_cell_0 ++ []
theorem dksX6_cell_0 : cX6_cell.data.toList.drop 0 = dktX6_cell_0 := by decide +kernel
theorem dX6_cell_0 : decode cX6_cell 0 = .ok (.iconst 3, 1) := dk_6 (dk_at dksX6_cell_0 0 rfl rfl)
theorem dX6_cell_1 : decode cX6_cell 1 = .ok (.iload_n 1, 1) := dk_27 (dk_at dksX6_cell_0 1 rfl rfl)
theorem dX6_cell_2 : decode cX6_cell 2 = .ok (.imul, 1) := dk_104 (dk_at dksX6_cell_0 2 rfl rfl)
theorem dX6_cell_3 : decode cX6_cell 3 = .ok (.iload_n 2, 1) := dk_28 (dk_at dksX6_cell_0 3 rfl rfl)
theorem dX6_cell_4 : decode cX6_cell 4 = .ok (.iadd, 1) := dk_96 (dk_at dksX6_cell_0 4 rfl rfl)
theorem dX6_cell_5 : decode cX6_cell 5 = .ok (.bipush 41, 2) := dk_16 41 (dk_at dksX6_cell_0 5 rfl rfl)
theorem dX6_cell_7 : decode cX6_cell 7 = .ok (.imul, 1) := dk_104 (dk_at dksX6_cell_0 7 rfl rfl)
theorem dX6_cell_8 : decode cX6_cell 8 = .ok (.iload_n 3, 1) := dk_29 (dk_at dksX6_cell_0 8 rfl rfl)
theorem dX6_cell_9 : decode cX6_cell 9 = .ok (.iadd, 1) := dk_96 (dk_at dksX6_cell_0 9 rfl rfl)
theorem dX6_cell_10 : decode cX6_cell 10 = .ok (.bipush 42, 2) := dk_16 42 (dk_at dksX6_cell_0 10 rfl rfl)
theorem dX6_cell_12 : decode cX6_cell 12 = .ok (.imul, 1) := dk_104 (dk_at dksX6_cell_0 12 rfl rfl)
theorem dX6_cell_13 : decode cX6_cell 13 = .ok (.iload 4, 2) := dk_21 4 (dk_at dksX6_cell_0 13 rfl rfl)
theorem dX6_cell_15 : decode cX6_cell 15 = .ok (.iadd, 1) := dk_96 (dk_at dksX6_cell_0 15 rfl rfl)
theorem dX6_cell_16 : decode cX6_cell 16 = .ok (.ireturn, 1) := dk_172 (dk_at dksX6_cell_0 16 rfl rfl)
abbrev cX6_looks : ByteArray := prog_6_method_2_code
def yX6_looks : MethodName := ⟨RX6, "looks", "(LNextLoad$Lifter;LNextLoad$Aim;)V"⟩
def dkwX6_looks_1 : List UInt8 := [132, 3, 1, 167, 255, 239, 42, 89, 180, 0, 40, 16, 121, 96, 181, 0, 40, 177]
abbrev dktX6_looks_1 : List UInt8 := dkwX6_looks_1 ++ []
def dkwX6_looks_0 : List UInt8 := [42, 43, 44, 183, 0, 36, 3, 62, 29, 17, 1, 107, 162, 0, 16, 42, 180, 0, 19, 29, 3, 84]
abbrev dktX6_looks_0 : List UInt8 := dkwX6_looks_0 ++ dktX6_looks_1
theorem dksX6_looks_0 : cX6_looks.data.toList.drop 0 = dktX6_looks_0 := by decide +kernel
theorem dksX6_looks_1 : cX6_looks.data.toList.drop 22 = dktX6_looks_1 := dk_seg dksX6_looks_0 22 rfl rfl
theorem dX6_looks_0 : decode cX6_looks 0 = .ok (.aload_n 0, 1) := dk_42 (dk_at dksX6_looks_0 0 rfl rfl)
theorem dX6_looks_1 : decode cX6_looks 1 = .ok (.aload_n 1, 1) := dk_43 (dk_at dksX6_looks_0 1 rfl rfl)
theorem dX6_looks_2 : decode cX6_looks 2 = .ok (.aload_n 2, 1) := dk_44 (dk_at dksX6_looks_0 2 rfl rfl)
theorem dX6_looks_3 : decode cX6_looks 3 = .ok (.invokespecial 36, 3) := dk_183 0 36 (dk_at dksX6_looks_0 3 rfl rfl)
theorem dX6_looks_6 : decode cX6_looks 6 = .ok (.iconst 0, 1) := dk_3 (dk_at dksX6_looks_0 6 rfl rfl)
theorem dX6_looks_7 : decode cX6_looks 7 = .ok (.istore_n 3, 1) := dk_62 (dk_at dksX6_looks_0 7 rfl rfl)
theorem dX6_looks_8 : decode cX6_looks 8 = .ok (.iload_n 3, 1) := dk_29 (dk_at dksX6_looks_0 8 rfl rfl)
theorem dX6_looks_9 : decode cX6_looks 9 = .ok (.sipush 363, 3) := dk_17 1 107 (dk_at dksX6_looks_0 9 rfl rfl)
theorem dX6_looks_12 : decode cX6_looks 12 = .ok (.if_icmp .ge 16, 3) := dk_162 0 16 (dk_at dksX6_looks_0 12 rfl rfl)
theorem dX6_looks_15 : decode cX6_looks 15 = .ok (.aload_n 0, 1) := dk_42 (dk_at dksX6_looks_0 15 rfl rfl)
theorem dX6_looks_16 : decode cX6_looks 16 = .ok (.getfield 19, 3) := dk_180 0 19 (dk_at dksX6_looks_0 16 rfl rfl)
theorem dX6_looks_19 : decode cX6_looks 19 = .ok (.iload_n 3, 1) := dk_29 (dk_at dksX6_looks_0 19 rfl rfl)
theorem dX6_looks_20 : decode cX6_looks 20 = .ok (.iconst 0, 1) := dk_3 (dk_at dksX6_looks_0 20 rfl rfl)
theorem dX6_looks_21 : decode cX6_looks 21 = .ok (.bastore, 1) := dk_84 (dk_at dksX6_looks_0 21 rfl rfl)
theorem dX6_looks_22 : decode cX6_looks 22 = .ok (.iinc 3 1, 3) := dk_132 3 1 (dk_at dksX6_looks_1 0 rfl rfl)
theorem dX6_looks_25 : decode cX6_looks 25 = .ok (.goto (-17), 3) := dk_167 255 239 (dk_at dksX6_looks_1 3 rfl rfl)
theorem dX6_looks_28 : decode cX6_looks 28 = .ok (.aload_n 0, 1) := dk_42 (dk_at dksX6_looks_1 6 rfl rfl)
theorem dX6_looks_29 : decode cX6_looks 29 = .ok (.dup, 1) := dk_89 (dk_at dksX6_looks_1 7 rfl rfl)
theorem dX6_looks_30 : decode cX6_looks 30 = .ok (.getfield 40, 3) := dk_180 0 40 (dk_at dksX6_looks_1 8 rfl rfl)
theorem dX6_looks_33 : decode cX6_looks 33 = .ok (.bipush 121, 2) := dk_16 121 (dk_at dksX6_looks_1 11 rfl rfl)
theorem dX6_looks_35 : decode cX6_looks 35 = .ok (.iadd, 1) := dk_96 (dk_at dksX6_looks_1 13 rfl rfl)
theorem dX6_looks_36 : decode cX6_looks 36 = .ok (.putfield 40, 3) := dk_181 0 40 (dk_at dksX6_looks_1 14 rfl rfl)
theorem dX6_looks_39 : decode cX6_looks 39 = .ok (.return_, 1) := dk_177 (dk_at dksX6_looks_1 17 rfl rfl)
abbrev cX6_loadNow : ByteArray := prog_6_method_7_code
def yX6_loadNow : MethodName := ⟨RX6, "loadNow", "(LNextLoad$Standing;)I"⟩
def dkwX6_loadNow_3 : List UInt8 := [28, 46, 43, 42, 180, 0, 5, 180, 0, 84, 180, 0, 114, 182, 0, 117, 182, 0, 74, 172]
abbrev dktX6_loadNow_3 : List UInt8 := dkwX6_loadNow_3 ++ []
def dkwX6_loadNow_2 : List UInt8 := [29, 43, 180, 0, 105, 154, 0, 7, 6, 167, 0, 7, 43, 180, 0, 108, 43, 180, 0, 111, 43, 180, 0, 101]
abbrev dktX6_loadNow_2 : List UInt8 := dkwX6_loadNow_2 ++ dktX6_loadNow_3
def dkwX6_loadNow_1 : List UInt8 := [180, 0, 5, 180, 0, 84, 180, 0, 94, 61, 43, 182, 0, 97, 43, 180, 0, 101, 28, 46, 100, 62, 42, 28]
abbrev dktX6_loadNow_1 : List UInt8 := dkwX6_loadNow_1 ++ dktX6_loadNow_2
def dkwX6_loadNow_0 : List UInt8 := [43, 180, 0, 78, 154, 0, 16, 42, 180, 0, 5, 180, 0, 84, 182, 0, 88, 153, 0, 5, 3, 172, 42]
abbrev dktX6_loadNow_0 : List UInt8 := dkwX6_loadNow_0 ++ dktX6_loadNow_1
theorem dksX6_loadNow_0 : cX6_loadNow.data.toList.drop 0 = dktX6_loadNow_0 := by decide +kernel
theorem dksX6_loadNow_1 : cX6_loadNow.data.toList.drop 23 = dktX6_loadNow_1 := dk_seg dksX6_loadNow_0 23 rfl rfl
theorem dksX6_loadNow_2 : cX6_loadNow.data.toList.drop 47 = dktX6_loadNow_2 := dk_seg dksX6_loadNow_1 24 rfl rfl
theorem dksX6_loadNow_3 : cX6_loadNow.data.toList.drop 71 = dktX6_loadNow_3 := dk_seg dksX6_loadNow_2 24 rfl rfl
theorem dX6_loadNow_0 : decode cX6_loadNow 0 = .ok (.aload_n 1, 1) := dk_43 (dk_at dksX6_loadNow_0 0 rfl rfl)
theorem dX6_loadNow_1 : decode cX6_loadNow 1 = .ok (.getfield 78, 3) := dk_180 0 78 (dk_at dksX6_loadNow_0 1 rfl rfl)
theorem dX6_loadNow_4 : decode cX6_loadNow 4 = .ok (.ifCond .ne 16, 3) := dk_154 0 16 (dk_at dksX6_loadNow_0 4 rfl rfl)
theorem dX6_loadNow_7 : decode cX6_loadNow 7 = .ok (.aload_n 0, 1) := dk_42 (dk_at dksX6_loadNow_0 7 rfl rfl)
theorem dX6_loadNow_8 : decode cX6_loadNow 8 = .ok (.getfield 5, 3) := dk_180 0 5 (dk_at dksX6_loadNow_0 8 rfl rfl)
theorem dX6_loadNow_11 : decode cX6_loadNow 11 = .ok (.getfield 84, 3) := dk_180 0 84 (dk_at dksX6_loadNow_0 11 rfl rfl)
theorem dX6_loadNow_14 : decode cX6_loadNow 14 = .ok (.invokevirtual 88, 3) := dk_182 0 88 (dk_at dksX6_loadNow_0 14 rfl rfl)
theorem dX6_loadNow_17 : decode cX6_loadNow 17 = .ok (.ifCond .eq 5, 3) := dk_153 0 5 (dk_at dksX6_loadNow_0 17 rfl rfl)
theorem dX6_loadNow_20 : decode cX6_loadNow 20 = .ok (.iconst 0, 1) := dk_3 (dk_at dksX6_loadNow_0 20 rfl rfl)
theorem dX6_loadNow_21 : decode cX6_loadNow 21 = .ok (.ireturn, 1) := dk_172 (dk_at dksX6_loadNow_0 21 rfl rfl)
theorem dX6_loadNow_22 : decode cX6_loadNow 22 = .ok (.aload_n 0, 1) := dk_42 (dk_at dksX6_loadNow_0 22 rfl rfl)
theorem dX6_loadNow_23 : decode cX6_loadNow 23 = .ok (.getfield 5, 3) := dk_180 0 5 (dk_at dksX6_loadNow_1 0 rfl rfl)
theorem dX6_loadNow_26 : decode cX6_loadNow 26 = .ok (.getfield 84, 3) := dk_180 0 84 (dk_at dksX6_loadNow_1 3 rfl rfl)
theorem dX6_loadNow_29 : decode cX6_loadNow 29 = .ok (.getfield 94, 3) := dk_180 0 94 (dk_at dksX6_loadNow_1 6 rfl rfl)
theorem dX6_loadNow_32 : decode cX6_loadNow 32 = .ok (.istore_n 2, 1) := dk_61 (dk_at dksX6_loadNow_1 9 rfl rfl)
theorem dX6_loadNow_33 : decode cX6_loadNow 33 = .ok (.aload_n 1, 1) := dk_43 (dk_at dksX6_loadNow_1 10 rfl rfl)
theorem dX6_loadNow_34 : decode cX6_loadNow 34 = .ok (.invokevirtual 97, 3) := dk_182 0 97 (dk_at dksX6_loadNow_1 11 rfl rfl)
theorem dX6_loadNow_37 : decode cX6_loadNow 37 = .ok (.aload_n 1, 1) := dk_43 (dk_at dksX6_loadNow_1 14 rfl rfl)
theorem dX6_loadNow_38 : decode cX6_loadNow 38 = .ok (.getfield 101, 3) := dk_180 0 101 (dk_at dksX6_loadNow_1 15 rfl rfl)
theorem dX6_loadNow_41 : decode cX6_loadNow 41 = .ok (.iload_n 2, 1) := dk_28 (dk_at dksX6_loadNow_1 18 rfl rfl)
theorem dX6_loadNow_42 : decode cX6_loadNow 42 = .ok (.iaload, 1) := dk_46 (dk_at dksX6_loadNow_1 19 rfl rfl)
theorem dX6_loadNow_43 : decode cX6_loadNow 43 = .ok (.isub, 1) := dk_100 (dk_at dksX6_loadNow_1 20 rfl rfl)
theorem dX6_loadNow_44 : decode cX6_loadNow 44 = .ok (.istore_n 3, 1) := dk_62 (dk_at dksX6_loadNow_1 21 rfl rfl)
theorem dX6_loadNow_45 : decode cX6_loadNow 45 = .ok (.aload_n 0, 1) := dk_42 (dk_at dksX6_loadNow_1 22 rfl rfl)
theorem dX6_loadNow_46 : decode cX6_loadNow 46 = .ok (.iload_n 2, 1) := dk_28 (dk_at dksX6_loadNow_1 23 rfl rfl)
theorem dX6_loadNow_47 : decode cX6_loadNow 47 = .ok (.iload_n 3, 1) := dk_29 (dk_at dksX6_loadNow_2 0 rfl rfl)
theorem dX6_loadNow_48 : decode cX6_loadNow 48 = .ok (.aload_n 1, 1) := dk_43 (dk_at dksX6_loadNow_2 1 rfl rfl)
theorem dX6_loadNow_49 : decode cX6_loadNow 49 = .ok (.getfield 105, 3) := dk_180 0 105 (dk_at dksX6_loadNow_2 2 rfl rfl)
theorem dX6_loadNow_52 : decode cX6_loadNow 52 = .ok (.ifCond .ne 7, 3) := dk_154 0 7 (dk_at dksX6_loadNow_2 5 rfl rfl)
theorem dX6_loadNow_55 : decode cX6_loadNow 55 = .ok (.iconst 3, 1) := dk_6 (dk_at dksX6_loadNow_2 8 rfl rfl)
theorem dX6_loadNow_56 : decode cX6_loadNow 56 = .ok (.goto 7, 3) := dk_167 0 7 (dk_at dksX6_loadNow_2 9 rfl rfl)
theorem dX6_loadNow_59 : decode cX6_loadNow 59 = .ok (.aload_n 1, 1) := dk_43 (dk_at dksX6_loadNow_2 12 rfl rfl)
theorem dX6_loadNow_60 : decode cX6_loadNow 60 = .ok (.getfield 108, 3) := dk_180 0 108 (dk_at dksX6_loadNow_2 13 rfl rfl)
theorem dX6_loadNow_63 : decode cX6_loadNow 63 = .ok (.aload_n 1, 1) := dk_43 (dk_at dksX6_loadNow_2 16 rfl rfl)
theorem dX6_loadNow_64 : decode cX6_loadNow 64 = .ok (.getfield 111, 3) := dk_180 0 111 (dk_at dksX6_loadNow_2 17 rfl rfl)
theorem dX6_loadNow_67 : decode cX6_loadNow 67 = .ok (.aload_n 1, 1) := dk_43 (dk_at dksX6_loadNow_2 20 rfl rfl)
theorem dX6_loadNow_68 : decode cX6_loadNow 68 = .ok (.getfield 101, 3) := dk_180 0 101 (dk_at dksX6_loadNow_2 21 rfl rfl)
theorem dX6_loadNow_71 : decode cX6_loadNow 71 = .ok (.iload_n 2, 1) := dk_28 (dk_at dksX6_loadNow_3 0 rfl rfl)
theorem dX6_loadNow_72 : decode cX6_loadNow 72 = .ok (.iaload, 1) := dk_46 (dk_at dksX6_loadNow_3 1 rfl rfl)
theorem dX6_loadNow_73 : decode cX6_loadNow 73 = .ok (.aload_n 1, 1) := dk_43 (dk_at dksX6_loadNow_3 2 rfl rfl)
theorem dX6_loadNow_74 : decode cX6_loadNow 74 = .ok (.aload_n 0, 1) := dk_42 (dk_at dksX6_loadNow_3 3 rfl rfl)
theorem dX6_loadNow_75 : decode cX6_loadNow 75 = .ok (.getfield 5, 3) := dk_180 0 5 (dk_at dksX6_loadNow_3 4 rfl rfl)
theorem dX6_loadNow_78 : decode cX6_loadNow 78 = .ok (.getfield 84, 3) := dk_180 0 84 (dk_at dksX6_loadNow_3 7 rfl rfl)
theorem dX6_loadNow_81 : decode cX6_loadNow 81 = .ok (.getfield 114, 3) := dk_180 0 114 (dk_at dksX6_loadNow_3 10 rfl rfl)
theorem dX6_loadNow_84 : decode cX6_loadNow 84 = .ok (.invokevirtual 117, 3) := dk_182 0 117 (dk_at dksX6_loadNow_3 13 rfl rfl)
theorem dX6_loadNow_87 : decode cX6_loadNow 87 = .ok (.invokevirtual 74, 3) := dk_182 0 74 (dk_at dksX6_loadNow_3 16 rfl rfl)
theorem dX6_loadNow_90 : decode cX6_loadNow 90 = .ok (.ireturn, 1) := dk_172 (dk_at dksX6_loadNow_3 19 rfl rfl)
abbrev cX6_loadAt : ByteArray := prog_6_method_6_code
def yX6_loadAt : MethodName := ⟨RX6, "loadAt", "(IIIIII)I"⟩
def dkwX6_loadAt_3 : List UInt8 := [180, 0, 30, 27, 50, 42, 29, 21, 4, 21, 5, 21, 6, 182, 0, 51, 46, 172]
abbrev dktX6_loadAt_3 : List UInt8 := dkwX6_loadAt_3 ++ []
def dkwX6_loadAt_2 : List UInt8 := [21, 4, 21, 5, 21, 6, 182, 0, 44, 55, 7, 22, 7, 9, 148, 156, 0, 7, 3, 167, 0, 21, 42]
abbrev dktX6_loadAt_2 : List UInt8 := dkwX6_loadAt_2 ++ dktX6_loadAt_3
def dkwX6_loadAt_1 : List UInt8 := [167, 0, 18, 42, 27, 4, 96, 28, 21, 5, 96, 3, 3, 3, 4, 182, 0, 74, 172, 42, 27, 28, 29]
abbrev dktX6_loadAt_1 : List UInt8 := dkwX6_loadAt_1 ++ dktX6_loadAt_2
def dkwX6_loadAt_0 : List UInt8 := [29, 6, 159, 0, 10, 21, 6, 16, 40, 164, 0, 33, 21, 5, 153, 0, 8, 27, 5, 160, 0, 7, 3]
abbrev dktX6_loadAt_0 : List UInt8 := dkwX6_loadAt_0 ++ dktX6_loadAt_1
theorem dksX6_loadAt_0 : cX6_loadAt.data.toList.drop 0 = dktX6_loadAt_0 := by decide +kernel
theorem dksX6_loadAt_1 : cX6_loadAt.data.toList.drop 23 = dktX6_loadAt_1 := dk_seg dksX6_loadAt_0 23 rfl rfl
theorem dksX6_loadAt_2 : cX6_loadAt.data.toList.drop 46 = dktX6_loadAt_2 := dk_seg dksX6_loadAt_1 23 rfl rfl
theorem dksX6_loadAt_3 : cX6_loadAt.data.toList.drop 69 = dktX6_loadAt_3 := dk_seg dksX6_loadAt_2 23 rfl rfl
theorem dX6_loadAt_0 : decode cX6_loadAt 0 = .ok (.iload_n 3, 1) := dk_29 (dk_at dksX6_loadAt_0 0 rfl rfl)
theorem dX6_loadAt_1 : decode cX6_loadAt 1 = .ok (.iconst 3, 1) := dk_6 (dk_at dksX6_loadAt_0 1 rfl rfl)
theorem dX6_loadAt_2 : decode cX6_loadAt 2 = .ok (.if_icmp .eq 10, 3) := dk_159 0 10 (dk_at dksX6_loadAt_0 2 rfl rfl)
theorem dX6_loadAt_5 : decode cX6_loadAt 5 = .ok (.iload 6, 2) := dk_21 6 (dk_at dksX6_loadAt_0 5 rfl rfl)
theorem dX6_loadAt_7 : decode cX6_loadAt 7 = .ok (.bipush 40, 2) := dk_16 40 (dk_at dksX6_loadAt_0 7 rfl rfl)
theorem dX6_loadAt_9 : decode cX6_loadAt 9 = .ok (.if_icmp .le 33, 3) := dk_164 0 33 (dk_at dksX6_loadAt_0 9 rfl rfl)
theorem dX6_loadAt_12 : decode cX6_loadAt 12 = .ok (.iload 5, 2) := dk_21 5 (dk_at dksX6_loadAt_0 12 rfl rfl)
theorem dX6_loadAt_14 : decode cX6_loadAt 14 = .ok (.ifCond .eq 8, 3) := dk_153 0 8 (dk_at dksX6_loadAt_0 14 rfl rfl)
theorem dX6_loadAt_17 : decode cX6_loadAt 17 = .ok (.iload_n 1, 1) := dk_27 (dk_at dksX6_loadAt_0 17 rfl rfl)
theorem dX6_loadAt_18 : decode cX6_loadAt 18 = .ok (.iconst 2, 1) := dk_5 (dk_at dksX6_loadAt_0 18 rfl rfl)
theorem dX6_loadAt_19 : decode cX6_loadAt 19 = .ok (.if_icmp .ne 7, 3) := dk_160 0 7 (dk_at dksX6_loadAt_0 19 rfl rfl)
theorem dX6_loadAt_22 : decode cX6_loadAt 22 = .ok (.iconst 0, 1) := dk_3 (dk_at dksX6_loadAt_0 22 rfl rfl)
theorem dX6_loadAt_23 : decode cX6_loadAt 23 = .ok (.goto 18, 3) := dk_167 0 18 (dk_at dksX6_loadAt_1 0 rfl rfl)
theorem dX6_loadAt_26 : decode cX6_loadAt 26 = .ok (.aload_n 0, 1) := dk_42 (dk_at dksX6_loadAt_1 3 rfl rfl)
theorem dX6_loadAt_27 : decode cX6_loadAt 27 = .ok (.iload_n 1, 1) := dk_27 (dk_at dksX6_loadAt_1 4 rfl rfl)
theorem dX6_loadAt_28 : decode cX6_loadAt 28 = .ok (.iconst 1, 1) := dk_4 (dk_at dksX6_loadAt_1 5 rfl rfl)
theorem dX6_loadAt_29 : decode cX6_loadAt 29 = .ok (.iadd, 1) := dk_96 (dk_at dksX6_loadAt_1 6 rfl rfl)
theorem dX6_loadAt_30 : decode cX6_loadAt 30 = .ok (.iload_n 2, 1) := dk_28 (dk_at dksX6_loadAt_1 7 rfl rfl)
theorem dX6_loadAt_31 : decode cX6_loadAt 31 = .ok (.iload 5, 2) := dk_21 5 (dk_at dksX6_loadAt_1 8 rfl rfl)
theorem dX6_loadAt_33 : decode cX6_loadAt 33 = .ok (.iadd, 1) := dk_96 (dk_at dksX6_loadAt_1 10 rfl rfl)
theorem dX6_loadAt_34 : decode cX6_loadAt 34 = .ok (.iconst 0, 1) := dk_3 (dk_at dksX6_loadAt_1 11 rfl rfl)
theorem dX6_loadAt_35 : decode cX6_loadAt 35 = .ok (.iconst 0, 1) := dk_3 (dk_at dksX6_loadAt_1 12 rfl rfl)
theorem dX6_loadAt_36 : decode cX6_loadAt 36 = .ok (.iconst 0, 1) := dk_3 (dk_at dksX6_loadAt_1 13 rfl rfl)
theorem dX6_loadAt_37 : decode cX6_loadAt 37 = .ok (.iconst 1, 1) := dk_4 (dk_at dksX6_loadAt_1 14 rfl rfl)
theorem dX6_loadAt_38 : decode cX6_loadAt 38 = .ok (.invokevirtual 74, 3) := dk_182 0 74 (dk_at dksX6_loadAt_1 15 rfl rfl)
theorem dX6_loadAt_41 : decode cX6_loadAt 41 = .ok (.ireturn, 1) := dk_172 (dk_at dksX6_loadAt_1 18 rfl rfl)
theorem dX6_loadAt_42 : decode cX6_loadAt 42 = .ok (.aload_n 0, 1) := dk_42 (dk_at dksX6_loadAt_1 19 rfl rfl)
theorem dX6_loadAt_43 : decode cX6_loadAt 43 = .ok (.iload_n 1, 1) := dk_27 (dk_at dksX6_loadAt_1 20 rfl rfl)
theorem dX6_loadAt_44 : decode cX6_loadAt 44 = .ok (.iload_n 2, 1) := dk_28 (dk_at dksX6_loadAt_1 21 rfl rfl)
theorem dX6_loadAt_45 : decode cX6_loadAt 45 = .ok (.iload_n 3, 1) := dk_29 (dk_at dksX6_loadAt_1 22 rfl rfl)
theorem dX6_loadAt_46 : decode cX6_loadAt 46 = .ok (.iload 4, 2) := dk_21 4 (dk_at dksX6_loadAt_2 0 rfl rfl)
theorem dX6_loadAt_48 : decode cX6_loadAt 48 = .ok (.iload 5, 2) := dk_21 5 (dk_at dksX6_loadAt_2 2 rfl rfl)
theorem dX6_loadAt_50 : decode cX6_loadAt 50 = .ok (.iload 6, 2) := dk_21 6 (dk_at dksX6_loadAt_2 4 rfl rfl)
theorem dX6_loadAt_52 : decode cX6_loadAt 52 = .ok (.invokevirtual 44, 3) := dk_182 0 44 (dk_at dksX6_loadAt_2 6 rfl rfl)
theorem dX6_loadAt_55 : decode cX6_loadAt 55 = .ok (.lstore 7, 2) := dk_55 7 (dk_at dksX6_loadAt_2 9 rfl rfl)
theorem dX6_loadAt_57 : decode cX6_loadAt 57 = .ok (.lload 7, 2) := dk_22 7 (dk_at dksX6_loadAt_2 11 rfl rfl)
theorem dX6_loadAt_59 : decode cX6_loadAt 59 = .ok (.lconst 0, 1) := dk_9 (dk_at dksX6_loadAt_2 13 rfl rfl)
theorem dX6_loadAt_60 : decode cX6_loadAt 60 = .ok (.lcmp, 1) := dk_148 (dk_at dksX6_loadAt_2 14 rfl rfl)
theorem dX6_loadAt_61 : decode cX6_loadAt 61 = .ok (.ifCond .ge 7, 3) := dk_156 0 7 (dk_at dksX6_loadAt_2 15 rfl rfl)
theorem dX6_loadAt_64 : decode cX6_loadAt 64 = .ok (.iconst 0, 1) := dk_3 (dk_at dksX6_loadAt_2 18 rfl rfl)
theorem dX6_loadAt_65 : decode cX6_loadAt 65 = .ok (.goto 21, 3) := dk_167 0 21 (dk_at dksX6_loadAt_2 19 rfl rfl)
theorem dX6_loadAt_68 : decode cX6_loadAt 68 = .ok (.aload_n 0, 1) := dk_42 (dk_at dksX6_loadAt_2 22 rfl rfl)
theorem dX6_loadAt_69 : decode cX6_loadAt 69 = .ok (.getfield 30, 3) := dk_180 0 30 (dk_at dksX6_loadAt_3 0 rfl rfl)
theorem dX6_loadAt_72 : decode cX6_loadAt 72 = .ok (.iload_n 1, 1) := dk_27 (dk_at dksX6_loadAt_3 3 rfl rfl)
theorem dX6_loadAt_73 : decode cX6_loadAt 73 = .ok (.aaload, 1) := dk_50 (dk_at dksX6_loadAt_3 4 rfl rfl)
theorem dX6_loadAt_74 : decode cX6_loadAt 74 = .ok (.aload_n 0, 1) := dk_42 (dk_at dksX6_loadAt_3 5 rfl rfl)
theorem dX6_loadAt_75 : decode cX6_loadAt 75 = .ok (.iload_n 3, 1) := dk_29 (dk_at dksX6_loadAt_3 6 rfl rfl)
theorem dX6_loadAt_76 : decode cX6_loadAt 76 = .ok (.iload 4, 2) := dk_21 4 (dk_at dksX6_loadAt_3 7 rfl rfl)
theorem dX6_loadAt_78 : decode cX6_loadAt 78 = .ok (.iload 5, 2) := dk_21 5 (dk_at dksX6_loadAt_3 9 rfl rfl)
theorem dX6_loadAt_80 : decode cX6_loadAt 80 = .ok (.iload 6, 2) := dk_21 6 (dk_at dksX6_loadAt_3 11 rfl rfl)
theorem dX6_loadAt_82 : decode cX6_loadAt 82 = .ok (.invokevirtual 51, 3) := dk_182 0 51 (dk_at dksX6_loadAt_3 13 rfl rfl)
theorem dX6_loadAt_85 : decode cX6_loadAt 85 = .ok (.iaload, 1) := dk_46 (dk_at dksX6_loadAt_3 16 rfl rfl)
theorem dX6_loadAt_86 : decode cX6_loadAt 86 = .ok (.ireturn, 1) := dk_172 (dk_at dksX6_loadAt_3 17 rfl rfl)
theorem q118 : (Jvm.Cond.initialized "NextLoad$Free") ∈ lw_all := lw_g (lw_at lw_m1 9 rfl) rfl
theorem q194 : (Jvm.Cond.fieldLinkNest "NextLoad$Free" (101 : Nat) "NextLoad$Standing" "best" "[I" "NextLoad") ∈ lw_tbl := lw_at lw_m1 85 rfl
theorem q198 : (Jvm.Cond.fieldLinkNest "NextLoad$Free" (108 : Nat) "NextLoad$Standing" "tries" "I" "NextLoad") ∈ lw_tbl := lw_at lw_m1 89 rfl
theorem q203 : (Jvm.Cond.fieldLinkNest "NextLoad$Free" (111 : Nat) "NextLoad$Standing" "failed" "I" "NextLoad") ∈ lw_tbl := lw_at lw_m1 94 rfl
theorem q208 : (Jvm.Cond.fieldLinkNest "NextLoad$Free" (105 : Nat) "NextLoad$Standing" "asked" "I" "NextLoad") ∈ lw_tbl := lw_at lw_m1 99 rfl
theorem q222 : (Jvm.Cond.fieldLinkNest "NextLoad$Free" (78 : Nat) "NextLoad$Standing" "isOut" "Z" "NextLoad") ∈ lw_tbl := lw_at lw_m1 113 rfl
theorem q246 : (Jvm.Cond.fieldLinkNest "NextLoad$Free" (94 : Nat) "NextLoad$Meet" "lift" "I" "NextLoad") ∈ lw_tbl := lw_at lw_m1 137 rfl
theorem q252 : (Jvm.Cond.fieldLinkNest "NextLoad$Free" (114 : Nat) "NextLoad$Meet" "bar" "I" "NextLoad") ∈ lw_tbl := lw_at lw_m1 143 rfl
theorem q294 : (Jvm.Cond.instantiable "NextLoad$Free" (10 : Nat)) ∈ lw_all := lw_g (lw_at lw_m1 185 rfl) rfl
theorem q296 : (Jvm.Cond.instanceMethod ({ cls := "NextLoad$Free", name := "<init>", desc := "(LNextLoad;)V" } : Jvm.MethodName)) ∈ lw_all := lw_g (lw_at lw_m1 187 rfl) rfl
theorem q297 : (Jvm.Cond.code ({ cls := "NextLoad$Free", name := "<init>", desc := "(LNextLoad;)V" } : Jvm.MethodName) prog_6_method_1_code (2 : Nat) (Option.none : Option Jvm.ClassFile.FieldType)) ∈ lw_all := lw_g (lw_at lw_m1 188 rfl) rfl
theorem q298 : (Jvm.Cond.methodLinkNest "NextLoad$Free" (9 : Nat) ({ cls := "NextLoad$Looker", name := "<init>", desc := "(LNextLoad;)V" } : Jvm.MethodName) "NextLoad") ∈ lw_tbl := lw_at lw_m1 189 rfl
theorem q299 : (Jvm.Cond.classLink "NextLoad$Free" (23 : Nat) "[[J") ∈ lw_all := lw_g (lw_at lw_m1 190 rfl) rfl
theorem q301 : (Jvm.Cond.classLink "NextLoad$Free" (28 : Nat) "[[I") ∈ lw_all := lw_g (lw_at lw_m1 192 rfl) rfl
theorem q303 : (Jvm.Cond.fieldLink "NextLoad$Free" (15 : Nat) "NextLoad$Free" "begun" "[J") ∈ lw_all := lw_g (lw_at lw_m1 194 rfl) rfl
theorem q304 : (Jvm.Cond.fieldLink "NextLoad$Free" (19 : Nat) "NextLoad$Free" "isBegun" "[Z") ∈ lw_all := lw_g (lw_at lw_m1 195 rfl) rfl
theorem q305 : (Jvm.Cond.fieldLink "NextLoad$Free" (25 : Nat) "NextLoad$Free" "worth" "[[J") ∈ lw_all := lw_g (lw_at lw_m1 196 rfl) rfl
theorem q306 : (Jvm.Cond.fieldLink "NextLoad$Free" (30 : Nat) "NextLoad$Free" "load" "[[I") ∈ lw_all := lw_g (lw_at lw_m1 197 rfl) rfl
theorem q307 : (Jvm.Cond.fieldLink "NextLoad$Free" (33 : Nat) "NextLoad$Free" "stands" "[[I") ∈ lw_all := lw_g (lw_at lw_m1 198 rfl) rfl
theorem q308 : (Jvm.Cond.fieldLink "NextLoad$Free" (40 : Nat) "NextLoad$Free" "looked" "I") ∈ lw_all := lw_g (lw_at lw_m1 199 rfl) rfl
theorem q309 : (Jvm.Cond.fieldLink "NextLoad$Free" (5 : Nat) "NextLoad$Free" "this$0" "LNextLoad;") ∈ lw_all := lw_g (lw_at lw_m1 200 rfl) rfl
theorem q310 : (Jvm.Cond.laysFinal "NextLoad$Free" "NextLoad$Free" "begun" "[J") ∈ lw_all := lw_g (lw_at lw_m1 201 rfl) rfl
theorem q311 : (Jvm.Cond.soleField "NextLoad$Free" "begun") ∈ lw_all := lw_g (lw_at lw_m1 202 rfl) rfl
theorem q312 : (Jvm.Cond.laysFinal "NextLoad$Free" "NextLoad$Free" "isBegun" "[Z") ∈ lw_all := lw_g (lw_at lw_m1 203 rfl) rfl
theorem q313 : (Jvm.Cond.soleField "NextLoad$Free" "isBegun") ∈ lw_all := lw_g (lw_at lw_m1 204 rfl) rfl
theorem q314 : (Jvm.Cond.laysFinal "NextLoad$Free" "NextLoad$Free" "worth" "[[J") ∈ lw_all := lw_g (lw_at lw_m1 205 rfl) rfl
theorem q315 : (Jvm.Cond.soleField "NextLoad$Free" "worth") ∈ lw_all := lw_g (lw_at lw_m1 206 rfl) rfl
theorem q316 : (Jvm.Cond.laysFinal "NextLoad$Free" "NextLoad$Free" "load" "[[I") ∈ lw_all := lw_g (lw_at lw_m1 207 rfl) rfl
theorem q317 : (Jvm.Cond.soleField "NextLoad$Free" "load") ∈ lw_all := lw_g (lw_at lw_m1 208 rfl) rfl
theorem q318 : (Jvm.Cond.laysFinal "NextLoad$Free" "NextLoad$Free" "stands" "[[I") ∈ lw_all := lw_g (lw_at lw_m1 209 rfl) rfl
theorem q319 : (Jvm.Cond.soleField "NextLoad$Free" "stands") ∈ lw_all := lw_g (lw_at lw_m1 210 rfl) rfl
theorem q320 : (Jvm.Cond.lays "NextLoad$Free" "NextLoad$Free" "looked" "I") ∈ lw_all := lw_g (lw_at lw_m1 211 rfl) rfl
theorem q321 : (Jvm.Cond.soleField "NextLoad$Free" "looked") ∈ lw_all := lw_g (lw_at lw_m1 212 rfl) rfl
theorem q322 : (Jvm.Cond.laysFinal "NextLoad$Free" "NextLoad$Free" "this$0" "LNextLoad;") ∈ lw_all := lw_g (lw_at lw_m1 213 rfl) rfl
theorem q323 : (Jvm.Cond.soleField "NextLoad$Free" "this$0") ∈ lw_all := lw_g (lw_at lw_m1 214 rfl) rfl
theorem q324 : (Jvm.Cond.lays "NextLoad$Free" "NextLoad$Looker" "lifter" "LNextLoad$Lifter;") ∈ lw_all := lw_g (lw_at lw_m1 215 rfl) rfl
theorem q325 : (Jvm.Cond.lays "NextLoad$Free" "NextLoad$Looker" "aim" "LNextLoad$Aim;") ∈ lw_all := lw_g (lw_at lw_m1 216 rfl) rfl
theorem q326 : (Jvm.Cond.laysFinal "NextLoad$Free" "NextLoad$Looker" "this$0" "LNextLoad;") ∈ lw_all := lw_g (lw_at lw_m1 217 rfl) rfl
theorem q327 : (Jvm.Cond.superclass "NextLoad$Free" "NextLoad$Looker") ∈ lw_all := lw_g (lw_at lw_m1 218 rfl) rfl
theorem q401 : (Jvm.Cond.fieldLinkNest "NextLoad$Free" (84 : Nat) "NextLoad" "meet" "LNextLoad$Meet;" "NextLoad") ∈ lw_tbl := lw_at lw_m2 52 rfl
theorem q682 : (Jvm.Cond.selects "NextLoad$Free" ({ cls := "java/lang/Object", name := "getClass", desc := "()Ljava/lang/Class;" } : Jvm.MethodName) ({ cls := "java/lang/Object", name := "getClass", desc := "()Ljava/lang/Class;" } : Jvm.MethodName)) ∈ lw_all := lw_g (lw_at lw_m3 93 rfl) rfl
theorem q1011 : (Jvm.Cond.selects "NextLoad$Free" ({ cls := "NextLoad$Looker", name := "ended", desc := "(III)J" } : Jvm.MethodName) ({ cls := "NextLoad$Looker", name := "ended", desc := "(III)J" } : Jvm.MethodName)) ∈ lw_all := lw_g (lw_at lw_m4 182 rfl) rfl
theorem q1017 : (Jvm.Cond.selects "NextLoad$Free" ({ cls := "NextLoad$Looker", name := "begun", desc := "(II)J" } : Jvm.MethodName) ({ cls := "NextLoad$Free", name := "begun", desc := "(II)J" } : Jvm.MethodName)) ∈ lw_all := lw_g (lw_at lw_m4 188 rfl) rfl
theorem q1018 : (Jvm.Cond.instanceMethod ({ cls := "NextLoad$Free", name := "begun", desc := "(II)J" } : Jvm.MethodName)) ∈ lw_all := lw_g (lw_at lw_m4 189 rfl) rfl
theorem q1019 : (Jvm.Cond.code ({ cls := "NextLoad$Free", name := "begun", desc := "(II)J" } : Jvm.MethodName) prog_6_method_3_code (4 : Nat) (Option.some Jvm.ClassFile.FieldType.long)) ∈ lw_all := lw_g (lw_at lw_m4 190 rfl) rfl
theorem q1020 : (Jvm.Cond.methodLink "NextLoad$Free" (44 : Nat) ({ cls := "NextLoad$Free", name := "worth", desc := "(IIIIII)J" } : Jvm.MethodName)) ∈ lw_all := lw_g (lw_at lw_m4 191 rfl) rfl
theorem q1021 : (Jvm.Cond.instanceMethod ({ cls := "NextLoad$Free", name := "worth", desc := "(IIIIII)J" } : Jvm.MethodName)) ∈ lw_all := lw_g (lw_at lw_m4 192 rfl) rfl
theorem q1022 : (Jvm.Cond.selects "NextLoad$Free" ({ cls := "NextLoad$Free", name := "worth", desc := "(IIIIII)J" } : Jvm.MethodName) ({ cls := "NextLoad$Free", name := "worth", desc := "(IIIIII)J" } : Jvm.MethodName)) ∈ lw_all := lw_g (lw_at lw_m4 193 rfl) rfl
theorem q1023 : (Jvm.Cond.code ({ cls := "NextLoad$Free", name := "worth", desc := "(IIIIII)J" } : Jvm.MethodName) prog_6_method_5_code (14 : Nat) (Option.some Jvm.ClassFile.FieldType.long)) ∈ lw_all := lw_g (lw_at lw_m4 194 rfl) rfl
theorem q1024 : (Jvm.Cond.methodLink "NextLoad$Free" (47 : Nat) ({ cls := "NextLoad$Free", name := "ended", desc := "(III)J" } : Jvm.MethodName)) ∈ lw_all := lw_g (lw_at lw_m4 195 rfl) rfl
theorem q1025 : (Jvm.Cond.sameMethod "NextLoad$Free" "NextLoad$Looker" "ended" "(III)J") ∈ lw_all := lw_g (lw_at lw_m4 196 rfl) rfl
theorem q1027 : (Jvm.Cond.selects "NextLoad$Free" ({ cls := "NextLoad$Free", name := "ended", desc := "(III)J" } : Jvm.MethodName) ({ cls := "NextLoad$Looker", name := "ended", desc := "(III)J" } : Jvm.MethodName)) ∈ lw_all := lw_g (lw_at lw_m4 198 rfl) rfl
theorem q1028 : (Jvm.Cond.methodLink "NextLoad$Free" (51 : Nat) ({ cls := "NextLoad$Free", name := "cell", desc := "(IIII)I" } : Jvm.MethodName)) ∈ lw_all := lw_g (lw_at lw_m4 199 rfl) rfl
theorem q1029 : (Jvm.Cond.privateMethod ({ cls := "NextLoad$Free", name := "cell", desc := "(IIII)I" } : Jvm.MethodName)) ∈ lw_tbl := lw_at lw_m4 200 rfl
theorem q1030 : (Jvm.Cond.instanceMethod ({ cls := "NextLoad$Free", name := "cell", desc := "(IIII)I" } : Jvm.MethodName)) ∈ lw_all := lw_g (lw_at lw_m4 201 rfl) rfl
theorem q1031 : (Jvm.Cond.code ({ cls := "NextLoad$Free", name := "cell", desc := "(IIII)I" } : Jvm.MethodName) prog_6_method_4_code (5 : Nat) (Option.some Jvm.ClassFile.FieldType.int)) ∈ lw_all := lw_g (lw_at lw_m4 202 rfl) rfl
theorem q1032 : (Jvm.Cond.constantLong "NextLoad$Free" (55 : Nat) (-1 : Int64)) ∈ lw_all := lw_g (lw_at lw_m4 203 rfl) rfl
theorem q1033 : (Jvm.Cond.fieldLink "NextLoad$Free" (57 : Nat) "NextLoad$Result" "GOOD" "LNextLoad$Result;") ∈ lw_all := lw_g (lw_at lw_m4 204 rfl) rfl
theorem q1034 : (Jvm.Cond.methodLink "NextLoad$Free" (63 : Nat) ({ cls := "NextLoad$Result", name := "least", desc := "(I)I" } : Jvm.MethodName)) ∈ lw_all := lw_g (lw_at lw_m4 205 rfl) rfl
theorem q1035 : (Jvm.Cond.fieldLink "NextLoad$Free" (67 : Nat) "NextLoad$Result" "FAILED" "LNextLoad$Result;") ∈ lw_all := lw_g (lw_at lw_m4 206 rfl) rfl
theorem q1036 : (Jvm.Cond.methodLink "NextLoad$Free" (70 : Nat) ({ cls := "NextLoad$Free", name := "tried", desc := "(IIIIIIII)J" } : Jvm.MethodName)) ∈ lw_all := lw_g (lw_at lw_m4 207 rfl) rfl
theorem q1037 : (Jvm.Cond.sameMethod "NextLoad$Free" "NextLoad$Looker" "tried" "(IIIIIIII)J") ∈ lw_all := lw_g (lw_at lw_m4 208 rfl) rfl
theorem q1039 : (Jvm.Cond.selects "NextLoad$Free" ({ cls := "NextLoad$Free", name := "tried", desc := "(IIIIIIII)J" } : Jvm.MethodName) ({ cls := "NextLoad$Looker", name := "tried", desc := "(IIIIIIII)J" } : Jvm.MethodName)) ∈ lw_all := lw_g (lw_at lw_m4 210 rfl) rfl
theorem q1045 : (Jvm.Cond.selects "NextLoad$Free" ({ cls := "NextLoad$Looker", name := "worth", desc := "(IIIIII)J" } : Jvm.MethodName) ({ cls := "NextLoad$Free", name := "worth", desc := "(IIIIII)J" } : Jvm.MethodName)) ∈ lw_all := lw_g (lw_at lw_m4 216 rfl) rfl
theorem q1167 : (Jvm.Cond.instanceMethod ({ cls := "NextLoad$Free", name := "looks", desc := "(LNextLoad$Lifter;LNextLoad$Aim;)V" } : Jvm.MethodName)) ∈ lw_all := lw_g (lw_at lw_m5 98 rfl) rfl
theorem q1168 : (Jvm.Cond.selects "NextLoad$Free" ({ cls := "NextLoad$Free", name := "looks", desc := "(LNextLoad$Lifter;LNextLoad$Aim;)V" } : Jvm.MethodName) ({ cls := "NextLoad$Free", name := "looks", desc := "(LNextLoad$Lifter;LNextLoad$Aim;)V" } : Jvm.MethodName)) ∈ lw_all := lw_g (lw_at lw_m5 99 rfl) rfl
theorem q1169 : (Jvm.Cond.code ({ cls := "NextLoad$Free", name := "looks", desc := "(LNextLoad$Lifter;LNextLoad$Aim;)V" } : Jvm.MethodName) prog_6_method_2_code (4 : Nat) (Option.none : Option Jvm.ClassFile.FieldType)) ∈ lw_all := lw_g (lw_at lw_m5 100 rfl) rfl
theorem q1170 : (Jvm.Cond.methodLink "NextLoad$Free" (36 : Nat) ({ cls := "NextLoad$Looker", name := "looks", desc := "(LNextLoad$Lifter;LNextLoad$Aim;)V" } : Jvm.MethodName)) ∈ lw_all := lw_g (lw_at lw_m5 101 rfl) rfl
theorem q1172 : (Jvm.Cond.sameMethod "NextLoad$Free" "NextLoad$Looker" "now" "(LNextLoad$Standing;I)J") ∈ lw_all := lw_g (lw_at lw_m5 103 rfl) rfl
theorem q1173 : (Jvm.Cond.selects "NextLoad$Free" ({ cls := "NextLoad$Free", name := "now", desc := "(LNextLoad$Standing;I)J" } : Jvm.MethodName) ({ cls := "NextLoad$Looker", name := "now", desc := "(LNextLoad$Standing;I)J" } : Jvm.MethodName)) ∈ lw_all := lw_g (lw_at lw_m5 104 rfl) rfl
theorem q1175 : (Jvm.Cond.instanceMethod ({ cls := "NextLoad$Free", name := "loadNow", desc := "(LNextLoad$Standing;)I" } : Jvm.MethodName)) ∈ lw_all := lw_g (lw_at lw_m5 106 rfl) rfl
theorem q1176 : (Jvm.Cond.selects "NextLoad$Free" ({ cls := "NextLoad$Free", name := "loadNow", desc := "(LNextLoad$Standing;)I" } : Jvm.MethodName) ({ cls := "NextLoad$Free", name := "loadNow", desc := "(LNextLoad$Standing;)I" } : Jvm.MethodName)) ∈ lw_all := lw_g (lw_at lw_m5 107 rfl) rfl
theorem q1177 : (Jvm.Cond.code ({ cls := "NextLoad$Free", name := "loadNow", desc := "(LNextLoad$Standing;)I" } : Jvm.MethodName) prog_6_method_7_code (4 : Nat) (Option.some Jvm.ClassFile.FieldType.int)) ∈ lw_all := lw_g (lw_at lw_m5 108 rfl) rfl
theorem q1178 : (Jvm.Cond.methodLink "NextLoad$Free" (88 : Nat) ({ cls := "NextLoad$Meet", name := "isOver", desc := "()Z" } : Jvm.MethodName)) ∈ lw_all := lw_g (lw_at lw_m5 109 rfl) rfl
theorem q1179 : (Jvm.Cond.methodLink "NextLoad$Free" (97 : Nat) ({ cls := "NextLoad$Standing", name := "sum", desc := "()I" } : Jvm.MethodName)) ∈ lw_all := lw_g (lw_at lw_m5 110 rfl) rfl
theorem q1180 : (Jvm.Cond.methodLink "NextLoad$Free" (117 : Nat) ({ cls := "NextLoad$Standing", name := "least", desc := "(I)I" } : Jvm.MethodName)) ∈ lw_all := lw_g (lw_at lw_m5 111 rfl) rfl
theorem q1181 : (Jvm.Cond.methodLink "NextLoad$Free" (74 : Nat) ({ cls := "NextLoad$Free", name := "loadAt", desc := "(IIIIII)I" } : Jvm.MethodName)) ∈ lw_all := lw_g (lw_at lw_m5 112 rfl) rfl
theorem q1182 : (Jvm.Cond.instanceMethod ({ cls := "NextLoad$Free", name := "loadAt", desc := "(IIIIII)I" } : Jvm.MethodName)) ∈ lw_all := lw_g (lw_at lw_m5 113 rfl) rfl
theorem q1183 : (Jvm.Cond.selects "NextLoad$Free" ({ cls := "NextLoad$Free", name := "loadAt", desc := "(IIIIII)I" } : Jvm.MethodName) ({ cls := "NextLoad$Free", name := "loadAt", desc := "(IIIIII)I" } : Jvm.MethodName)) ∈ lw_all := lw_g (lw_at lw_m5 114 rfl) rfl
theorem q1184 : (Jvm.Cond.code ({ cls := "NextLoad$Free", name := "loadAt", desc := "(IIIIII)I" } : Jvm.MethodName) prog_6_method_6_code (9 : Nat) (Option.some Jvm.ClassFile.FieldType.int)) ∈ lw_all := lw_g (lw_at lw_m5 115 rfl) rfl
theorem q1937 : (Jvm.Cond.castable "NextLoad$Free" "java/lang/Object") ∈ lw_tbl := lw_at lw_m8 148 rfl
theorem in_X6 : ∀ w ∈ wsX60, w ∈ lw_all := lw_in wsX60 [324, 325, 326, 310, 312, 314, 316, 318, 320, 322] (by decide +kernel) (by decide +kernel)

/-! NextLoad$Duel -/
set_option maxRecDepth 100000
def RX7 : String := "NextLoad$Duel"
def TX7 : u_T := fun k => match k with
  | 0 => ("NextLoad$Duel", "value", "[I", true)
  | 1 => ("NextLoad$Duel", "choice", "[I", true)
  | 2 => ("NextLoad$Duel", "isKnown", "[Z", true)
  | 3 => ("NextLoad$Duel", "a", "I", false)
  | 4 => ("NextLoad$Duel", "b", "I", false)
  | _ => ("NextLoad$Duel", "this$0", "LNextLoad;", true)
def tyX7 : Nat → FieldType := fun k => match k with
  | 0 => .array .int
  | 1 => .array .int
  | 2 => .array .boolean
  | 3 => .int
  | 4 => .int
  | _ => .object "NextLoad"
abbrev wsX70 : List Cond := u_ws RX7 TX7 6
theorem nmX7 : ∀ a, a < 6 → ∀ b, b < 6 → a ≠ b → (TX7 a).2.1 ≠ (TX7 b).2.1 := by decide +kernel
theorem tyX7_ok : ∀ k, k < 6 → parseFieldDescriptor (TX7 k).2.2.1 = some (tyX7 k) := by decide +kernel
abbrev cX7_init : ByteArray := prog_4_method_1_code
def yX7_init : MethodName := ⟨RX7, "<init>", "(LNextLoad;)V"⟩
def dkwX7_init_1 : List UInt8 := [181, 0, 19, 42, 17, 59, 25, 188, 4, 181, 0, 22, 177]
abbrev dktX7_init_1 : List UInt8 := dkwX7_init_1 ++ []
def dkwX7_init_0 : List UInt8 := [42, 43, 181, 0, 3, 42, 183, 0, 9, 42, 17, 59, 25, 188, 10, 181, 0, 15, 42, 17, 59, 25, 188, 10]
abbrev dktX7_init_0 : List UInt8 := dkwX7_init_0 ++ dktX7_init_1
theorem dksX7_init_0 : cX7_init.data.toList.drop 0 = dktX7_init_0 := by decide +kernel
theorem dksX7_init_1 : cX7_init.data.toList.drop 24 = dktX7_init_1 := dk_seg dksX7_init_0 24 rfl rfl
theorem dX7_init_0 : decode cX7_init 0 = .ok (.aload_n 0, 1) := dk_42 (dk_at dksX7_init_0 0 rfl rfl)
theorem dX7_init_1 : decode cX7_init 1 = .ok (.aload_n 1, 1) := dk_43 (dk_at dksX7_init_0 1 rfl rfl)
theorem dX7_init_2 : decode cX7_init 2 = .ok (.putfield 3, 3) := dk_181 0 3 (dk_at dksX7_init_0 2 rfl rfl)
theorem dX7_init_5 : decode cX7_init 5 = .ok (.aload_n 0, 1) := dk_42 (dk_at dksX7_init_0 5 rfl rfl)
theorem dX7_init_6 : decode cX7_init 6 = .ok (.invokespecial 9, 3) := dk_183 0 9 (dk_at dksX7_init_0 6 rfl rfl)
theorem dX7_init_9 : decode cX7_init 9 = .ok (.aload_n 0, 1) := dk_42 (dk_at dksX7_init_0 9 rfl rfl)
theorem dX7_init_10 : decode cX7_init 10 = .ok (.sipush 15129, 3) := dk_17 59 25 (dk_at dksX7_init_0 10 rfl rfl)
theorem dX7_init_13 : decode cX7_init 13 = .ok (.newarray .int, 2) := dk_188_10 (dk_at dksX7_init_0 13 rfl rfl)
theorem dX7_init_15 : decode cX7_init 15 = .ok (.putfield 15, 3) := dk_181 0 15 (dk_at dksX7_init_0 15 rfl rfl)
theorem dX7_init_18 : decode cX7_init 18 = .ok (.aload_n 0, 1) := dk_42 (dk_at dksX7_init_0 18 rfl rfl)
theorem dX7_init_19 : decode cX7_init 19 = .ok (.sipush 15129, 3) := dk_17 59 25 (dk_at dksX7_init_0 19 rfl rfl)
theorem dX7_init_22 : decode cX7_init 22 = .ok (.newarray .int, 2) := dk_188_10 (dk_at dksX7_init_0 22 rfl rfl)
theorem dX7_init_24 : decode cX7_init 24 = .ok (.putfield 19, 3) := dk_181 0 19 (dk_at dksX7_init_1 0 rfl rfl)
theorem dX7_init_27 : decode cX7_init 27 = .ok (.aload_n 0, 1) := dk_42 (dk_at dksX7_init_1 3 rfl rfl)
theorem dX7_init_28 : decode cX7_init 28 = .ok (.sipush 15129, 3) := dk_17 59 25 (dk_at dksX7_init_1 4 rfl rfl)
theorem dX7_init_31 : decode cX7_init 31 = .ok (.newarray .boolean, 2) := dk_188_4 (dk_at dksX7_init_1 7 rfl rfl)
theorem dX7_init_33 : decode cX7_init 33 = .ok (.putfield 22, 3) := dk_181 0 22 (dk_at dksX7_init_1 9 rfl rfl)
theorem dX7_init_36 : decode cX7_init 36 = .ok (.return_, 1) := dk_177 (dk_at dksX7_init_1 12 rfl rfl)
abbrev cX7_begins : ByteArray := prog_4_method_2_code
def yX7_begins : MethodName := ⟨RX7, "begins", "(II)V"⟩
def dkwX7_begins_1 : List UInt8 := [3, 84, 132, 3, 1, 167, 255, 239, 177]
abbrev dktX7_begins_1 : List UInt8 := dkwX7_begins_1 ++ []
def dkwX7_begins_0 : List UInt8 := [42, 27, 181, 0, 26, 42, 28, 181, 0, 30, 3, 62, 29, 17, 59, 25, 162, 0, 16, 42, 180, 0, 22, 29]
abbrev dktX7_begins_0 : List UInt8 := dkwX7_begins_0 ++ dktX7_begins_1
theorem dksX7_begins_0 : cX7_begins.data.toList.drop 0 = dktX7_begins_0 := by decide +kernel
theorem dksX7_begins_1 : cX7_begins.data.toList.drop 24 = dktX7_begins_1 := dk_seg dksX7_begins_0 24 rfl rfl
theorem dX7_begins_0 : decode cX7_begins 0 = .ok (.aload_n 0, 1) := dk_42 (dk_at dksX7_begins_0 0 rfl rfl)
theorem dX7_begins_1 : decode cX7_begins 1 = .ok (.iload_n 1, 1) := dk_27 (dk_at dksX7_begins_0 1 rfl rfl)
theorem dX7_begins_2 : decode cX7_begins 2 = .ok (.putfield 26, 3) := dk_181 0 26 (dk_at dksX7_begins_0 2 rfl rfl)
theorem dX7_begins_5 : decode cX7_begins 5 = .ok (.aload_n 0, 1) := dk_42 (dk_at dksX7_begins_0 5 rfl rfl)
theorem dX7_begins_6 : decode cX7_begins 6 = .ok (.iload_n 2, 1) := dk_28 (dk_at dksX7_begins_0 6 rfl rfl)
theorem dX7_begins_7 : decode cX7_begins 7 = .ok (.putfield 30, 3) := dk_181 0 30 (dk_at dksX7_begins_0 7 rfl rfl)
theorem dX7_begins_10 : decode cX7_begins 10 = .ok (.iconst 0, 1) := dk_3 (dk_at dksX7_begins_0 10 rfl rfl)
theorem dX7_begins_11 : decode cX7_begins 11 = .ok (.istore_n 3, 1) := dk_62 (dk_at dksX7_begins_0 11 rfl rfl)
theorem dX7_begins_12 : decode cX7_begins 12 = .ok (.iload_n 3, 1) := dk_29 (dk_at dksX7_begins_0 12 rfl rfl)
theorem dX7_begins_13 : decode cX7_begins 13 = .ok (.sipush 15129, 3) := dk_17 59 25 (dk_at dksX7_begins_0 13 rfl rfl)
theorem dX7_begins_16 : decode cX7_begins 16 = .ok (.if_icmp .ge 16, 3) := dk_162 0 16 (dk_at dksX7_begins_0 16 rfl rfl)
theorem dX7_begins_19 : decode cX7_begins 19 = .ok (.aload_n 0, 1) := dk_42 (dk_at dksX7_begins_0 19 rfl rfl)
theorem dX7_begins_20 : decode cX7_begins 20 = .ok (.getfield 22, 3) := dk_180 0 22 (dk_at dksX7_begins_0 20 rfl rfl)
theorem dX7_begins_23 : decode cX7_begins 23 = .ok (.iload_n 3, 1) := dk_29 (dk_at dksX7_begins_0 23 rfl rfl)
theorem dX7_begins_24 : decode cX7_begins 24 = .ok (.iconst 0, 1) := dk_3 (dk_at dksX7_begins_1 0 rfl rfl)
theorem dX7_begins_25 : decode cX7_begins 25 = .ok (.bastore, 1) := dk_84 (dk_at dksX7_begins_1 1 rfl rfl)
theorem dX7_begins_26 : decode cX7_begins 26 = .ok (.iinc 3 1, 3) := dk_132 3 1 (dk_at dksX7_begins_1 2 rfl rfl)
theorem dX7_begins_29 : decode cX7_begins 29 = .ok (.goto (-17), 3) := dk_167 255 239 (dk_at dksX7_begins_1 5 rfl rfl)
theorem dX7_begins_32 : decode cX7_begins 32 = .ok (.return_, 1) := dk_177 (dk_at dksX7_begins_1 8 rfl rfl)
abbrev cX7_of : ByteArray := prog_4_method_10_code
def yX7_of : MethodName := ⟨RX7, "of", "(IIII)I"⟩
def dkwX7_of_13 : List UInt8 := [21, 5, 21, 13, 79, 21, 12, 172]
abbrev dktX7_of_13 : List UInt8 := dkwX7_of_13 ++ []
def dkwX7_of_12 : List UInt8 := [167, 255, 174, 42, 180, 0, 22, 21, 5, 4, 84, 42, 180, 0, 15, 21, 5, 21, 12, 79, 42, 180, 0, 19]
abbrev dktX7_of_12 : List UInt8 := dkwX7_of_12 ++ dktX7_of_13
def dkwX7_of_11 : List UInt8 := [21, 15, 21, 12, 182, 0, 91, 154, 0, 6, 167, 0, 11, 21, 15, 54, 12, 21, 14, 54, 13, 132, 14, 1]
abbrev dktX7_of_11 : List UInt8 := dkwX7_of_11 ++ dktX7_of_12
def dkwX7_of_10 : List UInt8 := [182, 0, 106, 167, 0, 15, 42, 27, 21, 14, 29, 21, 4, 4, 100, 182, 0, 106, 54, 15, 42, 21, 7]
abbrev dktX7_of_10 : List UInt8 := dkwX7_of_10 ++ dktX7_of_11
def dkwX7_of_9 : List UInt8 := [167, 0, 5, 21, 4, 158, 0, 67, 21, 6, 153, 0, 18, 42, 21, 14, 28, 29, 4, 100, 21, 4]
abbrev dktX7_of_9 : List UInt8 := dkwX7_of_9 ++ dktX7_of_10
def dkwX7_of_8 : List UInt8 := [54, 12, 3, 54, 13, 21, 9, 4, 96, 54, 14, 21, 14, 16, 40, 163, 0, 81, 21, 6, 153, 0, 7, 29]
abbrev dktX7_of_8 : List UInt8 := dkwX7_of_8 ++ dktX7_of_9
def dkwX7_of_7 : List UInt8 := [182, 0, 103, 54, 11, 42, 21, 7, 21, 9, 182, 0, 80, 21, 10, 133, 21, 11, 133, 184, 0, 83, 136]
abbrev dktX7_of_7 : List UInt8 := dkwX7_of_7 ++ dktX7_of_8
def dkwX7_of_6 : List UInt8 := [167, 0, 4, 29, 42, 180, 0, 3, 180, 0, 33, 180, 0, 55, 21, 7, 50, 180, 0, 68, 5, 46]
abbrev dktX7_of_6 : List UInt8 := dkwX7_of_6 ++ dktX7_of_7
def dkwX7_of_5 : List UInt8 := [54, 10, 42, 21, 8, 21, 6, 153, 0, 7, 28, 167, 0, 4, 27, 21, 6, 153, 0, 8, 21, 4]
abbrev dktX7_of_5 : List UInt8 := dkwX7_of_5 ++ dktX7_of_6
def dkwX7_of_4 : List UInt8 := [153, 0, 7, 28, 167, 0, 4, 27, 21, 6, 153, 0, 8, 21, 4, 167, 0, 4, 29, 21, 9, 182, 0, 103]
abbrev dktX7_of_4 : List UInt8 := dkwX7_of_4 ++ dktX7_of_5
def dkwX7_of_3 : List UInt8 := [180, 0, 26, 54, 8, 21, 6, 153, 0, 7, 27, 167, 0, 4, 28, 54, 9, 42, 21, 8, 21, 6]
abbrev dktX7_of_3 : List UInt8 := dkwX7_of_3 ++ dktX7_of_4
def dkwX7_of_2 : List UInt8 := [167, 0, 7, 42, 180, 0, 30, 54, 7, 21, 6, 153, 0, 10, 42, 180, 0, 30, 167, 0, 7, 42]
abbrev dktX7_of_2 : List UInt8 := dkwX7_of_2 ++ dktX7_of_3
def dkwX7_of_1 : List UInt8 := [180, 0, 15, 21, 5, 46, 172, 42, 27, 28, 182, 0, 99, 54, 6, 21, 6, 153, 0, 10, 42, 180, 0, 26]
abbrev dktX7_of_1 : List UInt8 := dkwX7_of_1 ++ dktX7_of_2
def dkwX7_of_0 : List UInt8 := [42, 27, 28, 29, 21, 4, 182, 0, 95, 54, 5, 42, 180, 0, 22, 21, 5, 51, 153, 0, 11, 42]
abbrev dktX7_of_0 : List UInt8 := dkwX7_of_0 ++ dktX7_of_1
theorem dksX7_of_0 : cX7_of.data.toList.drop 0 = dktX7_of_0 := by decide +kernel
theorem dksX7_of_1 : cX7_of.data.toList.drop 22 = dktX7_of_1 := dk_seg dksX7_of_0 22 rfl rfl
theorem dksX7_of_2 : cX7_of.data.toList.drop 46 = dktX7_of_2 := dk_seg dksX7_of_1 24 rfl rfl
theorem dksX7_of_3 : cX7_of.data.toList.drop 68 = dktX7_of_3 := dk_seg dksX7_of_2 22 rfl rfl
theorem dksX7_of_4 : cX7_of.data.toList.drop 90 = dktX7_of_4 := dk_seg dksX7_of_3 22 rfl rfl
theorem dksX7_of_5 : cX7_of.data.toList.drop 114 = dktX7_of_5 := dk_seg dksX7_of_4 24 rfl rfl
theorem dksX7_of_6 : cX7_of.data.toList.drop 136 = dktX7_of_6 := dk_seg dksX7_of_5 22 rfl rfl
theorem dksX7_of_7 : cX7_of.data.toList.drop 158 = dktX7_of_7 := dk_seg dksX7_of_6 22 rfl rfl
theorem dksX7_of_8 : cX7_of.data.toList.drop 181 = dktX7_of_8 := dk_seg dksX7_of_7 23 rfl rfl
theorem dksX7_of_9 : cX7_of.data.toList.drop 205 = dktX7_of_9 := dk_seg dksX7_of_8 24 rfl rfl
theorem dksX7_of_10 : cX7_of.data.toList.drop 227 = dktX7_of_10 := dk_seg dksX7_of_9 22 rfl rfl
theorem dksX7_of_11 : cX7_of.data.toList.drop 250 = dktX7_of_11 := dk_seg dksX7_of_10 23 rfl rfl
theorem dksX7_of_12 : cX7_of.data.toList.drop 274 = dktX7_of_12 := dk_seg dksX7_of_11 24 rfl rfl
theorem dksX7_of_13 : cX7_of.data.toList.drop 298 = dktX7_of_13 := dk_seg dksX7_of_12 24 rfl rfl
theorem dX7_of_0 : decode cX7_of 0 = .ok (.aload_n 0, 1) := dk_42 (dk_at dksX7_of_0 0 rfl rfl)
theorem dX7_of_1 : decode cX7_of 1 = .ok (.iload_n 1, 1) := dk_27 (dk_at dksX7_of_0 1 rfl rfl)
theorem dX7_of_2 : decode cX7_of 2 = .ok (.iload_n 2, 1) := dk_28 (dk_at dksX7_of_0 2 rfl rfl)
theorem dX7_of_3 : decode cX7_of 3 = .ok (.iload_n 3, 1) := dk_29 (dk_at dksX7_of_0 3 rfl rfl)
theorem dX7_of_4 : decode cX7_of 4 = .ok (.iload 4, 2) := dk_21 4 (dk_at dksX7_of_0 4 rfl rfl)
theorem dX7_of_6 : decode cX7_of 6 = .ok (.invokevirtual 95, 3) := dk_182 0 95 (dk_at dksX7_of_0 6 rfl rfl)
theorem dX7_of_9 : decode cX7_of 9 = .ok (.istore 5, 2) := dk_54 5 (dk_at dksX7_of_0 9 rfl rfl)
theorem dX7_of_11 : decode cX7_of 11 = .ok (.aload_n 0, 1) := dk_42 (dk_at dksX7_of_0 11 rfl rfl)
theorem dX7_of_12 : decode cX7_of 12 = .ok (.getfield 22, 3) := dk_180 0 22 (dk_at dksX7_of_0 12 rfl rfl)
theorem dX7_of_15 : decode cX7_of 15 = .ok (.iload 5, 2) := dk_21 5 (dk_at dksX7_of_0 15 rfl rfl)
theorem dX7_of_17 : decode cX7_of 17 = .ok (.baload, 1) := dk_51 (dk_at dksX7_of_0 17 rfl rfl)
theorem dX7_of_18 : decode cX7_of 18 = .ok (.ifCond .eq 11, 3) := dk_153 0 11 (dk_at dksX7_of_0 18 rfl rfl)
theorem dX7_of_21 : decode cX7_of 21 = .ok (.aload_n 0, 1) := dk_42 (dk_at dksX7_of_0 21 rfl rfl)
theorem dX7_of_22 : decode cX7_of 22 = .ok (.getfield 15, 3) := dk_180 0 15 (dk_at dksX7_of_1 0 rfl rfl)
theorem dX7_of_25 : decode cX7_of 25 = .ok (.iload 5, 2) := dk_21 5 (dk_at dksX7_of_1 3 rfl rfl)
theorem dX7_of_27 : decode cX7_of 27 = .ok (.iaload, 1) := dk_46 (dk_at dksX7_of_1 5 rfl rfl)
theorem dX7_of_28 : decode cX7_of 28 = .ok (.ireturn, 1) := dk_172 (dk_at dksX7_of_1 6 rfl rfl)
theorem dX7_of_29 : decode cX7_of 29 = .ok (.aload_n 0, 1) := dk_42 (dk_at dksX7_of_1 7 rfl rfl)
theorem dX7_of_30 : decode cX7_of 30 = .ok (.iload_n 1, 1) := dk_27 (dk_at dksX7_of_1 8 rfl rfl)
theorem dX7_of_31 : decode cX7_of 31 = .ok (.iload_n 2, 1) := dk_28 (dk_at dksX7_of_1 9 rfl rfl)
theorem dX7_of_32 : decode cX7_of 32 = .ok (.invokevirtual 99, 3) := dk_182 0 99 (dk_at dksX7_of_1 10 rfl rfl)
theorem dX7_of_35 : decode cX7_of 35 = .ok (.istore 6, 2) := dk_54 6 (dk_at dksX7_of_1 13 rfl rfl)
theorem dX7_of_37 : decode cX7_of 37 = .ok (.iload 6, 2) := dk_21 6 (dk_at dksX7_of_1 15 rfl rfl)
theorem dX7_of_39 : decode cX7_of 39 = .ok (.ifCond .eq 10, 3) := dk_153 0 10 (dk_at dksX7_of_1 17 rfl rfl)
theorem dX7_of_42 : decode cX7_of 42 = .ok (.aload_n 0, 1) := dk_42 (dk_at dksX7_of_1 20 rfl rfl)
theorem dX7_of_43 : decode cX7_of 43 = .ok (.getfield 26, 3) := dk_180 0 26 (dk_at dksX7_of_1 21 rfl rfl)
theorem dX7_of_46 : decode cX7_of 46 = .ok (.goto 7, 3) := dk_167 0 7 (dk_at dksX7_of_2 0 rfl rfl)
theorem dX7_of_49 : decode cX7_of 49 = .ok (.aload_n 0, 1) := dk_42 (dk_at dksX7_of_2 3 rfl rfl)
theorem dX7_of_50 : decode cX7_of 50 = .ok (.getfield 30, 3) := dk_180 0 30 (dk_at dksX7_of_2 4 rfl rfl)
theorem dX7_of_53 : decode cX7_of 53 = .ok (.istore 7, 2) := dk_54 7 (dk_at dksX7_of_2 7 rfl rfl)
theorem dX7_of_55 : decode cX7_of 55 = .ok (.iload 6, 2) := dk_21 6 (dk_at dksX7_of_2 9 rfl rfl)
theorem dX7_of_57 : decode cX7_of 57 = .ok (.ifCond .eq 10, 3) := dk_153 0 10 (dk_at dksX7_of_2 11 rfl rfl)
theorem dX7_of_60 : decode cX7_of 60 = .ok (.aload_n 0, 1) := dk_42 (dk_at dksX7_of_2 14 rfl rfl)
theorem dX7_of_61 : decode cX7_of 61 = .ok (.getfield 30, 3) := dk_180 0 30 (dk_at dksX7_of_2 15 rfl rfl)
theorem dX7_of_64 : decode cX7_of 64 = .ok (.goto 7, 3) := dk_167 0 7 (dk_at dksX7_of_2 18 rfl rfl)
theorem dX7_of_67 : decode cX7_of 67 = .ok (.aload_n 0, 1) := dk_42 (dk_at dksX7_of_2 21 rfl rfl)
theorem dX7_of_68 : decode cX7_of 68 = .ok (.getfield 26, 3) := dk_180 0 26 (dk_at dksX7_of_3 0 rfl rfl)
theorem dX7_of_71 : decode cX7_of 71 = .ok (.istore 8, 2) := dk_54 8 (dk_at dksX7_of_3 3 rfl rfl)
theorem dX7_of_73 : decode cX7_of 73 = .ok (.iload 6, 2) := dk_21 6 (dk_at dksX7_of_3 5 rfl rfl)
theorem dX7_of_75 : decode cX7_of 75 = .ok (.ifCond .eq 7, 3) := dk_153 0 7 (dk_at dksX7_of_3 7 rfl rfl)
theorem dX7_of_78 : decode cX7_of 78 = .ok (.iload_n 1, 1) := dk_27 (dk_at dksX7_of_3 10 rfl rfl)
theorem dX7_of_79 : decode cX7_of 79 = .ok (.goto 4, 3) := dk_167 0 4 (dk_at dksX7_of_3 11 rfl rfl)
theorem dX7_of_82 : decode cX7_of 82 = .ok (.iload_n 2, 1) := dk_28 (dk_at dksX7_of_3 14 rfl rfl)
theorem dX7_of_83 : decode cX7_of 83 = .ok (.istore 9, 2) := dk_54 9 (dk_at dksX7_of_3 15 rfl rfl)
theorem dX7_of_85 : decode cX7_of 85 = .ok (.aload_n 0, 1) := dk_42 (dk_at dksX7_of_3 17 rfl rfl)
theorem dX7_of_86 : decode cX7_of 86 = .ok (.iload 8, 2) := dk_21 8 (dk_at dksX7_of_3 18 rfl rfl)
theorem dX7_of_88 : decode cX7_of 88 = .ok (.iload 6, 2) := dk_21 6 (dk_at dksX7_of_3 20 rfl rfl)
theorem dX7_of_90 : decode cX7_of 90 = .ok (.ifCond .eq 7, 3) := dk_153 0 7 (dk_at dksX7_of_4 0 rfl rfl)
theorem dX7_of_93 : decode cX7_of 93 = .ok (.iload_n 2, 1) := dk_28 (dk_at dksX7_of_4 3 rfl rfl)
theorem dX7_of_94 : decode cX7_of 94 = .ok (.goto 4, 3) := dk_167 0 4 (dk_at dksX7_of_4 4 rfl rfl)
theorem dX7_of_97 : decode cX7_of 97 = .ok (.iload_n 1, 1) := dk_27 (dk_at dksX7_of_4 7 rfl rfl)
theorem dX7_of_98 : decode cX7_of 98 = .ok (.iload 6, 2) := dk_21 6 (dk_at dksX7_of_4 8 rfl rfl)
theorem dX7_of_100 : decode cX7_of 100 = .ok (.ifCond .eq 8, 3) := dk_153 0 8 (dk_at dksX7_of_4 10 rfl rfl)
theorem dX7_of_103 : decode cX7_of 103 = .ok (.iload 4, 2) := dk_21 4 (dk_at dksX7_of_4 13 rfl rfl)
theorem dX7_of_105 : decode cX7_of 105 = .ok (.goto 4, 3) := dk_167 0 4 (dk_at dksX7_of_4 15 rfl rfl)
theorem dX7_of_108 : decode cX7_of 108 = .ok (.iload_n 3, 1) := dk_29 (dk_at dksX7_of_4 18 rfl rfl)
theorem dX7_of_109 : decode cX7_of 109 = .ok (.iload 9, 2) := dk_21 9 (dk_at dksX7_of_4 19 rfl rfl)
theorem dX7_of_111 : decode cX7_of 111 = .ok (.invokevirtual 103, 3) := dk_182 0 103 (dk_at dksX7_of_4 21 rfl rfl)
theorem dX7_of_114 : decode cX7_of 114 = .ok (.istore 10, 2) := dk_54 10 (dk_at dksX7_of_5 0 rfl rfl)
theorem dX7_of_116 : decode cX7_of 116 = .ok (.aload_n 0, 1) := dk_42 (dk_at dksX7_of_5 2 rfl rfl)
theorem dX7_of_117 : decode cX7_of 117 = .ok (.iload 8, 2) := dk_21 8 (dk_at dksX7_of_5 3 rfl rfl)
theorem dX7_of_119 : decode cX7_of 119 = .ok (.iload 6, 2) := dk_21 6 (dk_at dksX7_of_5 5 rfl rfl)
theorem dX7_of_121 : decode cX7_of 121 = .ok (.ifCond .eq 7, 3) := dk_153 0 7 (dk_at dksX7_of_5 7 rfl rfl)
theorem dX7_of_124 : decode cX7_of 124 = .ok (.iload_n 2, 1) := dk_28 (dk_at dksX7_of_5 10 rfl rfl)
theorem dX7_of_125 : decode cX7_of 125 = .ok (.goto 4, 3) := dk_167 0 4 (dk_at dksX7_of_5 11 rfl rfl)
theorem dX7_of_128 : decode cX7_of 128 = .ok (.iload_n 1, 1) := dk_27 (dk_at dksX7_of_5 14 rfl rfl)
theorem dX7_of_129 : decode cX7_of 129 = .ok (.iload 6, 2) := dk_21 6 (dk_at dksX7_of_5 15 rfl rfl)
theorem dX7_of_131 : decode cX7_of 131 = .ok (.ifCond .eq 8, 3) := dk_153 0 8 (dk_at dksX7_of_5 17 rfl rfl)
theorem dX7_of_134 : decode cX7_of 134 = .ok (.iload 4, 2) := dk_21 4 (dk_at dksX7_of_5 20 rfl rfl)
theorem dX7_of_136 : decode cX7_of 136 = .ok (.goto 4, 3) := dk_167 0 4 (dk_at dksX7_of_6 0 rfl rfl)
theorem dX7_of_139 : decode cX7_of 139 = .ok (.iload_n 3, 1) := dk_29 (dk_at dksX7_of_6 3 rfl rfl)
theorem dX7_of_140 : decode cX7_of 140 = .ok (.aload_n 0, 1) := dk_42 (dk_at dksX7_of_6 4 rfl rfl)
theorem dX7_of_141 : decode cX7_of 141 = .ok (.getfield 3, 3) := dk_180 0 3 (dk_at dksX7_of_6 5 rfl rfl)
theorem dX7_of_144 : decode cX7_of 144 = .ok (.getfield 33, 3) := dk_180 0 33 (dk_at dksX7_of_6 8 rfl rfl)
theorem dX7_of_147 : decode cX7_of 147 = .ok (.getfield 55, 3) := dk_180 0 55 (dk_at dksX7_of_6 11 rfl rfl)
theorem dX7_of_150 : decode cX7_of 150 = .ok (.iload 7, 2) := dk_21 7 (dk_at dksX7_of_6 14 rfl rfl)
theorem dX7_of_152 : decode cX7_of 152 = .ok (.aaload, 1) := dk_50 (dk_at dksX7_of_6 16 rfl rfl)
theorem dX7_of_153 : decode cX7_of 153 = .ok (.getfield 68, 3) := dk_180 0 68 (dk_at dksX7_of_6 17 rfl rfl)
theorem dX7_of_156 : decode cX7_of 156 = .ok (.iconst 2, 1) := dk_5 (dk_at dksX7_of_6 20 rfl rfl)
theorem dX7_of_157 : decode cX7_of 157 = .ok (.iaload, 1) := dk_46 (dk_at dksX7_of_6 21 rfl rfl)
theorem dX7_of_158 : decode cX7_of 158 = .ok (.invokevirtual 103, 3) := dk_182 0 103 (dk_at dksX7_of_7 0 rfl rfl)
theorem dX7_of_161 : decode cX7_of 161 = .ok (.istore 11, 2) := dk_54 11 (dk_at dksX7_of_7 3 rfl rfl)
theorem dX7_of_163 : decode cX7_of 163 = .ok (.aload_n 0, 1) := dk_42 (dk_at dksX7_of_7 5 rfl rfl)
theorem dX7_of_164 : decode cX7_of 164 = .ok (.iload 7, 2) := dk_21 7 (dk_at dksX7_of_7 6 rfl rfl)
theorem dX7_of_166 : decode cX7_of 166 = .ok (.iload 9, 2) := dk_21 9 (dk_at dksX7_of_7 8 rfl rfl)
theorem dX7_of_168 : decode cX7_of 168 = .ok (.invokevirtual 80, 3) := dk_182 0 80 (dk_at dksX7_of_7 10 rfl rfl)
theorem dX7_of_171 : decode cX7_of 171 = .ok (.iload 10, 2) := dk_21 10 (dk_at dksX7_of_7 13 rfl rfl)
theorem dX7_of_173 : decode cX7_of 173 = .ok (.i2l, 1) := dk_133 (dk_at dksX7_of_7 15 rfl rfl)
theorem dX7_of_174 : decode cX7_of 174 = .ok (.iload 11, 2) := dk_21 11 (dk_at dksX7_of_7 16 rfl rfl)
theorem dX7_of_176 : decode cX7_of 176 = .ok (.i2l, 1) := dk_133 (dk_at dksX7_of_7 18 rfl rfl)
theorem dX7_of_177 : decode cX7_of 177 = .ok (.invokestatic 83, 3) := dk_184 0 83 (dk_at dksX7_of_7 19 rfl rfl)
theorem dX7_of_180 : decode cX7_of 180 = .ok (.l2i, 1) := dk_136 (dk_at dksX7_of_7 22 rfl rfl)
theorem dX7_of_181 : decode cX7_of 181 = .ok (.istore 12, 2) := dk_54 12 (dk_at dksX7_of_8 0 rfl rfl)
theorem dX7_of_183 : decode cX7_of 183 = .ok (.iconst 0, 1) := dk_3 (dk_at dksX7_of_8 2 rfl rfl)
theorem dX7_of_184 : decode cX7_of 184 = .ok (.istore 13, 2) := dk_54 13 (dk_at dksX7_of_8 3 rfl rfl)
theorem dX7_of_186 : decode cX7_of 186 = .ok (.iload 9, 2) := dk_21 9 (dk_at dksX7_of_8 5 rfl rfl)
theorem dX7_of_188 : decode cX7_of 188 = .ok (.iconst 1, 1) := dk_4 (dk_at dksX7_of_8 7 rfl rfl)
theorem dX7_of_189 : decode cX7_of 189 = .ok (.iadd, 1) := dk_96 (dk_at dksX7_of_8 8 rfl rfl)
theorem dX7_of_190 : decode cX7_of 190 = .ok (.istore 14, 2) := dk_54 14 (dk_at dksX7_of_8 9 rfl rfl)
theorem dX7_of_192 : decode cX7_of 192 = .ok (.iload 14, 2) := dk_21 14 (dk_at dksX7_of_8 11 rfl rfl)
theorem dX7_of_194 : decode cX7_of 194 = .ok (.bipush 40, 2) := dk_16 40 (dk_at dksX7_of_8 13 rfl rfl)
theorem dX7_of_196 : decode cX7_of 196 = .ok (.if_icmp .gt 81, 3) := dk_163 0 81 (dk_at dksX7_of_8 15 rfl rfl)
theorem dX7_of_199 : decode cX7_of 199 = .ok (.iload 6, 2) := dk_21 6 (dk_at dksX7_of_8 18 rfl rfl)
theorem dX7_of_201 : decode cX7_of 201 = .ok (.ifCond .eq 7, 3) := dk_153 0 7 (dk_at dksX7_of_8 20 rfl rfl)
theorem dX7_of_204 : decode cX7_of 204 = .ok (.iload_n 3, 1) := dk_29 (dk_at dksX7_of_8 23 rfl rfl)
theorem dX7_of_205 : decode cX7_of 205 = .ok (.goto 5, 3) := dk_167 0 5 (dk_at dksX7_of_9 0 rfl rfl)
theorem dX7_of_208 : decode cX7_of 208 = .ok (.iload 4, 2) := dk_21 4 (dk_at dksX7_of_9 3 rfl rfl)
theorem dX7_of_210 : decode cX7_of 210 = .ok (.ifCond .le 67, 3) := dk_158 0 67 (dk_at dksX7_of_9 5 rfl rfl)
theorem dX7_of_213 : decode cX7_of 213 = .ok (.iload 6, 2) := dk_21 6 (dk_at dksX7_of_9 8 rfl rfl)
theorem dX7_of_215 : decode cX7_of 215 = .ok (.ifCond .eq 18, 3) := dk_153 0 18 (dk_at dksX7_of_9 10 rfl rfl)
theorem dX7_of_218 : decode cX7_of 218 = .ok (.aload_n 0, 1) := dk_42 (dk_at dksX7_of_9 13 rfl rfl)
theorem dX7_of_219 : decode cX7_of 219 = .ok (.iload 14, 2) := dk_21 14 (dk_at dksX7_of_9 14 rfl rfl)
theorem dX7_of_221 : decode cX7_of 221 = .ok (.iload_n 2, 1) := dk_28 (dk_at dksX7_of_9 16 rfl rfl)
theorem dX7_of_222 : decode cX7_of 222 = .ok (.iload_n 3, 1) := dk_29 (dk_at dksX7_of_9 17 rfl rfl)
theorem dX7_of_223 : decode cX7_of 223 = .ok (.iconst 1, 1) := dk_4 (dk_at dksX7_of_9 18 rfl rfl)
theorem dX7_of_224 : decode cX7_of 224 = .ok (.isub, 1) := dk_100 (dk_at dksX7_of_9 19 rfl rfl)
theorem dX7_of_225 : decode cX7_of 225 = .ok (.iload 4, 2) := dk_21 4 (dk_at dksX7_of_9 20 rfl rfl)
theorem dX7_of_227 : decode cX7_of 227 = .ok (.invokevirtual 106, 3) := dk_182 0 106 (dk_at dksX7_of_10 0 rfl rfl)
theorem dX7_of_230 : decode cX7_of 230 = .ok (.goto 15, 3) := dk_167 0 15 (dk_at dksX7_of_10 3 rfl rfl)
theorem dX7_of_233 : decode cX7_of 233 = .ok (.aload_n 0, 1) := dk_42 (dk_at dksX7_of_10 6 rfl rfl)
theorem dX7_of_234 : decode cX7_of 234 = .ok (.iload_n 1, 1) := dk_27 (dk_at dksX7_of_10 7 rfl rfl)
theorem dX7_of_235 : decode cX7_of 235 = .ok (.iload 14, 2) := dk_21 14 (dk_at dksX7_of_10 8 rfl rfl)
theorem dX7_of_237 : decode cX7_of 237 = .ok (.iload_n 3, 1) := dk_29 (dk_at dksX7_of_10 10 rfl rfl)
theorem dX7_of_238 : decode cX7_of 238 = .ok (.iload 4, 2) := dk_21 4 (dk_at dksX7_of_10 11 rfl rfl)
theorem dX7_of_240 : decode cX7_of 240 = .ok (.iconst 1, 1) := dk_4 (dk_at dksX7_of_10 13 rfl rfl)
theorem dX7_of_241 : decode cX7_of 241 = .ok (.isub, 1) := dk_100 (dk_at dksX7_of_10 14 rfl rfl)
theorem dX7_of_242 : decode cX7_of 242 = .ok (.invokevirtual 106, 3) := dk_182 0 106 (dk_at dksX7_of_10 15 rfl rfl)
theorem dX7_of_245 : decode cX7_of 245 = .ok (.istore 15, 2) := dk_54 15 (dk_at dksX7_of_10 18 rfl rfl)
theorem dX7_of_247 : decode cX7_of 247 = .ok (.aload_n 0, 1) := dk_42 (dk_at dksX7_of_10 20 rfl rfl)
theorem dX7_of_248 : decode cX7_of 248 = .ok (.iload 7, 2) := dk_21 7 (dk_at dksX7_of_10 21 rfl rfl)
theorem dX7_of_250 : decode cX7_of 250 = .ok (.iload 15, 2) := dk_21 15 (dk_at dksX7_of_11 0 rfl rfl)
theorem dX7_of_252 : decode cX7_of 252 = .ok (.iload 12, 2) := dk_21 12 (dk_at dksX7_of_11 2 rfl rfl)
theorem dX7_of_254 : decode cX7_of 254 = .ok (.invokevirtual 91, 3) := dk_182 0 91 (dk_at dksX7_of_11 4 rfl rfl)
theorem dX7_of_257 : decode cX7_of 257 = .ok (.ifCond .ne 6, 3) := dk_154 0 6 (dk_at dksX7_of_11 7 rfl rfl)
theorem dX7_of_260 : decode cX7_of 260 = .ok (.goto 11, 3) := dk_167 0 11 (dk_at dksX7_of_11 10 rfl rfl)
theorem dX7_of_263 : decode cX7_of 263 = .ok (.iload 15, 2) := dk_21 15 (dk_at dksX7_of_11 13 rfl rfl)
theorem dX7_of_265 : decode cX7_of 265 = .ok (.istore 12, 2) := dk_54 12 (dk_at dksX7_of_11 15 rfl rfl)
theorem dX7_of_267 : decode cX7_of 267 = .ok (.iload 14, 2) := dk_21 14 (dk_at dksX7_of_11 17 rfl rfl)
theorem dX7_of_269 : decode cX7_of 269 = .ok (.istore 13, 2) := dk_54 13 (dk_at dksX7_of_11 19 rfl rfl)
theorem dX7_of_271 : decode cX7_of 271 = .ok (.iinc 14 1, 3) := dk_132 14 1 (dk_at dksX7_of_11 21 rfl rfl)
theorem dX7_of_274 : decode cX7_of 274 = .ok (.goto (-82), 3) := dk_167 255 174 (dk_at dksX7_of_12 0 rfl rfl)
theorem dX7_of_277 : decode cX7_of 277 = .ok (.aload_n 0, 1) := dk_42 (dk_at dksX7_of_12 3 rfl rfl)
theorem dX7_of_278 : decode cX7_of 278 = .ok (.getfield 22, 3) := dk_180 0 22 (dk_at dksX7_of_12 4 rfl rfl)
theorem dX7_of_281 : decode cX7_of 281 = .ok (.iload 5, 2) := dk_21 5 (dk_at dksX7_of_12 7 rfl rfl)
theorem dX7_of_283 : decode cX7_of 283 = .ok (.iconst 1, 1) := dk_4 (dk_at dksX7_of_12 9 rfl rfl)
theorem dX7_of_284 : decode cX7_of 284 = .ok (.bastore, 1) := dk_84 (dk_at dksX7_of_12 10 rfl rfl)
theorem dX7_of_285 : decode cX7_of 285 = .ok (.aload_n 0, 1) := dk_42 (dk_at dksX7_of_12 11 rfl rfl)
theorem dX7_of_286 : decode cX7_of 286 = .ok (.getfield 15, 3) := dk_180 0 15 (dk_at dksX7_of_12 12 rfl rfl)
theorem dX7_of_289 : decode cX7_of 289 = .ok (.iload 5, 2) := dk_21 5 (dk_at dksX7_of_12 15 rfl rfl)
theorem dX7_of_291 : decode cX7_of 291 = .ok (.iload 12, 2) := dk_21 12 (dk_at dksX7_of_12 17 rfl rfl)
theorem dX7_of_293 : decode cX7_of 293 = .ok (.iastore, 1) := dk_79 (dk_at dksX7_of_12 19 rfl rfl)
theorem dX7_of_294 : decode cX7_of 294 = .ok (.aload_n 0, 1) := dk_42 (dk_at dksX7_of_12 20 rfl rfl)
theorem dX7_of_295 : decode cX7_of 295 = .ok (.getfield 19, 3) := dk_180 0 19 (dk_at dksX7_of_12 21 rfl rfl)
theorem dX7_of_298 : decode cX7_of 298 = .ok (.iload 5, 2) := dk_21 5 (dk_at dksX7_of_13 0 rfl rfl)
theorem dX7_of_300 : decode cX7_of 300 = .ok (.iload 13, 2) := dk_21 13 (dk_at dksX7_of_13 2 rfl rfl)
theorem dX7_of_302 : decode cX7_of 302 = .ok (.iastore, 1) := dk_79 (dk_at dksX7_of_13 4 rfl rfl)
theorem dX7_of_303 : decode cX7_of 303 = .ok (.iload 12, 2) := dk_21 12 (dk_at dksX7_of_13 5 rfl rfl)
theorem dX7_of_305 : decode cX7_of 305 = .ok (.ireturn, 1) := dk_172 (dk_at dksX7_of_13 7 rfl rfl)
abbrev cX7_cell : ByteArray := prog_4_method_3_code
def yX7_cell : MethodName := ⟨RX7, "cell", "(IIII)I"⟩
def dkwX7_cell_0 : List UInt8 := [6, 29, 104, 21, 4, 96, 16, 41, 104, 27, 96, 16, 41, 104, 28, 96, 172]
abbrev dktX7_cell_0 : List UInt8 := dkwX7_cell_0 ++ []
theorem dksX7_cell_0 : cX7_cell.data.toList.drop 0 = dktX7_cell_0 := by decide +kernel
theorem dX7_cell_0 : decode cX7_cell 0 = .ok (.iconst 3, 1) := dk_6 (dk_at dksX7_cell_0 0 rfl rfl)
theorem dX7_cell_1 : decode cX7_cell 1 = .ok (.iload_n 3, 1) := dk_29 (dk_at dksX7_cell_0 1 rfl rfl)
theorem dX7_cell_2 : decode cX7_cell 2 = .ok (.imul, 1) := dk_104 (dk_at dksX7_cell_0 2 rfl rfl)
theorem dX7_cell_3 : decode cX7_cell 3 = .ok (.iload 4, 2) := dk_21 4 (dk_at dksX7_cell_0 3 rfl rfl)
theorem dX7_cell_5 : decode cX7_cell 5 = .ok (.iadd, 1) := dk_96 (dk_at dksX7_cell_0 5 rfl rfl)
theorem dX7_cell_6 : decode cX7_cell 6 = .ok (.bipush 41, 2) := dk_16 41 (dk_at dksX7_cell_0 6 rfl rfl)
theorem dX7_cell_8 : decode cX7_cell 8 = .ok (.imul, 1) := dk_104 (dk_at dksX7_cell_0 8 rfl rfl)
theorem dX7_cell_9 : decode cX7_cell 9 = .ok (.iload_n 1, 1) := dk_27 (dk_at dksX7_cell_0 9 rfl rfl)
theorem dX7_cell_10 : decode cX7_cell 10 = .ok (.iadd, 1) := dk_96 (dk_at dksX7_cell_0 10 rfl rfl)
theorem dX7_cell_11 : decode cX7_cell 11 = .ok (.bipush 41, 2) := dk_16 41 (dk_at dksX7_cell_0 11 rfl rfl)
theorem dX7_cell_13 : decode cX7_cell 13 = .ok (.imul, 1) := dk_104 (dk_at dksX7_cell_0 13 rfl rfl)
theorem dX7_cell_14 : decode cX7_cell 14 = .ok (.iload_n 2, 1) := dk_28 (dk_at dksX7_cell_0 14 rfl rfl)
theorem dX7_cell_15 : decode cX7_cell 15 = .ok (.iadd, 1) := dk_96 (dk_at dksX7_cell_0 15 rfl rfl)
theorem dX7_cell_16 : decode cX7_cell 16 = .ok (.ireturn, 1) := dk_172 (dk_at dksX7_cell_0 16 rfl rfl)
abbrev cX7_isFirst : ByteArray := prog_4_method_4_code
def yX7_isFirst : MethodName := ⟨RX7, "isFirst", "(II)Z"⟩
def dkwX7_isFirst_0 : List UInt8 := [42, 180, 0, 3, 180, 0, 33, 42, 180, 0, 26, 27, 42, 180, 0, 30, 28, 182, 0, 37, 172]
abbrev dktX7_isFirst_0 : List UInt8 := dkwX7_isFirst_0 ++ []
theorem dksX7_isFirst_0 : cX7_isFirst.data.toList.drop 0 = dktX7_isFirst_0 := by decide +kernel
theorem dX7_isFirst_0 : decode cX7_isFirst 0 = .ok (.aload_n 0, 1) := dk_42 (dk_at dksX7_isFirst_0 0 rfl rfl)
theorem dX7_isFirst_1 : decode cX7_isFirst 1 = .ok (.getfield 3, 3) := dk_180 0 3 (dk_at dksX7_isFirst_0 1 rfl rfl)
theorem dX7_isFirst_4 : decode cX7_isFirst 4 = .ok (.getfield 33, 3) := dk_180 0 33 (dk_at dksX7_isFirst_0 4 rfl rfl)
theorem dX7_isFirst_7 : decode cX7_isFirst 7 = .ok (.aload_n 0, 1) := dk_42 (dk_at dksX7_isFirst_0 7 rfl rfl)
theorem dX7_isFirst_8 : decode cX7_isFirst 8 = .ok (.getfield 26, 3) := dk_180 0 26 (dk_at dksX7_isFirst_0 8 rfl rfl)
theorem dX7_isFirst_11 : decode cX7_isFirst 11 = .ok (.iload_n 1, 1) := dk_27 (dk_at dksX7_isFirst_0 11 rfl rfl)
theorem dX7_isFirst_12 : decode cX7_isFirst 12 = .ok (.aload_n 0, 1) := dk_42 (dk_at dksX7_isFirst_0 12 rfl rfl)
theorem dX7_isFirst_13 : decode cX7_isFirst 13 = .ok (.getfield 30, 3) := dk_180 0 30 (dk_at dksX7_isFirst_0 13 rfl rfl)
theorem dX7_isFirst_16 : decode cX7_isFirst 16 = .ok (.iload_n 2, 1) := dk_28 (dk_at dksX7_isFirst_0 16 rfl rfl)
theorem dX7_isFirst_17 : decode cX7_isFirst 17 = .ok (.invokevirtual 37, 3) := dk_182 0 37 (dk_at dksX7_isFirst_0 17 rfl rfl)
theorem dX7_isFirst_20 : decode cX7_isFirst 20 = .ok (.ireturn, 1) := dk_172 (dk_at dksX7_isFirst_0 20 rfl rfl)
abbrev cX7_answers : ByteArray := prog_4_method_9_code
def yX7_answers : MethodName := ⟨RX7, "answers", "(IIII)I"⟩
def dkwX7_answers_2 : List UInt8 := [153, 0, 8, 21, 7, 167, 0, 5, 21, 5, 54, 5, 132, 6, 1, 167, 255, 210, 21, 5, 172]
abbrev dktX7_answers_2 : List UInt8 := dkwX7_answers_2 ++ []
def dkwX7_answers_1 : List UInt8 := [158, 0, 41, 42, 27, 21, 6, 21, 4, 182, 0, 87, 54, 7, 42, 27, 21, 7, 21, 5, 182, 0, 91]
abbrev dktX7_answers_1 : List UInt8 := dkwX7_answers_1 ++ dktX7_answers_2
def dkwX7_answers_0 : List UInt8 := [42, 27, 28, 21, 4, 182, 0, 87, 54, 5, 28, 4, 96, 54, 6, 21, 6, 16, 40, 163, 0, 45, 29]
abbrev dktX7_answers_0 : List UInt8 := dkwX7_answers_0 ++ dktX7_answers_1
theorem dksX7_answers_0 : cX7_answers.data.toList.drop 0 = dktX7_answers_0 := by decide +kernel
theorem dksX7_answers_1 : cX7_answers.data.toList.drop 23 = dktX7_answers_1 := dk_seg dksX7_answers_0 23 rfl rfl
theorem dksX7_answers_2 : cX7_answers.data.toList.drop 46 = dktX7_answers_2 := dk_seg dksX7_answers_1 23 rfl rfl
theorem dX7_answers_0 : decode cX7_answers 0 = .ok (.aload_n 0, 1) := dk_42 (dk_at dksX7_answers_0 0 rfl rfl)
theorem dX7_answers_1 : decode cX7_answers 1 = .ok (.iload_n 1, 1) := dk_27 (dk_at dksX7_answers_0 1 rfl rfl)
theorem dX7_answers_2 : decode cX7_answers 2 = .ok (.iload_n 2, 1) := dk_28 (dk_at dksX7_answers_0 2 rfl rfl)
theorem dX7_answers_3 : decode cX7_answers 3 = .ok (.iload 4, 2) := dk_21 4 (dk_at dksX7_answers_0 3 rfl rfl)
theorem dX7_answers_5 : decode cX7_answers 5 = .ok (.invokevirtual 87, 3) := dk_182 0 87 (dk_at dksX7_answers_0 5 rfl rfl)
theorem dX7_answers_8 : decode cX7_answers 8 = .ok (.istore 5, 2) := dk_54 5 (dk_at dksX7_answers_0 8 rfl rfl)
theorem dX7_answers_10 : decode cX7_answers 10 = .ok (.iload_n 2, 1) := dk_28 (dk_at dksX7_answers_0 10 rfl rfl)
theorem dX7_answers_11 : decode cX7_answers 11 = .ok (.iconst 1, 1) := dk_4 (dk_at dksX7_answers_0 11 rfl rfl)
theorem dX7_answers_12 : decode cX7_answers 12 = .ok (.iadd, 1) := dk_96 (dk_at dksX7_answers_0 12 rfl rfl)
theorem dX7_answers_13 : decode cX7_answers 13 = .ok (.istore 6, 2) := dk_54 6 (dk_at dksX7_answers_0 13 rfl rfl)
theorem dX7_answers_15 : decode cX7_answers 15 = .ok (.iload 6, 2) := dk_21 6 (dk_at dksX7_answers_0 15 rfl rfl)
theorem dX7_answers_17 : decode cX7_answers 17 = .ok (.bipush 40, 2) := dk_16 40 (dk_at dksX7_answers_0 17 rfl rfl)
theorem dX7_answers_19 : decode cX7_answers 19 = .ok (.if_icmp .gt 45, 3) := dk_163 0 45 (dk_at dksX7_answers_0 19 rfl rfl)
theorem dX7_answers_22 : decode cX7_answers 22 = .ok (.iload_n 3, 1) := dk_29 (dk_at dksX7_answers_0 22 rfl rfl)
theorem dX7_answers_23 : decode cX7_answers 23 = .ok (.ifCond .le 41, 3) := dk_158 0 41 (dk_at dksX7_answers_1 0 rfl rfl)
theorem dX7_answers_26 : decode cX7_answers 26 = .ok (.aload_n 0, 1) := dk_42 (dk_at dksX7_answers_1 3 rfl rfl)
theorem dX7_answers_27 : decode cX7_answers 27 = .ok (.iload_n 1, 1) := dk_27 (dk_at dksX7_answers_1 4 rfl rfl)
theorem dX7_answers_28 : decode cX7_answers 28 = .ok (.iload 6, 2) := dk_21 6 (dk_at dksX7_answers_1 5 rfl rfl)
theorem dX7_answers_30 : decode cX7_answers 30 = .ok (.iload 4, 2) := dk_21 4 (dk_at dksX7_answers_1 7 rfl rfl)
theorem dX7_answers_32 : decode cX7_answers 32 = .ok (.invokevirtual 87, 3) := dk_182 0 87 (dk_at dksX7_answers_1 9 rfl rfl)
theorem dX7_answers_35 : decode cX7_answers 35 = .ok (.istore 7, 2) := dk_54 7 (dk_at dksX7_answers_1 12 rfl rfl)
theorem dX7_answers_37 : decode cX7_answers 37 = .ok (.aload_n 0, 1) := dk_42 (dk_at dksX7_answers_1 14 rfl rfl)
theorem dX7_answers_38 : decode cX7_answers 38 = .ok (.iload_n 1, 1) := dk_27 (dk_at dksX7_answers_1 15 rfl rfl)
theorem dX7_answers_39 : decode cX7_answers 39 = .ok (.iload 7, 2) := dk_21 7 (dk_at dksX7_answers_1 16 rfl rfl)
theorem dX7_answers_41 : decode cX7_answers 41 = .ok (.iload 5, 2) := dk_21 5 (dk_at dksX7_answers_1 18 rfl rfl)
theorem dX7_answers_43 : decode cX7_answers 43 = .ok (.invokevirtual 91, 3) := dk_182 0 91 (dk_at dksX7_answers_1 20 rfl rfl)
theorem dX7_answers_46 : decode cX7_answers 46 = .ok (.ifCond .eq 8, 3) := dk_153 0 8 (dk_at dksX7_answers_2 0 rfl rfl)
theorem dX7_answers_49 : decode cX7_answers 49 = .ok (.iload 7, 2) := dk_21 7 (dk_at dksX7_answers_2 3 rfl rfl)
theorem dX7_answers_51 : decode cX7_answers 51 = .ok (.goto 5, 3) := dk_167 0 5 (dk_at dksX7_answers_2 5 rfl rfl)
theorem dX7_answers_54 : decode cX7_answers 54 = .ok (.iload 5, 2) := dk_21 5 (dk_at dksX7_answers_2 8 rfl rfl)
theorem dX7_answers_56 : decode cX7_answers 56 = .ok (.istore 5, 2) := dk_54 5 (dk_at dksX7_answers_2 10 rfl rfl)
theorem dX7_answers_58 : decode cX7_answers 58 = .ok (.iinc 6 1, 3) := dk_132 6 1 (dk_at dksX7_answers_2 12 rfl rfl)
theorem dX7_answers_61 : decode cX7_answers 61 = .ok (.goto (-46), 3) := dk_167 255 210 (dk_at dksX7_answers_2 15 rfl rfl)
theorem dX7_answers_64 : decode cX7_answers 64 = .ok (.iload 5, 2) := dk_21 5 (dk_at dksX7_answers_2 18 rfl rfl)
theorem dX7_answers_66 : decode cX7_answers 66 = .ok (.ireturn, 1) := dk_172 (dk_at dksX7_answers_2 20 rfl rfl)
abbrev cX7_last : ByteArray := prog_4_method_7_code
def yX7_last : MethodName := ⟨RX7, "last", "(III)I"⟩
def dkwX7_last_3 : List UInt8 := [54, 6, 42, 27, 28, 182, 0, 80, 21, 5, 133, 21, 6, 133, 184, 0, 83, 136, 172]
abbrev dktX7_last_3 : List UInt8 := dkwX7_last_3 ++ []
def dkwX7_last_2 : List UInt8 := [180, 0, 26, 160, 0, 13, 42, 21, 4, 29, 182, 0, 76, 167, 0, 10, 42, 29, 21, 4, 182, 0, 76]
abbrev dktX7_last_2 : List UInt8 := dkwX7_last_2 ++ dktX7_last_3
def dkwX7_last_1 : List UInt8 := [160, 0, 12, 42, 28, 29, 182, 0, 76, 167, 0, 9, 42, 29, 28, 182, 0, 76, 54, 5, 27, 42]
abbrev dktX7_last_1 : List UInt8 := dkwX7_last_1 ++ dktX7_last_2
def dkwX7_last_0 : List UInt8 := [42, 180, 0, 3, 180, 0, 33, 180, 0, 55, 27, 50, 180, 0, 68, 5, 46, 54, 4, 27, 42, 180, 0, 26]
abbrev dktX7_last_0 : List UInt8 := dkwX7_last_0 ++ dktX7_last_1
theorem dksX7_last_0 : cX7_last.data.toList.drop 0 = dktX7_last_0 := by decide +kernel
theorem dksX7_last_1 : cX7_last.data.toList.drop 24 = dktX7_last_1 := dk_seg dksX7_last_0 24 rfl rfl
theorem dksX7_last_2 : cX7_last.data.toList.drop 46 = dktX7_last_2 := dk_seg dksX7_last_1 22 rfl rfl
theorem dksX7_last_3 : cX7_last.data.toList.drop 69 = dktX7_last_3 := dk_seg dksX7_last_2 23 rfl rfl
theorem dX7_last_0 : decode cX7_last 0 = .ok (.aload_n 0, 1) := dk_42 (dk_at dksX7_last_0 0 rfl rfl)
theorem dX7_last_1 : decode cX7_last 1 = .ok (.getfield 3, 3) := dk_180 0 3 (dk_at dksX7_last_0 1 rfl rfl)
theorem dX7_last_4 : decode cX7_last 4 = .ok (.getfield 33, 3) := dk_180 0 33 (dk_at dksX7_last_0 4 rfl rfl)
theorem dX7_last_7 : decode cX7_last 7 = .ok (.getfield 55, 3) := dk_180 0 55 (dk_at dksX7_last_0 7 rfl rfl)
theorem dX7_last_10 : decode cX7_last 10 = .ok (.iload_n 1, 1) := dk_27 (dk_at dksX7_last_0 10 rfl rfl)
theorem dX7_last_11 : decode cX7_last 11 = .ok (.aaload, 1) := dk_50 (dk_at dksX7_last_0 11 rfl rfl)
theorem dX7_last_12 : decode cX7_last 12 = .ok (.getfield 68, 3) := dk_180 0 68 (dk_at dksX7_last_0 12 rfl rfl)
theorem dX7_last_15 : decode cX7_last 15 = .ok (.iconst 2, 1) := dk_5 (dk_at dksX7_last_0 15 rfl rfl)
theorem dX7_last_16 : decode cX7_last 16 = .ok (.iaload, 1) := dk_46 (dk_at dksX7_last_0 16 rfl rfl)
theorem dX7_last_17 : decode cX7_last 17 = .ok (.istore 4, 2) := dk_54 4 (dk_at dksX7_last_0 17 rfl rfl)
theorem dX7_last_19 : decode cX7_last 19 = .ok (.iload_n 1, 1) := dk_27 (dk_at dksX7_last_0 19 rfl rfl)
theorem dX7_last_20 : decode cX7_last 20 = .ok (.aload_n 0, 1) := dk_42 (dk_at dksX7_last_0 20 rfl rfl)
theorem dX7_last_21 : decode cX7_last 21 = .ok (.getfield 26, 3) := dk_180 0 26 (dk_at dksX7_last_0 21 rfl rfl)
theorem dX7_last_24 : decode cX7_last 24 = .ok (.if_icmp .ne 12, 3) := dk_160 0 12 (dk_at dksX7_last_1 0 rfl rfl)
theorem dX7_last_27 : decode cX7_last 27 = .ok (.aload_n 0, 1) := dk_42 (dk_at dksX7_last_1 3 rfl rfl)
theorem dX7_last_28 : decode cX7_last 28 = .ok (.iload_n 2, 1) := dk_28 (dk_at dksX7_last_1 4 rfl rfl)
theorem dX7_last_29 : decode cX7_last 29 = .ok (.iload_n 3, 1) := dk_29 (dk_at dksX7_last_1 5 rfl rfl)
theorem dX7_last_30 : decode cX7_last 30 = .ok (.invokevirtual 76, 3) := dk_182 0 76 (dk_at dksX7_last_1 6 rfl rfl)
theorem dX7_last_33 : decode cX7_last 33 = .ok (.goto 9, 3) := dk_167 0 9 (dk_at dksX7_last_1 9 rfl rfl)
theorem dX7_last_36 : decode cX7_last 36 = .ok (.aload_n 0, 1) := dk_42 (dk_at dksX7_last_1 12 rfl rfl)
theorem dX7_last_37 : decode cX7_last 37 = .ok (.iload_n 3, 1) := dk_29 (dk_at dksX7_last_1 13 rfl rfl)
theorem dX7_last_38 : decode cX7_last 38 = .ok (.iload_n 2, 1) := dk_28 (dk_at dksX7_last_1 14 rfl rfl)
theorem dX7_last_39 : decode cX7_last 39 = .ok (.invokevirtual 76, 3) := dk_182 0 76 (dk_at dksX7_last_1 15 rfl rfl)
theorem dX7_last_42 : decode cX7_last 42 = .ok (.istore 5, 2) := dk_54 5 (dk_at dksX7_last_1 18 rfl rfl)
theorem dX7_last_44 : decode cX7_last 44 = .ok (.iload_n 1, 1) := dk_27 (dk_at dksX7_last_1 20 rfl rfl)
theorem dX7_last_45 : decode cX7_last 45 = .ok (.aload_n 0, 1) := dk_42 (dk_at dksX7_last_1 21 rfl rfl)
theorem dX7_last_46 : decode cX7_last 46 = .ok (.getfield 26, 3) := dk_180 0 26 (dk_at dksX7_last_2 0 rfl rfl)
theorem dX7_last_49 : decode cX7_last 49 = .ok (.if_icmp .ne 13, 3) := dk_160 0 13 (dk_at dksX7_last_2 3 rfl rfl)
theorem dX7_last_52 : decode cX7_last 52 = .ok (.aload_n 0, 1) := dk_42 (dk_at dksX7_last_2 6 rfl rfl)
theorem dX7_last_53 : decode cX7_last 53 = .ok (.iload 4, 2) := dk_21 4 (dk_at dksX7_last_2 7 rfl rfl)
theorem dX7_last_55 : decode cX7_last 55 = .ok (.iload_n 3, 1) := dk_29 (dk_at dksX7_last_2 9 rfl rfl)
theorem dX7_last_56 : decode cX7_last 56 = .ok (.invokevirtual 76, 3) := dk_182 0 76 (dk_at dksX7_last_2 10 rfl rfl)
theorem dX7_last_59 : decode cX7_last 59 = .ok (.goto 10, 3) := dk_167 0 10 (dk_at dksX7_last_2 13 rfl rfl)
theorem dX7_last_62 : decode cX7_last 62 = .ok (.aload_n 0, 1) := dk_42 (dk_at dksX7_last_2 16 rfl rfl)
theorem dX7_last_63 : decode cX7_last 63 = .ok (.iload_n 3, 1) := dk_29 (dk_at dksX7_last_2 17 rfl rfl)
theorem dX7_last_64 : decode cX7_last 64 = .ok (.iload 4, 2) := dk_21 4 (dk_at dksX7_last_2 18 rfl rfl)
theorem dX7_last_66 : decode cX7_last 66 = .ok (.invokevirtual 76, 3) := dk_182 0 76 (dk_at dksX7_last_2 20 rfl rfl)
theorem dX7_last_69 : decode cX7_last 69 = .ok (.istore 6, 2) := dk_54 6 (dk_at dksX7_last_3 0 rfl rfl)
theorem dX7_last_71 : decode cX7_last 71 = .ok (.aload_n 0, 1) := dk_42 (dk_at dksX7_last_3 2 rfl rfl)
theorem dX7_last_72 : decode cX7_last 72 = .ok (.iload_n 1, 1) := dk_27 (dk_at dksX7_last_3 3 rfl rfl)
theorem dX7_last_73 : decode cX7_last 73 = .ok (.iload_n 2, 1) := dk_28 (dk_at dksX7_last_3 4 rfl rfl)
theorem dX7_last_74 : decode cX7_last 74 = .ok (.invokevirtual 80, 3) := dk_182 0 80 (dk_at dksX7_last_3 5 rfl rfl)
theorem dX7_last_77 : decode cX7_last 77 = .ok (.iload 5, 2) := dk_21 5 (dk_at dksX7_last_3 8 rfl rfl)
theorem dX7_last_79 : decode cX7_last 79 = .ok (.i2l, 1) := dk_133 (dk_at dksX7_last_3 10 rfl rfl)
theorem dX7_last_80 : decode cX7_last 80 = .ok (.iload 6, 2) := dk_21 6 (dk_at dksX7_last_3 11 rfl rfl)
theorem dX7_last_82 : decode cX7_last 82 = .ok (.i2l, 1) := dk_133 (dk_at dksX7_last_3 13 rfl rfl)
theorem dX7_last_83 : decode cX7_last 83 = .ok (.invokestatic 83, 3) := dk_184 0 83 (dk_at dksX7_last_3 14 rfl rfl)
theorem dX7_last_86 : decode cX7_last 86 = .ok (.l2i, 1) := dk_136 (dk_at dksX7_last_3 17 rfl rfl)
theorem dX7_last_87 : decode cX7_last 87 = .ok (.ireturn, 1) := dk_172 (dk_at dksX7_last_3 18 rfl rfl)
abbrev cX7_ended : ByteArray := prog_4_method_6_code
def yX7_ended : MethodName := ⟨RX7, "ended", "(II)I"⟩
def dkwX7_ended_6 : List UInt8 := [167, 0, 4, 3, 172]
abbrev dktX7_ended_6 : List UInt8 := dkwX7_ended_6 ++ []
def dkwX7_ended_5 : List UInt8 := [167, 0, 7, 21, 4, 28, 96, 28, 154, 0, 7, 4, 167, 0, 4, 3, 182, 0, 71, 153, 0, 8, 18, 75]
abbrev dktX7_ended_5 : List UInt8 := dkwX7_ended_5 ++ dktX7_ended_6
def dkwX7_ended_4 : List UInt8 := [180, 0, 3, 180, 0, 33, 42, 180, 0, 26, 29, 27, 96, 3, 42, 180, 0, 30, 28, 154, 0, 7, 3]
abbrev dktX7_ended_4 : List UInt8 := dkwX7_ended_4 ++ dktX7_ended_5
def dkwX7_ended_3 : List UInt8 := [180, 0, 55, 42, 180, 0, 30, 50, 180, 0, 68, 4, 46, 96, 54, 4, 27, 154, 0, 5, 3, 172, 42]
abbrev dktX7_ended_3 : List UInt8 := dkwX7_ended_3 ++ dktX7_ended_4
def dkwX7_ended_2 : List UInt8 := [180, 0, 33, 180, 0, 55, 42, 180, 0, 30, 50, 180, 0, 68, 3, 46, 42, 180, 0, 3, 180, 0, 33]
abbrev dktX7_ended_2 : List UInt8 := dkwX7_ended_2 ++ dktX7_ended_3
def dkwX7_ended_1 : List UInt8 := [180, 0, 33, 180, 0, 55, 42, 180, 0, 26, 50, 180, 0, 68, 4, 46, 96, 62, 42, 180, 0, 3]
abbrev dktX7_ended_1 : List UInt8 := dkwX7_ended_1 ++ dktX7_ended_2
def dkwX7_ended_0 : List UInt8 := [42, 180, 0, 3, 180, 0, 33, 180, 0, 55, 42, 180, 0, 26, 50, 180, 0, 68, 3, 46, 42, 180, 0, 3]
abbrev dktX7_ended_0 : List UInt8 := dkwX7_ended_0 ++ dktX7_ended_1
theorem dksX7_ended_0 : cX7_ended.data.toList.drop 0 = dktX7_ended_0 := by decide +kernel
theorem dksX7_ended_1 : cX7_ended.data.toList.drop 24 = dktX7_ended_1 := dk_seg dksX7_ended_0 24 rfl rfl
theorem dksX7_ended_2 : cX7_ended.data.toList.drop 46 = dktX7_ended_2 := dk_seg dksX7_ended_1 22 rfl rfl
theorem dksX7_ended_3 : cX7_ended.data.toList.drop 69 = dktX7_ended_3 := dk_seg dksX7_ended_2 23 rfl rfl
theorem dksX7_ended_4 : cX7_ended.data.toList.drop 92 = dktX7_ended_4 := dk_seg dksX7_ended_3 23 rfl rfl
theorem dksX7_ended_5 : cX7_ended.data.toList.drop 115 = dktX7_ended_5 := dk_seg dksX7_ended_4 23 rfl rfl
theorem dksX7_ended_6 : cX7_ended.data.toList.drop 139 = dktX7_ended_6 := dk_seg dksX7_ended_5 24 rfl rfl
theorem dX7_ended_0 : decode cX7_ended 0 = .ok (.aload_n 0, 1) := dk_42 (dk_at dksX7_ended_0 0 rfl rfl)
theorem dX7_ended_1 : decode cX7_ended 1 = .ok (.getfield 3, 3) := dk_180 0 3 (dk_at dksX7_ended_0 1 rfl rfl)
theorem dX7_ended_4 : decode cX7_ended 4 = .ok (.getfield 33, 3) := dk_180 0 33 (dk_at dksX7_ended_0 4 rfl rfl)
theorem dX7_ended_7 : decode cX7_ended 7 = .ok (.getfield 55, 3) := dk_180 0 55 (dk_at dksX7_ended_0 7 rfl rfl)
theorem dX7_ended_10 : decode cX7_ended 10 = .ok (.aload_n 0, 1) := dk_42 (dk_at dksX7_ended_0 10 rfl rfl)
theorem dX7_ended_11 : decode cX7_ended 11 = .ok (.getfield 26, 3) := dk_180 0 26 (dk_at dksX7_ended_0 11 rfl rfl)
theorem dX7_ended_14 : decode cX7_ended 14 = .ok (.aaload, 1) := dk_50 (dk_at dksX7_ended_0 14 rfl rfl)
theorem dX7_ended_15 : decode cX7_ended 15 = .ok (.getfield 68, 3) := dk_180 0 68 (dk_at dksX7_ended_0 15 rfl rfl)
theorem dX7_ended_18 : decode cX7_ended 18 = .ok (.iconst 0, 1) := dk_3 (dk_at dksX7_ended_0 18 rfl rfl)
theorem dX7_ended_19 : decode cX7_ended 19 = .ok (.iaload, 1) := dk_46 (dk_at dksX7_ended_0 19 rfl rfl)
theorem dX7_ended_20 : decode cX7_ended 20 = .ok (.aload_n 0, 1) := dk_42 (dk_at dksX7_ended_0 20 rfl rfl)
theorem dX7_ended_21 : decode cX7_ended 21 = .ok (.getfield 3, 3) := dk_180 0 3 (dk_at dksX7_ended_0 21 rfl rfl)
theorem dX7_ended_24 : decode cX7_ended 24 = .ok (.getfield 33, 3) := dk_180 0 33 (dk_at dksX7_ended_1 0 rfl rfl)
theorem dX7_ended_27 : decode cX7_ended 27 = .ok (.getfield 55, 3) := dk_180 0 55 (dk_at dksX7_ended_1 3 rfl rfl)
theorem dX7_ended_30 : decode cX7_ended 30 = .ok (.aload_n 0, 1) := dk_42 (dk_at dksX7_ended_1 6 rfl rfl)
theorem dX7_ended_31 : decode cX7_ended 31 = .ok (.getfield 26, 3) := dk_180 0 26 (dk_at dksX7_ended_1 7 rfl rfl)
theorem dX7_ended_34 : decode cX7_ended 34 = .ok (.aaload, 1) := dk_50 (dk_at dksX7_ended_1 10 rfl rfl)
theorem dX7_ended_35 : decode cX7_ended 35 = .ok (.getfield 68, 3) := dk_180 0 68 (dk_at dksX7_ended_1 11 rfl rfl)
theorem dX7_ended_38 : decode cX7_ended 38 = .ok (.iconst 1, 1) := dk_4 (dk_at dksX7_ended_1 14 rfl rfl)
theorem dX7_ended_39 : decode cX7_ended 39 = .ok (.iaload, 1) := dk_46 (dk_at dksX7_ended_1 15 rfl rfl)
theorem dX7_ended_40 : decode cX7_ended 40 = .ok (.iadd, 1) := dk_96 (dk_at dksX7_ended_1 16 rfl rfl)
theorem dX7_ended_41 : decode cX7_ended 41 = .ok (.istore_n 3, 1) := dk_62 (dk_at dksX7_ended_1 17 rfl rfl)
theorem dX7_ended_42 : decode cX7_ended 42 = .ok (.aload_n 0, 1) := dk_42 (dk_at dksX7_ended_1 18 rfl rfl)
theorem dX7_ended_43 : decode cX7_ended 43 = .ok (.getfield 3, 3) := dk_180 0 3 (dk_at dksX7_ended_1 19 rfl rfl)
theorem dX7_ended_46 : decode cX7_ended 46 = .ok (.getfield 33, 3) := dk_180 0 33 (dk_at dksX7_ended_2 0 rfl rfl)
theorem dX7_ended_49 : decode cX7_ended 49 = .ok (.getfield 55, 3) := dk_180 0 55 (dk_at dksX7_ended_2 3 rfl rfl)
theorem dX7_ended_52 : decode cX7_ended 52 = .ok (.aload_n 0, 1) := dk_42 (dk_at dksX7_ended_2 6 rfl rfl)
theorem dX7_ended_53 : decode cX7_ended 53 = .ok (.getfield 30, 3) := dk_180 0 30 (dk_at dksX7_ended_2 7 rfl rfl)
theorem dX7_ended_56 : decode cX7_ended 56 = .ok (.aaload, 1) := dk_50 (dk_at dksX7_ended_2 10 rfl rfl)
theorem dX7_ended_57 : decode cX7_ended 57 = .ok (.getfield 68, 3) := dk_180 0 68 (dk_at dksX7_ended_2 11 rfl rfl)
theorem dX7_ended_60 : decode cX7_ended 60 = .ok (.iconst 0, 1) := dk_3 (dk_at dksX7_ended_2 14 rfl rfl)
theorem dX7_ended_61 : decode cX7_ended 61 = .ok (.iaload, 1) := dk_46 (dk_at dksX7_ended_2 15 rfl rfl)
theorem dX7_ended_62 : decode cX7_ended 62 = .ok (.aload_n 0, 1) := dk_42 (dk_at dksX7_ended_2 16 rfl rfl)
theorem dX7_ended_63 : decode cX7_ended 63 = .ok (.getfield 3, 3) := dk_180 0 3 (dk_at dksX7_ended_2 17 rfl rfl)
theorem dX7_ended_66 : decode cX7_ended 66 = .ok (.getfield 33, 3) := dk_180 0 33 (dk_at dksX7_ended_2 20 rfl rfl)
theorem dX7_ended_69 : decode cX7_ended 69 = .ok (.getfield 55, 3) := dk_180 0 55 (dk_at dksX7_ended_3 0 rfl rfl)
theorem dX7_ended_72 : decode cX7_ended 72 = .ok (.aload_n 0, 1) := dk_42 (dk_at dksX7_ended_3 3 rfl rfl)
theorem dX7_ended_73 : decode cX7_ended 73 = .ok (.getfield 30, 3) := dk_180 0 30 (dk_at dksX7_ended_3 4 rfl rfl)
theorem dX7_ended_76 : decode cX7_ended 76 = .ok (.aaload, 1) := dk_50 (dk_at dksX7_ended_3 7 rfl rfl)
theorem dX7_ended_77 : decode cX7_ended 77 = .ok (.getfield 68, 3) := dk_180 0 68 (dk_at dksX7_ended_3 8 rfl rfl)
theorem dX7_ended_80 : decode cX7_ended 80 = .ok (.iconst 1, 1) := dk_4 (dk_at dksX7_ended_3 11 rfl rfl)
theorem dX7_ended_81 : decode cX7_ended 81 = .ok (.iaload, 1) := dk_46 (dk_at dksX7_ended_3 12 rfl rfl)
theorem dX7_ended_82 : decode cX7_ended 82 = .ok (.iadd, 1) := dk_96 (dk_at dksX7_ended_3 13 rfl rfl)
theorem dX7_ended_83 : decode cX7_ended 83 = .ok (.istore 4, 2) := dk_54 4 (dk_at dksX7_ended_3 14 rfl rfl)
theorem dX7_ended_85 : decode cX7_ended 85 = .ok (.iload_n 1, 1) := dk_27 (dk_at dksX7_ended_3 16 rfl rfl)
theorem dX7_ended_86 : decode cX7_ended 86 = .ok (.ifCond .ne 5, 3) := dk_154 0 5 (dk_at dksX7_ended_3 17 rfl rfl)
theorem dX7_ended_89 : decode cX7_ended 89 = .ok (.iconst 0, 1) := dk_3 (dk_at dksX7_ended_3 20 rfl rfl)
theorem dX7_ended_90 : decode cX7_ended 90 = .ok (.ireturn, 1) := dk_172 (dk_at dksX7_ended_3 21 rfl rfl)
theorem dX7_ended_91 : decode cX7_ended 91 = .ok (.aload_n 0, 1) := dk_42 (dk_at dksX7_ended_3 22 rfl rfl)
theorem dX7_ended_92 : decode cX7_ended 92 = .ok (.getfield 3, 3) := dk_180 0 3 (dk_at dksX7_ended_4 0 rfl rfl)
theorem dX7_ended_95 : decode cX7_ended 95 = .ok (.getfield 33, 3) := dk_180 0 33 (dk_at dksX7_ended_4 3 rfl rfl)
theorem dX7_ended_98 : decode cX7_ended 98 = .ok (.aload_n 0, 1) := dk_42 (dk_at dksX7_ended_4 6 rfl rfl)
theorem dX7_ended_99 : decode cX7_ended 99 = .ok (.getfield 26, 3) := dk_180 0 26 (dk_at dksX7_ended_4 7 rfl rfl)
theorem dX7_ended_102 : decode cX7_ended 102 = .ok (.iload_n 3, 1) := dk_29 (dk_at dksX7_ended_4 10 rfl rfl)
theorem dX7_ended_103 : decode cX7_ended 103 = .ok (.iload_n 1, 1) := dk_27 (dk_at dksX7_ended_4 11 rfl rfl)
theorem dX7_ended_104 : decode cX7_ended 104 = .ok (.iadd, 1) := dk_96 (dk_at dksX7_ended_4 12 rfl rfl)
theorem dX7_ended_105 : decode cX7_ended 105 = .ok (.iconst 0, 1) := dk_3 (dk_at dksX7_ended_4 13 rfl rfl)
theorem dX7_ended_106 : decode cX7_ended 106 = .ok (.aload_n 0, 1) := dk_42 (dk_at dksX7_ended_4 14 rfl rfl)
theorem dX7_ended_107 : decode cX7_ended 107 = .ok (.getfield 30, 3) := dk_180 0 30 (dk_at dksX7_ended_4 15 rfl rfl)
theorem dX7_ended_110 : decode cX7_ended 110 = .ok (.iload_n 2, 1) := dk_28 (dk_at dksX7_ended_4 18 rfl rfl)
theorem dX7_ended_111 : decode cX7_ended 111 = .ok (.ifCond .ne 7, 3) := dk_154 0 7 (dk_at dksX7_ended_4 19 rfl rfl)
theorem dX7_ended_114 : decode cX7_ended 114 = .ok (.iconst 0, 1) := dk_3 (dk_at dksX7_ended_4 22 rfl rfl)
theorem dX7_ended_115 : decode cX7_ended 115 = .ok (.goto 7, 3) := dk_167 0 7 (dk_at dksX7_ended_5 0 rfl rfl)
theorem dX7_ended_118 : decode cX7_ended 118 = .ok (.iload 4, 2) := dk_21 4 (dk_at dksX7_ended_5 3 rfl rfl)
theorem dX7_ended_120 : decode cX7_ended 120 = .ok (.iload_n 2, 1) := dk_28 (dk_at dksX7_ended_5 5 rfl rfl)
theorem dX7_ended_121 : decode cX7_ended 121 = .ok (.iadd, 1) := dk_96 (dk_at dksX7_ended_5 6 rfl rfl)
theorem dX7_ended_122 : decode cX7_ended 122 = .ok (.iload_n 2, 1) := dk_28 (dk_at dksX7_ended_5 7 rfl rfl)
theorem dX7_ended_123 : decode cX7_ended 123 = .ok (.ifCond .ne 7, 3) := dk_154 0 7 (dk_at dksX7_ended_5 8 rfl rfl)
theorem dX7_ended_126 : decode cX7_ended 126 = .ok (.iconst 1, 1) := dk_4 (dk_at dksX7_ended_5 11 rfl rfl)
theorem dX7_ended_127 : decode cX7_ended 127 = .ok (.goto 4, 3) := dk_167 0 4 (dk_at dksX7_ended_5 12 rfl rfl)
theorem dX7_ended_130 : decode cX7_ended 130 = .ok (.iconst 0, 1) := dk_3 (dk_at dksX7_ended_5 15 rfl rfl)
theorem dX7_ended_131 : decode cX7_ended 131 = .ok (.invokevirtual 71, 3) := dk_182 0 71 (dk_at dksX7_ended_5 16 rfl rfl)
theorem dX7_ended_134 : decode cX7_ended 134 = .ok (.ifCond .eq 8, 3) := dk_153 0 8 (dk_at dksX7_ended_5 19 rfl rfl)
theorem dX7_ended_137 : decode cX7_ended 137 = .ok (.ldc 75, 2) := dk_18 75 (dk_at dksX7_ended_5 22 rfl rfl)
theorem dX7_ended_139 : decode cX7_ended 139 = .ok (.goto 4, 3) := dk_167 0 4 (dk_at dksX7_ended_6 0 rfl rfl)
theorem dX7_ended_142 : decode cX7_ended 142 = .ok (.iconst 0, 1) := dk_3 (dk_at dksX7_ended_6 3 rfl rfl)
theorem dX7_ended_143 : decode cX7_ended 143 = .ok (.ireturn, 1) := dk_172 (dk_at dksX7_ended_6 4 rfl rfl)
abbrev cX7_odds : ByteArray := prog_4_method_5_code
def yX7_odds : MethodName := ⟨RX7, "odds", "(II)I"⟩
def dkwX7_odds_1 : List UInt8 := [180, 0, 33, 180, 0, 55, 27, 50, 180, 0, 59, 182, 0, 64, 172]
abbrev dktX7_odds_1 : List UInt8 := dkwX7_odds_1 ++ []
def dkwX7_odds_0 : List UInt8 := [42, 180, 0, 3, 42, 180, 0, 3, 180, 0, 43, 27, 182, 0, 47, 192, 0, 53, 5, 28, 42, 180, 0, 3]
abbrev dktX7_odds_0 : List UInt8 := dkwX7_odds_0 ++ dktX7_odds_1
theorem dksX7_odds_0 : cX7_odds.data.toList.drop 0 = dktX7_odds_0 := by decide +kernel
theorem dksX7_odds_1 : cX7_odds.data.toList.drop 24 = dktX7_odds_1 := dk_seg dksX7_odds_0 24 rfl rfl
theorem dX7_odds_0 : decode cX7_odds 0 = .ok (.aload_n 0, 1) := dk_42 (dk_at dksX7_odds_0 0 rfl rfl)
theorem dX7_odds_1 : decode cX7_odds 1 = .ok (.getfield 3, 3) := dk_180 0 3 (dk_at dksX7_odds_0 1 rfl rfl)
theorem dX7_odds_4 : decode cX7_odds 4 = .ok (.aload_n 0, 1) := dk_42 (dk_at dksX7_odds_0 4 rfl rfl)
theorem dX7_odds_5 : decode cX7_odds 5 = .ok (.getfield 3, 3) := dk_180 0 3 (dk_at dksX7_odds_0 5 rfl rfl)
theorem dX7_odds_8 : decode cX7_odds 8 = .ok (.getfield 43, 3) := dk_180 0 43 (dk_at dksX7_odds_0 8 rfl rfl)
theorem dX7_odds_11 : decode cX7_odds 11 = .ok (.iload_n 1, 1) := dk_27 (dk_at dksX7_odds_0 11 rfl rfl)
theorem dX7_odds_12 : decode cX7_odds 12 = .ok (.invokevirtual 47, 3) := dk_182 0 47 (dk_at dksX7_odds_0 12 rfl rfl)
theorem dX7_odds_15 : decode cX7_odds 15 = .ok (.checkcast 53, 3) := dk_192 0 53 (dk_at dksX7_odds_0 15 rfl rfl)
theorem dX7_odds_18 : decode cX7_odds 18 = .ok (.iconst 2, 1) := dk_5 (dk_at dksX7_odds_0 18 rfl rfl)
theorem dX7_odds_19 : decode cX7_odds 19 = .ok (.iload_n 2, 1) := dk_28 (dk_at dksX7_odds_0 19 rfl rfl)
theorem dX7_odds_20 : decode cX7_odds 20 = .ok (.aload_n 0, 1) := dk_42 (dk_at dksX7_odds_0 20 rfl rfl)
theorem dX7_odds_21 : decode cX7_odds 21 = .ok (.getfield 3, 3) := dk_180 0 3 (dk_at dksX7_odds_0 21 rfl rfl)
theorem dX7_odds_24 : decode cX7_odds 24 = .ok (.getfield 33, 3) := dk_180 0 33 (dk_at dksX7_odds_1 0 rfl rfl)
theorem dX7_odds_27 : decode cX7_odds 27 = .ok (.getfield 55, 3) := dk_180 0 55 (dk_at dksX7_odds_1 3 rfl rfl)
theorem dX7_odds_30 : decode cX7_odds 30 = .ok (.iload_n 1, 1) := dk_27 (dk_at dksX7_odds_1 6 rfl rfl)
theorem dX7_odds_31 : decode cX7_odds 31 = .ok (.aaload, 1) := dk_50 (dk_at dksX7_odds_1 7 rfl rfl)
theorem dX7_odds_32 : decode cX7_odds 32 = .ok (.getfield 59, 3) := dk_180 0 59 (dk_at dksX7_odds_1 8 rfl rfl)
theorem dX7_odds_35 : decode cX7_odds 35 = .ok (.invokevirtual 64, 3) := dk_182 0 64 (dk_at dksX7_odds_1 11 rfl rfl)
theorem dX7_odds_38 : decode cX7_odds 38 = .ok (.ireturn, 1) := dk_172 (dk_at dksX7_odds_1 14 rfl rfl)
abbrev cX7_isBetter : ByteArray := prog_4_method_8_code
def yX7_isBetter : MethodName := ⟨RX7, "isBetter", "(III)Z"⟩
def dkwX7_isBetter_1 : List UInt8 := [162, 0, 7, 4, 167, 0, 4, 3, 172]
abbrev dktX7_isBetter_1 : List UInt8 := dkwX7_isBetter_1 ++ []
def dkwX7_isBetter_0 : List UInt8 := [27, 42, 180, 0, 26, 160, 0, 16, 28, 29, 164, 0, 7, 4, 167, 0, 17, 3, 167, 0, 13, 28, 29]
abbrev dktX7_isBetter_0 : List UInt8 := dkwX7_isBetter_0 ++ dktX7_isBetter_1
theorem dksX7_isBetter_0 : cX7_isBetter.data.toList.drop 0 = dktX7_isBetter_0 := by decide +kernel
theorem dksX7_isBetter_1 : cX7_isBetter.data.toList.drop 23 = dktX7_isBetter_1 := dk_seg dksX7_isBetter_0 23 rfl rfl
theorem dX7_isBetter_0 : decode cX7_isBetter 0 = .ok (.iload_n 1, 1) := dk_27 (dk_at dksX7_isBetter_0 0 rfl rfl)
theorem dX7_isBetter_1 : decode cX7_isBetter 1 = .ok (.aload_n 0, 1) := dk_42 (dk_at dksX7_isBetter_0 1 rfl rfl)
theorem dX7_isBetter_2 : decode cX7_isBetter 2 = .ok (.getfield 26, 3) := dk_180 0 26 (dk_at dksX7_isBetter_0 2 rfl rfl)
theorem dX7_isBetter_5 : decode cX7_isBetter 5 = .ok (.if_icmp .ne 16, 3) := dk_160 0 16 (dk_at dksX7_isBetter_0 5 rfl rfl)
theorem dX7_isBetter_8 : decode cX7_isBetter 8 = .ok (.iload_n 2, 1) := dk_28 (dk_at dksX7_isBetter_0 8 rfl rfl)
theorem dX7_isBetter_9 : decode cX7_isBetter 9 = .ok (.iload_n 3, 1) := dk_29 (dk_at dksX7_isBetter_0 9 rfl rfl)
theorem dX7_isBetter_10 : decode cX7_isBetter 10 = .ok (.if_icmp .le 7, 3) := dk_164 0 7 (dk_at dksX7_isBetter_0 10 rfl rfl)
theorem dX7_isBetter_13 : decode cX7_isBetter 13 = .ok (.iconst 1, 1) := dk_4 (dk_at dksX7_isBetter_0 13 rfl rfl)
theorem dX7_isBetter_14 : decode cX7_isBetter 14 = .ok (.goto 17, 3) := dk_167 0 17 (dk_at dksX7_isBetter_0 14 rfl rfl)
theorem dX7_isBetter_17 : decode cX7_isBetter 17 = .ok (.iconst 0, 1) := dk_3 (dk_at dksX7_isBetter_0 17 rfl rfl)
theorem dX7_isBetter_18 : decode cX7_isBetter 18 = .ok (.goto 13, 3) := dk_167 0 13 (dk_at dksX7_isBetter_0 18 rfl rfl)
theorem dX7_isBetter_21 : decode cX7_isBetter 21 = .ok (.iload_n 2, 1) := dk_28 (dk_at dksX7_isBetter_0 21 rfl rfl)
theorem dX7_isBetter_22 : decode cX7_isBetter 22 = .ok (.iload_n 3, 1) := dk_29 (dk_at dksX7_isBetter_0 22 rfl rfl)
theorem dX7_isBetter_23 : decode cX7_isBetter 23 = .ok (.if_icmp .ge 7, 3) := dk_162 0 7 (dk_at dksX7_isBetter_1 0 rfl rfl)
theorem dX7_isBetter_26 : decode cX7_isBetter 26 = .ok (.iconst 1, 1) := dk_4 (dk_at dksX7_isBetter_1 3 rfl rfl)
theorem dX7_isBetter_27 : decode cX7_isBetter 27 = .ok (.goto 4, 3) := dk_167 0 4 (dk_at dksX7_isBetter_1 4 rfl rfl)
theorem dX7_isBetter_30 : decode cX7_isBetter 30 = .ok (.iconst 0, 1) := dk_3 (dk_at dksX7_isBetter_1 7 rfl rfl)
theorem dX7_isBetter_31 : decode cX7_isBetter 31 = .ok (.ireturn, 1) := dk_172 (dk_at dksX7_isBetter_1 8 rfl rfl)
theorem q119 : (Jvm.Cond.initialized "NextLoad$Duel") ∈ lw_all := lw_g (lw_at lw_m1 10 rfl) rfl
theorem q193 : (Jvm.Cond.fieldLinkNest "NextLoad$Duel" (68 : Nat) "NextLoad$Standing" "best" "[I" "NextLoad") ∈ lw_tbl := lw_at lw_m1 84 rfl
theorem q202 : (Jvm.Cond.fieldLinkNest "NextLoad$Duel" (59 : Nat) "NextLoad$Standing" "failed" "I" "NextLoad") ∈ lw_tbl := lw_at lw_m1 93 rfl
theorem q243 : (Jvm.Cond.fieldLinkNest "NextLoad$Duel" (55 : Nat) "NextLoad$Meet" "at" "[LNextLoad$Standing;" "NextLoad") ∈ lw_tbl := lw_at lw_m1 134 rfl
theorem q330 : (Jvm.Cond.instantiable "NextLoad$Duel" (6 : Nat)) ∈ lw_all := lw_g (lw_at lw_m1 221 rfl) rfl
theorem q332 : (Jvm.Cond.instanceMethod ({ cls := "NextLoad$Duel", name := "<init>", desc := "(LNextLoad;)V" } : Jvm.MethodName)) ∈ lw_all := lw_g (lw_at lw_m1 223 rfl) rfl
theorem q333 : (Jvm.Cond.code ({ cls := "NextLoad$Duel", name := "<init>", desc := "(LNextLoad;)V" } : Jvm.MethodName) prog_4_method_1_code (2 : Nat) (Option.none : Option Jvm.ClassFile.FieldType)) ∈ lw_all := lw_g (lw_at lw_m1 224 rfl) rfl
theorem q334 : (Jvm.Cond.methodLink "NextLoad$Duel" (9 : Nat) ({ cls := "java/lang/Object", name := "<init>", desc := "()V" } : Jvm.MethodName)) ∈ lw_all := lw_g (lw_at lw_m1 225 rfl) rfl
theorem q335 : (Jvm.Cond.fieldLink "NextLoad$Duel" (15 : Nat) "NextLoad$Duel" "value" "[I") ∈ lw_all := lw_g (lw_at lw_m1 226 rfl) rfl
theorem q336 : (Jvm.Cond.fieldLink "NextLoad$Duel" (19 : Nat) "NextLoad$Duel" "choice" "[I") ∈ lw_all := lw_g (lw_at lw_m1 227 rfl) rfl
theorem q338 : (Jvm.Cond.fieldLink "NextLoad$Duel" (22 : Nat) "NextLoad$Duel" "isKnown" "[Z") ∈ lw_all := lw_g (lw_at lw_m1 229 rfl) rfl
theorem q339 : (Jvm.Cond.fieldLink "NextLoad$Duel" (26 : Nat) "NextLoad$Duel" "a" "I") ∈ lw_all := lw_g (lw_at lw_m1 230 rfl) rfl
theorem q340 : (Jvm.Cond.fieldLink "NextLoad$Duel" (30 : Nat) "NextLoad$Duel" "b" "I") ∈ lw_all := lw_g (lw_at lw_m1 231 rfl) rfl
theorem q341 : (Jvm.Cond.fieldLink "NextLoad$Duel" (3 : Nat) "NextLoad$Duel" "this$0" "LNextLoad;") ∈ lw_all := lw_g (lw_at lw_m1 232 rfl) rfl
theorem q342 : (Jvm.Cond.laysFinal "NextLoad$Duel" "NextLoad$Duel" "value" "[I") ∈ lw_all := lw_g (lw_at lw_m1 233 rfl) rfl
theorem q343 : (Jvm.Cond.soleField "NextLoad$Duel" "value") ∈ lw_all := lw_g (lw_at lw_m1 234 rfl) rfl
theorem q344 : (Jvm.Cond.laysFinal "NextLoad$Duel" "NextLoad$Duel" "choice" "[I") ∈ lw_all := lw_g (lw_at lw_m1 235 rfl) rfl
theorem q345 : (Jvm.Cond.soleField "NextLoad$Duel" "choice") ∈ lw_all := lw_g (lw_at lw_m1 236 rfl) rfl
theorem q346 : (Jvm.Cond.laysFinal "NextLoad$Duel" "NextLoad$Duel" "isKnown" "[Z") ∈ lw_all := lw_g (lw_at lw_m1 237 rfl) rfl
theorem q347 : (Jvm.Cond.soleField "NextLoad$Duel" "isKnown") ∈ lw_all := lw_g (lw_at lw_m1 238 rfl) rfl
theorem q348 : (Jvm.Cond.lays "NextLoad$Duel" "NextLoad$Duel" "a" "I") ∈ lw_all := lw_g (lw_at lw_m1 239 rfl) rfl
theorem q349 : (Jvm.Cond.soleField "NextLoad$Duel" "a") ∈ lw_all := lw_g (lw_at lw_m2 0 rfl) rfl
theorem q350 : (Jvm.Cond.lays "NextLoad$Duel" "NextLoad$Duel" "b" "I") ∈ lw_all := lw_g (lw_at lw_m2 1 rfl) rfl
theorem q351 : (Jvm.Cond.soleField "NextLoad$Duel" "b") ∈ lw_all := lw_g (lw_at lw_m2 2 rfl) rfl
theorem q352 : (Jvm.Cond.laysFinal "NextLoad$Duel" "NextLoad$Duel" "this$0" "LNextLoad;") ∈ lw_all := lw_g (lw_at lw_m2 3 rfl) rfl
theorem q353 : (Jvm.Cond.soleField "NextLoad$Duel" "this$0") ∈ lw_all := lw_g (lw_at lw_m2 4 rfl) rfl
theorem q354 : (Jvm.Cond.superclass "NextLoad$Duel" "java/lang/Object") ∈ lw_all := lw_g (lw_at lw_m2 5 rfl) rfl
theorem q396 : (Jvm.Cond.fieldLinkNest "NextLoad$Duel" (43 : Nat) "NextLoad" "lifters" "Ljava/util/ArrayList;" "NextLoad") ∈ lw_tbl := lw_at lw_m2 47 rfl
theorem q399 : (Jvm.Cond.fieldLinkNest "NextLoad$Duel" (33 : Nat) "NextLoad" "meet" "LNextLoad$Meet;" "NextLoad") ∈ lw_tbl := lw_at lw_m2 50 rfl
theorem q680 : (Jvm.Cond.selects "NextLoad$Duel" ({ cls := "java/lang/Object", name := "getClass", desc := "()Ljava/lang/Class;" } : Jvm.MethodName) ({ cls := "java/lang/Object", name := "getClass", desc := "()Ljava/lang/Class;" } : Jvm.MethodName)) ∈ lw_all := lw_g (lw_at lw_m3 91 rfl) rfl
theorem q1223 : (Jvm.Cond.instanceMethod ({ cls := "NextLoad$Duel", name := "begins", desc := "(II)V" } : Jvm.MethodName)) ∈ lw_all := lw_g (lw_at lw_m5 154 rfl) rfl
theorem q1224 : (Jvm.Cond.selects "NextLoad$Duel" ({ cls := "NextLoad$Duel", name := "begins", desc := "(II)V" } : Jvm.MethodName) ({ cls := "NextLoad$Duel", name := "begins", desc := "(II)V" } : Jvm.MethodName)) ∈ lw_all := lw_g (lw_at lw_m5 155 rfl) rfl
theorem q1225 : (Jvm.Cond.code ({ cls := "NextLoad$Duel", name := "begins", desc := "(II)V" } : Jvm.MethodName) prog_4_method_2_code (4 : Nat) (Option.none : Option Jvm.ClassFile.FieldType)) ∈ lw_all := lw_g (lw_at lw_m5 156 rfl) rfl
theorem q1227 : (Jvm.Cond.instanceMethod ({ cls := "NextLoad$Duel", name := "of", desc := "(IIII)I" } : Jvm.MethodName)) ∈ lw_all := lw_g (lw_at lw_m5 158 rfl) rfl
theorem q1228 : (Jvm.Cond.selects "NextLoad$Duel" ({ cls := "NextLoad$Duel", name := "of", desc := "(IIII)I" } : Jvm.MethodName) ({ cls := "NextLoad$Duel", name := "of", desc := "(IIII)I" } : Jvm.MethodName)) ∈ lw_all := lw_g (lw_at lw_m5 159 rfl) rfl
theorem q1229 : (Jvm.Cond.code ({ cls := "NextLoad$Duel", name := "of", desc := "(IIII)I" } : Jvm.MethodName) prog_4_method_10_code (16 : Nat) (Option.some Jvm.ClassFile.FieldType.int)) ∈ lw_all := lw_g (lw_at lw_m5 160 rfl) rfl
theorem q1230 : (Jvm.Cond.methodLink "NextLoad$Duel" (95 : Nat) ({ cls := "NextLoad$Duel", name := "cell", desc := "(IIII)I" } : Jvm.MethodName)) ∈ lw_all := lw_g (lw_at lw_m5 161 rfl) rfl
theorem q1231 : (Jvm.Cond.privateMethod ({ cls := "NextLoad$Duel", name := "cell", desc := "(IIII)I" } : Jvm.MethodName)) ∈ lw_tbl := lw_at lw_m5 162 rfl
theorem q1232 : (Jvm.Cond.instanceMethod ({ cls := "NextLoad$Duel", name := "cell", desc := "(IIII)I" } : Jvm.MethodName)) ∈ lw_all := lw_g (lw_at lw_m5 163 rfl) rfl
theorem q1233 : (Jvm.Cond.code ({ cls := "NextLoad$Duel", name := "cell", desc := "(IIII)I" } : Jvm.MethodName) prog_4_method_3_code (5 : Nat) (Option.some Jvm.ClassFile.FieldType.int)) ∈ lw_all := lw_g (lw_at lw_m5 164 rfl) rfl
theorem q1234 : (Jvm.Cond.methodLink "NextLoad$Duel" (99 : Nat) ({ cls := "NextLoad$Duel", name := "isFirst", desc := "(II)Z" } : Jvm.MethodName)) ∈ lw_all := lw_g (lw_at lw_m5 165 rfl) rfl
theorem q1235 : (Jvm.Cond.instanceMethod ({ cls := "NextLoad$Duel", name := "isFirst", desc := "(II)Z" } : Jvm.MethodName)) ∈ lw_all := lw_g (lw_at lw_m5 166 rfl) rfl
theorem q1236 : (Jvm.Cond.selects "NextLoad$Duel" ({ cls := "NextLoad$Duel", name := "isFirst", desc := "(II)Z" } : Jvm.MethodName) ({ cls := "NextLoad$Duel", name := "isFirst", desc := "(II)Z" } : Jvm.MethodName)) ∈ lw_all := lw_g (lw_at lw_m5 167 rfl) rfl
theorem q1237 : (Jvm.Cond.code ({ cls := "NextLoad$Duel", name := "isFirst", desc := "(II)Z" } : Jvm.MethodName) prog_4_method_4_code (3 : Nat) (Option.some Jvm.ClassFile.FieldType.boolean)) ∈ lw_all := lw_g (lw_at lw_m5 168 rfl) rfl
theorem q1238 : (Jvm.Cond.methodLinkNest "NextLoad$Duel" (37 : Nat) ({ cls := "NextLoad$Meet", name := "isAheadAt", desc := "(IIII)Z" } : Jvm.MethodName) "NextLoad") ∈ lw_tbl := lw_at lw_m5 169 rfl
theorem q1239 : (Jvm.Cond.methodLink "NextLoad$Duel" (103 : Nat) ({ cls := "NextLoad$Duel", name := "answers", desc := "(IIII)I" } : Jvm.MethodName)) ∈ lw_all := lw_g (lw_at lw_m5 170 rfl) rfl
theorem q1240 : (Jvm.Cond.privateMethod ({ cls := "NextLoad$Duel", name := "answers", desc := "(IIII)I" } : Jvm.MethodName)) ∈ lw_tbl := lw_at lw_m5 171 rfl
theorem q1241 : (Jvm.Cond.instanceMethod ({ cls := "NextLoad$Duel", name := "answers", desc := "(IIII)I" } : Jvm.MethodName)) ∈ lw_all := lw_g (lw_at lw_m5 172 rfl) rfl
theorem q1242 : (Jvm.Cond.code ({ cls := "NextLoad$Duel", name := "answers", desc := "(IIII)I" } : Jvm.MethodName) prog_4_method_9_code (8 : Nat) (Option.some Jvm.ClassFile.FieldType.int)) ∈ lw_all := lw_g (lw_at lw_m5 173 rfl) rfl
theorem q1243 : (Jvm.Cond.methodLink "NextLoad$Duel" (87 : Nat) ({ cls := "NextLoad$Duel", name := "last", desc := "(III)I" } : Jvm.MethodName)) ∈ lw_all := lw_g (lw_at lw_m5 174 rfl) rfl
theorem q1244 : (Jvm.Cond.privateMethod ({ cls := "NextLoad$Duel", name := "last", desc := "(III)I" } : Jvm.MethodName)) ∈ lw_tbl := lw_at lw_m5 175 rfl
theorem q1245 : (Jvm.Cond.instanceMethod ({ cls := "NextLoad$Duel", name := "last", desc := "(III)I" } : Jvm.MethodName)) ∈ lw_all := lw_g (lw_at lw_m5 176 rfl) rfl
theorem q1246 : (Jvm.Cond.code ({ cls := "NextLoad$Duel", name := "last", desc := "(III)I" } : Jvm.MethodName) prog_4_method_7_code (7 : Nat) (Option.some Jvm.ClassFile.FieldType.int)) ∈ lw_all := lw_g (lw_at lw_m5 177 rfl) rfl
theorem q1247 : (Jvm.Cond.methodLink "NextLoad$Duel" (76 : Nat) ({ cls := "NextLoad$Duel", name := "ended", desc := "(II)I" } : Jvm.MethodName)) ∈ lw_all := lw_g (lw_at lw_m5 178 rfl) rfl
theorem q1248 : (Jvm.Cond.privateMethod ({ cls := "NextLoad$Duel", name := "ended", desc := "(II)I" } : Jvm.MethodName)) ∈ lw_tbl := lw_at lw_m5 179 rfl
theorem q1249 : (Jvm.Cond.instanceMethod ({ cls := "NextLoad$Duel", name := "ended", desc := "(II)I" } : Jvm.MethodName)) ∈ lw_all := lw_g (lw_at lw_m5 180 rfl) rfl
theorem q1250 : (Jvm.Cond.code ({ cls := "NextLoad$Duel", name := "ended", desc := "(II)I" } : Jvm.MethodName) prog_4_method_6_code (5 : Nat) (Option.some Jvm.ClassFile.FieldType.int)) ∈ lw_all := lw_g (lw_at lw_m5 181 rfl) rfl
theorem q1251 : (Jvm.Cond.methodLink "NextLoad$Duel" (71 : Nat) ({ cls := "NextLoad$Meet", name := "isAhead", desc := "(IIZIIZ)Z" } : Jvm.MethodName)) ∈ lw_all := lw_g (lw_at lw_m5 182 rfl) rfl
theorem q1252 : (Jvm.Cond.constant "NextLoad$Duel" (75 : Nat) (1000000 : Int32)) ∈ lw_all := lw_g (lw_at lw_m5 183 rfl) rfl
theorem q1253 : (Jvm.Cond.methodLink "NextLoad$Duel" (80 : Nat) ({ cls := "NextLoad$Duel", name := "odds", desc := "(II)I" } : Jvm.MethodName)) ∈ lw_all := lw_g (lw_at lw_m5 184 rfl) rfl
theorem q1254 : (Jvm.Cond.privateMethod ({ cls := "NextLoad$Duel", name := "odds", desc := "(II)I" } : Jvm.MethodName)) ∈ lw_tbl := lw_at lw_m5 185 rfl
theorem q1255 : (Jvm.Cond.instanceMethod ({ cls := "NextLoad$Duel", name := "odds", desc := "(II)I" } : Jvm.MethodName)) ∈ lw_all := lw_g (lw_at lw_m5 186 rfl) rfl
theorem q1256 : (Jvm.Cond.code ({ cls := "NextLoad$Duel", name := "odds", desc := "(II)I" } : Jvm.MethodName) prog_4_method_5_code (3 : Nat) (Option.some Jvm.ClassFile.FieldType.int)) ∈ lw_all := lw_g (lw_at lw_m5 187 rfl) rfl
theorem q1257 : (Jvm.Cond.methodLink "NextLoad$Duel" (47 : Nat) ({ cls := "java/util/ArrayList", name := "get", desc := "(I)Ljava/lang/Object;" } : Jvm.MethodName)) ∈ lw_all := lw_g (lw_at lw_m5 188 rfl) rfl
theorem q1258 : (Jvm.Cond.classLink "NextLoad$Duel" (53 : Nat) "NextLoad$Lifter") ∈ lw_all := lw_g (lw_at lw_m5 189 rfl) rfl
theorem q1259 : (Jvm.Cond.methodLinkNest "NextLoad$Duel" (64 : Nat) ({ cls := "NextLoad", name := "oddsOf", desc := "(LNextLoad$Lifter;III)I" } : Jvm.MethodName) "NextLoad") ∈ lw_tbl := lw_at lw_m5 190 rfl
theorem q1260 : (Jvm.Cond.methodLinkNest "NextLoad$Duel" (83 : Nat) ({ cls := "NextLoad", name := "mixed", desc := "(IJJ)J" } : Jvm.MethodName) "NextLoad") ∈ lw_tbl := lw_at lw_m5 191 rfl
theorem q1261 : (Jvm.Cond.methodLink "NextLoad$Duel" (91 : Nat) ({ cls := "NextLoad$Duel", name := "isBetter", desc := "(III)Z" } : Jvm.MethodName)) ∈ lw_all := lw_g (lw_at lw_m5 192 rfl) rfl
theorem q1262 : (Jvm.Cond.privateMethod ({ cls := "NextLoad$Duel", name := "isBetter", desc := "(III)Z" } : Jvm.MethodName)) ∈ lw_tbl := lw_at lw_m5 193 rfl
theorem q1263 : (Jvm.Cond.instanceMethod ({ cls := "NextLoad$Duel", name := "isBetter", desc := "(III)Z" } : Jvm.MethodName)) ∈ lw_all := lw_g (lw_at lw_m5 194 rfl) rfl
theorem q1264 : (Jvm.Cond.code ({ cls := "NextLoad$Duel", name := "isBetter", desc := "(III)Z" } : Jvm.MethodName) prog_4_method_8_code (4 : Nat) (Option.some Jvm.ClassFile.FieldType.boolean)) ∈ lw_all := lw_g (lw_at lw_m5 195 rfl) rfl
theorem q1265 : (Jvm.Cond.methodLink "NextLoad$Duel" (106 : Nat) ({ cls := "NextLoad$Duel", name := "of", desc := "(IIII)I" } : Jvm.MethodName)) ∈ lw_all := lw_g (lw_at lw_m5 196 rfl) rfl
theorem q1938 : (Jvm.Cond.castable "NextLoad$Duel" "java/lang/Object") ∈ lw_tbl := lw_at lw_m8 149 rfl
theorem in_X7 : ∀ w ∈ wsX70, w ∈ lw_all := lw_in wsX70 [342, 344, 346, 348, 350, 352] (by decide +kernel) (by decide +kernel)

/-! NextLoad$Reader -/
set_option maxRecDepth 100000
def RX9 : String := "NextLoad$Reader"
def TX9 : u_T := fun k => match k with
  | 0 => ("NextLoad$Reader", "size", "I", true)
  | 1 => ("NextLoad$Reader", "at", "I", false)
  | _ => ("NextLoad$Reader", "this$0", "LNextLoad;", true)
def tyX9 : Nat → FieldType := fun k => match k with
  | 0 => .int
  | 1 => .int
  | _ => .object "NextLoad"
abbrev wsX90 : List Cond := u_ws RX9 TX9 3
theorem nmX9 : ∀ a, a < 3 → ∀ b, b < 3 → a ≠ b → (TX9 a).2.1 ≠ (TX9 b).2.1 := by decide +kernel
theorem tyX9_ok : ∀ k, k < 3 → parseFieldDescriptor (TX9 k).2.2.1 = some (tyX9 k) := by decide +kernel
abbrev cX9_init : ByteArray := prog_13_method_1_code
def yX9_init : MethodName := ⟨RX9, "<init>", "(LNextLoad;I)V"⟩
def dkwX9_init_0 : List UInt8 := [42, 43, 181, 0, 3, 42, 183, 0, 9, 42, 28, 181, 0, 15, 177]
abbrev dktX9_init_0 : List UInt8 := dkwX9_init_0 ++ []
theorem dksX9_init_0 : cX9_init.data.toList.drop 0 = dktX9_init_0 := by decide +kernel
theorem dX9_init_0 : decode cX9_init 0 = .ok (.aload_n 0, 1) := dk_42 (dk_at dksX9_init_0 0 rfl rfl)
theorem dX9_init_1 : decode cX9_init 1 = .ok (.aload_n 1, 1) := dk_43 (dk_at dksX9_init_0 1 rfl rfl)
theorem dX9_init_2 : decode cX9_init 2 = .ok (.putfield 3, 3) := dk_181 0 3 (dk_at dksX9_init_0 2 rfl rfl)
theorem dX9_init_5 : decode cX9_init 5 = .ok (.aload_n 0, 1) := dk_42 (dk_at dksX9_init_0 5 rfl rfl)
theorem dX9_init_6 : decode cX9_init 6 = .ok (.invokespecial 9, 3) := dk_183 0 9 (dk_at dksX9_init_0 6 rfl rfl)
theorem dX9_init_9 : decode cX9_init 9 = .ok (.aload_n 0, 1) := dk_42 (dk_at dksX9_init_0 9 rfl rfl)
theorem dX9_init_10 : decode cX9_init 10 = .ok (.iload_n 2, 1) := dk_28 (dk_at dksX9_init_0 10 rfl rfl)
theorem dX9_init_11 : decode cX9_init 11 = .ok (.putfield 15, 3) := dk_181 0 15 (dk_at dksX9_init_0 11 rfl rfl)
theorem dX9_init_14 : decode cX9_init 14 = .ok (.return_, 1) := dk_177 (dk_at dksX9_init_0 14 rfl rfl)
abbrev cX9_lifter : ByteArray := prog_13_method_7_code
def yX9_lifter : MethodName := ⟨RX9, "lifter", "()LNextLoad$Lifter;"⟩
def dkwX9_lifter_8 : List UInt8 := [180, 0, 15, 162, 0, 15, 187, 0, 38, 89, 42, 180, 0, 19, 183, 0, 40, 191, 43, 176]
abbrev dktX9_lifter_8 : List UInt8 := dkwX9_lifter_8 ++ []
def dkwX9_lifter_7 : List UInt8 := [43, 180, 0, 101, 28, 42, 3, 16, 9, 182, 0, 52, 79, 132, 2, 1, 167, 255, 175, 42, 180, 0, 19, 42]
abbrev dktX9_lifter_7 : List UInt8 := dkwX9_lifter_7 ++ dktX9_lifter_8
def dkwX9_lifter_6 : List UInt8 := [16, 43, 182, 0, 56, 43, 180, 0, 98, 28, 42, 4, 16, 9, 182, 0, 52, 79, 42, 16, 43, 182, 0, 56]
abbrev dktX9_lifter_6 : List UInt8 := dkwX9_lifter_6 ++ dktX9_lifter_7
def dkwX9_lifter_5 : List UInt8 := [182, 0, 90, 42, 16, 47, 182, 0, 56, 43, 180, 0, 94, 28, 42, 4, 16, 40, 182, 0, 52, 79, 42]
abbrev dktX9_lifter_5 : List UInt8 := dkwX9_lifter_5 ++ dktX9_lifter_6
def dkwX9_lifter_4 : List UInt8 := [167, 255, 201, 3, 61, 28, 6, 162, 0, 82, 42, 16, 59, 182, 0, 56, 42, 43, 180, 0, 86, 28, 50]
abbrev dktX9_lifter_4 : List UInt8 := dkwX9_lifter_4 ++ dktX9_lifter_5
def dkwX9_lifter_3 : List UInt8 := [180, 0, 70, 160, 0, 17, 187, 0, 38, 89, 42, 180, 0, 19, 4, 100, 183, 0, 40, 191, 132, 2, 1]
abbrev dktX9_lifter_3 : List UInt8 := dkwX9_lifter_3 ++ dktX9_lifter_4
def dkwX9_lifter_2 : List UInt8 := [182, 0, 77, 162, 0, 47, 42, 180, 0, 3, 180, 0, 73, 28, 182, 0, 82, 192, 0, 64, 180, 0, 70, 43]
abbrev dktX9_lifter_2 : List UInt8 := dkwX9_lifter_2 ++ dktX9_lifter_3
def dkwX9_lifter_1 : List UInt8 := [182, 0, 56, 43, 42, 3, 16, 99, 182, 0, 52, 181, 0, 70, 3, 61, 28, 42, 180, 0, 3, 180, 0, 73]
abbrev dktX9_lifter_1 : List UInt8 := dkwX9_lifter_1 ++ dktX9_lifter_2
def dkwX9_lifter_0 : List UInt8 := [187, 0, 64, 89, 183, 0, 66, 76, 43, 42, 4, 17, 0, 200, 182, 0, 52, 181, 0, 67, 42, 16, 44]
abbrev dktX9_lifter_0 : List UInt8 := dkwX9_lifter_0 ++ dktX9_lifter_1
theorem dksX9_lifter_0 : cX9_lifter.data.toList.drop 0 = dktX9_lifter_0 := by decide +kernel
theorem dksX9_lifter_1 : cX9_lifter.data.toList.drop 23 = dktX9_lifter_1 := dk_seg dksX9_lifter_0 23 rfl rfl
theorem dksX9_lifter_2 : cX9_lifter.data.toList.drop 47 = dktX9_lifter_2 := dk_seg dksX9_lifter_1 24 rfl rfl
theorem dksX9_lifter_3 : cX9_lifter.data.toList.drop 71 = dktX9_lifter_3 := dk_seg dksX9_lifter_2 24 rfl rfl
theorem dksX9_lifter_4 : cX9_lifter.data.toList.drop 94 = dktX9_lifter_4 := dk_seg dksX9_lifter_3 23 rfl rfl
theorem dksX9_lifter_5 : cX9_lifter.data.toList.drop 117 = dktX9_lifter_5 := dk_seg dksX9_lifter_4 23 rfl rfl
theorem dksX9_lifter_6 : cX9_lifter.data.toList.drop 140 = dktX9_lifter_6 := dk_seg dksX9_lifter_5 23 rfl rfl
theorem dksX9_lifter_7 : cX9_lifter.data.toList.drop 164 = dktX9_lifter_7 := dk_seg dksX9_lifter_6 24 rfl rfl
theorem dksX9_lifter_8 : cX9_lifter.data.toList.drop 188 = dktX9_lifter_8 := dk_seg dksX9_lifter_7 24 rfl rfl
theorem dX9_lifter_0 : decode cX9_lifter 0 = .ok (.new 64, 3) := dk_187 0 64 (dk_at dksX9_lifter_0 0 rfl rfl)
theorem dX9_lifter_3 : decode cX9_lifter 3 = .ok (.dup, 1) := dk_89 (dk_at dksX9_lifter_0 3 rfl rfl)
theorem dX9_lifter_4 : decode cX9_lifter 4 = .ok (.invokespecial 66, 3) := dk_183 0 66 (dk_at dksX9_lifter_0 4 rfl rfl)
theorem dX9_lifter_7 : decode cX9_lifter 7 = .ok (.astore_n 1, 1) := dk_76 (dk_at dksX9_lifter_0 7 rfl rfl)
theorem dX9_lifter_8 : decode cX9_lifter 8 = .ok (.aload_n 1, 1) := dk_43 (dk_at dksX9_lifter_0 8 rfl rfl)
theorem dX9_lifter_9 : decode cX9_lifter 9 = .ok (.aload_n 0, 1) := dk_42 (dk_at dksX9_lifter_0 9 rfl rfl)
theorem dX9_lifter_10 : decode cX9_lifter 10 = .ok (.iconst 1, 1) := dk_4 (dk_at dksX9_lifter_0 10 rfl rfl)
theorem dX9_lifter_11 : decode cX9_lifter 11 = .ok (.sipush 200, 3) := dk_17 0 200 (dk_at dksX9_lifter_0 11 rfl rfl)
theorem dX9_lifter_14 : decode cX9_lifter 14 = .ok (.invokevirtual 52, 3) := dk_182 0 52 (dk_at dksX9_lifter_0 14 rfl rfl)
theorem dX9_lifter_17 : decode cX9_lifter 17 = .ok (.putfield 67, 3) := dk_181 0 67 (dk_at dksX9_lifter_0 17 rfl rfl)
theorem dX9_lifter_20 : decode cX9_lifter 20 = .ok (.aload_n 0, 1) := dk_42 (dk_at dksX9_lifter_0 20 rfl rfl)
theorem dX9_lifter_21 : decode cX9_lifter 21 = .ok (.bipush 44, 2) := dk_16 44 (dk_at dksX9_lifter_0 21 rfl rfl)
theorem dX9_lifter_23 : decode cX9_lifter 23 = .ok (.invokevirtual 56, 3) := dk_182 0 56 (dk_at dksX9_lifter_1 0 rfl rfl)
theorem dX9_lifter_26 : decode cX9_lifter 26 = .ok (.aload_n 1, 1) := dk_43 (dk_at dksX9_lifter_1 3 rfl rfl)
theorem dX9_lifter_27 : decode cX9_lifter 27 = .ok (.aload_n 0, 1) := dk_42 (dk_at dksX9_lifter_1 4 rfl rfl)
theorem dX9_lifter_28 : decode cX9_lifter 28 = .ok (.iconst 0, 1) := dk_3 (dk_at dksX9_lifter_1 5 rfl rfl)
theorem dX9_lifter_29 : decode cX9_lifter 29 = .ok (.bipush 99, 2) := dk_16 99 (dk_at dksX9_lifter_1 6 rfl rfl)
theorem dX9_lifter_31 : decode cX9_lifter 31 = .ok (.invokevirtual 52, 3) := dk_182 0 52 (dk_at dksX9_lifter_1 8 rfl rfl)
theorem dX9_lifter_34 : decode cX9_lifter 34 = .ok (.putfield 70, 3) := dk_181 0 70 (dk_at dksX9_lifter_1 11 rfl rfl)
theorem dX9_lifter_37 : decode cX9_lifter 37 = .ok (.iconst 0, 1) := dk_3 (dk_at dksX9_lifter_1 14 rfl rfl)
theorem dX9_lifter_38 : decode cX9_lifter 38 = .ok (.istore_n 2, 1) := dk_61 (dk_at dksX9_lifter_1 15 rfl rfl)
theorem dX9_lifter_39 : decode cX9_lifter 39 = .ok (.iload_n 2, 1) := dk_28 (dk_at dksX9_lifter_1 16 rfl rfl)
theorem dX9_lifter_40 : decode cX9_lifter 40 = .ok (.aload_n 0, 1) := dk_42 (dk_at dksX9_lifter_1 17 rfl rfl)
theorem dX9_lifter_41 : decode cX9_lifter 41 = .ok (.getfield 3, 3) := dk_180 0 3 (dk_at dksX9_lifter_1 18 rfl rfl)
theorem dX9_lifter_44 : decode cX9_lifter 44 = .ok (.getfield 73, 3) := dk_180 0 73 (dk_at dksX9_lifter_1 21 rfl rfl)
theorem dX9_lifter_47 : decode cX9_lifter 47 = .ok (.invokevirtual 77, 3) := dk_182 0 77 (dk_at dksX9_lifter_2 0 rfl rfl)
theorem dX9_lifter_50 : decode cX9_lifter 50 = .ok (.if_icmp .ge 47, 3) := dk_162 0 47 (dk_at dksX9_lifter_2 3 rfl rfl)
theorem dX9_lifter_53 : decode cX9_lifter 53 = .ok (.aload_n 0, 1) := dk_42 (dk_at dksX9_lifter_2 6 rfl rfl)
theorem dX9_lifter_54 : decode cX9_lifter 54 = .ok (.getfield 3, 3) := dk_180 0 3 (dk_at dksX9_lifter_2 7 rfl rfl)
theorem dX9_lifter_57 : decode cX9_lifter 57 = .ok (.getfield 73, 3) := dk_180 0 73 (dk_at dksX9_lifter_2 10 rfl rfl)
theorem dX9_lifter_60 : decode cX9_lifter 60 = .ok (.iload_n 2, 1) := dk_28 (dk_at dksX9_lifter_2 13 rfl rfl)
theorem dX9_lifter_61 : decode cX9_lifter 61 = .ok (.invokevirtual 82, 3) := dk_182 0 82 (dk_at dksX9_lifter_2 14 rfl rfl)
theorem dX9_lifter_64 : decode cX9_lifter 64 = .ok (.checkcast 64, 3) := dk_192 0 64 (dk_at dksX9_lifter_2 17 rfl rfl)
theorem dX9_lifter_67 : decode cX9_lifter 67 = .ok (.getfield 70, 3) := dk_180 0 70 (dk_at dksX9_lifter_2 20 rfl rfl)
theorem dX9_lifter_70 : decode cX9_lifter 70 = .ok (.aload_n 1, 1) := dk_43 (dk_at dksX9_lifter_2 23 rfl rfl)
theorem dX9_lifter_71 : decode cX9_lifter 71 = .ok (.getfield 70, 3) := dk_180 0 70 (dk_at dksX9_lifter_3 0 rfl rfl)
theorem dX9_lifter_74 : decode cX9_lifter 74 = .ok (.if_icmp .ne 17, 3) := dk_160 0 17 (dk_at dksX9_lifter_3 3 rfl rfl)
theorem dX9_lifter_77 : decode cX9_lifter 77 = .ok (.new 38, 3) := dk_187 0 38 (dk_at dksX9_lifter_3 6 rfl rfl)
theorem dX9_lifter_80 : decode cX9_lifter 80 = .ok (.dup, 1) := dk_89 (dk_at dksX9_lifter_3 9 rfl rfl)
theorem dX9_lifter_81 : decode cX9_lifter 81 = .ok (.aload_n 0, 1) := dk_42 (dk_at dksX9_lifter_3 10 rfl rfl)
theorem dX9_lifter_82 : decode cX9_lifter 82 = .ok (.getfield 19, 3) := dk_180 0 19 (dk_at dksX9_lifter_3 11 rfl rfl)
theorem dX9_lifter_85 : decode cX9_lifter 85 = .ok (.iconst 1, 1) := dk_4 (dk_at dksX9_lifter_3 14 rfl rfl)
theorem dX9_lifter_86 : decode cX9_lifter 86 = .ok (.isub, 1) := dk_100 (dk_at dksX9_lifter_3 15 rfl rfl)
theorem dX9_lifter_87 : decode cX9_lifter 87 = .ok (.invokespecial 40, 3) := dk_183 0 40 (dk_at dksX9_lifter_3 16 rfl rfl)
theorem dX9_lifter_90 : decode cX9_lifter 90 = .ok (.athrow, 1) := dk_191 (dk_at dksX9_lifter_3 19 rfl rfl)
theorem dX9_lifter_91 : decode cX9_lifter 91 = .ok (.iinc 2 1, 3) := dk_132 2 1 (dk_at dksX9_lifter_3 20 rfl rfl)
theorem dX9_lifter_94 : decode cX9_lifter 94 = .ok (.goto (-55), 3) := dk_167 255 201 (dk_at dksX9_lifter_4 0 rfl rfl)
theorem dX9_lifter_97 : decode cX9_lifter 97 = .ok (.iconst 0, 1) := dk_3 (dk_at dksX9_lifter_4 3 rfl rfl)
theorem dX9_lifter_98 : decode cX9_lifter 98 = .ok (.istore_n 2, 1) := dk_61 (dk_at dksX9_lifter_4 4 rfl rfl)
theorem dX9_lifter_99 : decode cX9_lifter 99 = .ok (.iload_n 2, 1) := dk_28 (dk_at dksX9_lifter_4 5 rfl rfl)
theorem dX9_lifter_100 : decode cX9_lifter 100 = .ok (.iconst 3, 1) := dk_6 (dk_at dksX9_lifter_4 6 rfl rfl)
theorem dX9_lifter_101 : decode cX9_lifter 101 = .ok (.if_icmp .ge 82, 3) := dk_162 0 82 (dk_at dksX9_lifter_4 7 rfl rfl)
theorem dX9_lifter_104 : decode cX9_lifter 104 = .ok (.aload_n 0, 1) := dk_42 (dk_at dksX9_lifter_4 10 rfl rfl)
theorem dX9_lifter_105 : decode cX9_lifter 105 = .ok (.bipush 59, 2) := dk_16 59 (dk_at dksX9_lifter_4 11 rfl rfl)
theorem dX9_lifter_107 : decode cX9_lifter 107 = .ok (.invokevirtual 56, 3) := dk_182 0 56 (dk_at dksX9_lifter_4 13 rfl rfl)
theorem dX9_lifter_110 : decode cX9_lifter 110 = .ok (.aload_n 0, 1) := dk_42 (dk_at dksX9_lifter_4 16 rfl rfl)
theorem dX9_lifter_111 : decode cX9_lifter 111 = .ok (.aload_n 1, 1) := dk_43 (dk_at dksX9_lifter_4 17 rfl rfl)
theorem dX9_lifter_112 : decode cX9_lifter 112 = .ok (.getfield 86, 3) := dk_180 0 86 (dk_at dksX9_lifter_4 18 rfl rfl)
theorem dX9_lifter_115 : decode cX9_lifter 115 = .ok (.iload_n 2, 1) := dk_28 (dk_at dksX9_lifter_4 21 rfl rfl)
theorem dX9_lifter_116 : decode cX9_lifter 116 = .ok (.aaload, 1) := dk_50 (dk_at dksX9_lifter_4 22 rfl rfl)
theorem dX9_lifter_117 : decode cX9_lifter 117 = .ok (.invokevirtual 90, 3) := dk_182 0 90 (dk_at dksX9_lifter_5 0 rfl rfl)
theorem dX9_lifter_120 : decode cX9_lifter 120 = .ok (.aload_n 0, 1) := dk_42 (dk_at dksX9_lifter_5 3 rfl rfl)
theorem dX9_lifter_121 : decode cX9_lifter 121 = .ok (.bipush 47, 2) := dk_16 47 (dk_at dksX9_lifter_5 4 rfl rfl)
theorem dX9_lifter_123 : decode cX9_lifter 123 = .ok (.invokevirtual 56, 3) := dk_182 0 56 (dk_at dksX9_lifter_5 6 rfl rfl)
theorem dX9_lifter_126 : decode cX9_lifter 126 = .ok (.aload_n 1, 1) := dk_43 (dk_at dksX9_lifter_5 9 rfl rfl)
theorem dX9_lifter_127 : decode cX9_lifter 127 = .ok (.getfield 94, 3) := dk_180 0 94 (dk_at dksX9_lifter_5 10 rfl rfl)
theorem dX9_lifter_130 : decode cX9_lifter 130 = .ok (.iload_n 2, 1) := dk_28 (dk_at dksX9_lifter_5 13 rfl rfl)
theorem dX9_lifter_131 : decode cX9_lifter 131 = .ok (.aload_n 0, 1) := dk_42 (dk_at dksX9_lifter_5 14 rfl rfl)
theorem dX9_lifter_132 : decode cX9_lifter 132 = .ok (.iconst 1, 1) := dk_4 (dk_at dksX9_lifter_5 15 rfl rfl)
theorem dX9_lifter_133 : decode cX9_lifter 133 = .ok (.bipush 40, 2) := dk_16 40 (dk_at dksX9_lifter_5 16 rfl rfl)
theorem dX9_lifter_135 : decode cX9_lifter 135 = .ok (.invokevirtual 52, 3) := dk_182 0 52 (dk_at dksX9_lifter_5 18 rfl rfl)
theorem dX9_lifter_138 : decode cX9_lifter 138 = .ok (.iastore, 1) := dk_79 (dk_at dksX9_lifter_5 21 rfl rfl)
theorem dX9_lifter_139 : decode cX9_lifter 139 = .ok (.aload_n 0, 1) := dk_42 (dk_at dksX9_lifter_5 22 rfl rfl)
theorem dX9_lifter_140 : decode cX9_lifter 140 = .ok (.bipush 43, 2) := dk_16 43 (dk_at dksX9_lifter_6 0 rfl rfl)
theorem dX9_lifter_142 : decode cX9_lifter 142 = .ok (.invokevirtual 56, 3) := dk_182 0 56 (dk_at dksX9_lifter_6 2 rfl rfl)
theorem dX9_lifter_145 : decode cX9_lifter 145 = .ok (.aload_n 1, 1) := dk_43 (dk_at dksX9_lifter_6 5 rfl rfl)
theorem dX9_lifter_146 : decode cX9_lifter 146 = .ok (.getfield 98, 3) := dk_180 0 98 (dk_at dksX9_lifter_6 6 rfl rfl)
theorem dX9_lifter_149 : decode cX9_lifter 149 = .ok (.iload_n 2, 1) := dk_28 (dk_at dksX9_lifter_6 9 rfl rfl)
theorem dX9_lifter_150 : decode cX9_lifter 150 = .ok (.aload_n 0, 1) := dk_42 (dk_at dksX9_lifter_6 10 rfl rfl)
theorem dX9_lifter_151 : decode cX9_lifter 151 = .ok (.iconst 1, 1) := dk_4 (dk_at dksX9_lifter_6 11 rfl rfl)
theorem dX9_lifter_152 : decode cX9_lifter 152 = .ok (.bipush 9, 2) := dk_16 9 (dk_at dksX9_lifter_6 12 rfl rfl)
theorem dX9_lifter_154 : decode cX9_lifter 154 = .ok (.invokevirtual 52, 3) := dk_182 0 52 (dk_at dksX9_lifter_6 14 rfl rfl)
theorem dX9_lifter_157 : decode cX9_lifter 157 = .ok (.iastore, 1) := dk_79 (dk_at dksX9_lifter_6 17 rfl rfl)
theorem dX9_lifter_158 : decode cX9_lifter 158 = .ok (.aload_n 0, 1) := dk_42 (dk_at dksX9_lifter_6 18 rfl rfl)
theorem dX9_lifter_159 : decode cX9_lifter 159 = .ok (.bipush 43, 2) := dk_16 43 (dk_at dksX9_lifter_6 19 rfl rfl)
theorem dX9_lifter_161 : decode cX9_lifter 161 = .ok (.invokevirtual 56, 3) := dk_182 0 56 (dk_at dksX9_lifter_6 21 rfl rfl)
theorem dX9_lifter_164 : decode cX9_lifter 164 = .ok (.aload_n 1, 1) := dk_43 (dk_at dksX9_lifter_7 0 rfl rfl)
theorem dX9_lifter_165 : decode cX9_lifter 165 = .ok (.getfield 101, 3) := dk_180 0 101 (dk_at dksX9_lifter_7 1 rfl rfl)
theorem dX9_lifter_168 : decode cX9_lifter 168 = .ok (.iload_n 2, 1) := dk_28 (dk_at dksX9_lifter_7 4 rfl rfl)
theorem dX9_lifter_169 : decode cX9_lifter 169 = .ok (.aload_n 0, 1) := dk_42 (dk_at dksX9_lifter_7 5 rfl rfl)
theorem dX9_lifter_170 : decode cX9_lifter 170 = .ok (.iconst 0, 1) := dk_3 (dk_at dksX9_lifter_7 6 rfl rfl)
theorem dX9_lifter_171 : decode cX9_lifter 171 = .ok (.bipush 9, 2) := dk_16 9 (dk_at dksX9_lifter_7 7 rfl rfl)
theorem dX9_lifter_173 : decode cX9_lifter 173 = .ok (.invokevirtual 52, 3) := dk_182 0 52 (dk_at dksX9_lifter_7 9 rfl rfl)
theorem dX9_lifter_176 : decode cX9_lifter 176 = .ok (.iastore, 1) := dk_79 (dk_at dksX9_lifter_7 12 rfl rfl)
theorem dX9_lifter_177 : decode cX9_lifter 177 = .ok (.iinc 2 1, 3) := dk_132 2 1 (dk_at dksX9_lifter_7 13 rfl rfl)
theorem dX9_lifter_180 : decode cX9_lifter 180 = .ok (.goto (-81), 3) := dk_167 255 175 (dk_at dksX9_lifter_7 16 rfl rfl)
theorem dX9_lifter_183 : decode cX9_lifter 183 = .ok (.aload_n 0, 1) := dk_42 (dk_at dksX9_lifter_7 19 rfl rfl)
theorem dX9_lifter_184 : decode cX9_lifter 184 = .ok (.getfield 19, 3) := dk_180 0 19 (dk_at dksX9_lifter_7 20 rfl rfl)
theorem dX9_lifter_187 : decode cX9_lifter 187 = .ok (.aload_n 0, 1) := dk_42 (dk_at dksX9_lifter_7 23 rfl rfl)
theorem dX9_lifter_188 : decode cX9_lifter 188 = .ok (.getfield 15, 3) := dk_180 0 15 (dk_at dksX9_lifter_8 0 rfl rfl)
theorem dX9_lifter_191 : decode cX9_lifter 191 = .ok (.if_icmp .ge 15, 3) := dk_162 0 15 (dk_at dksX9_lifter_8 3 rfl rfl)
theorem dX9_lifter_194 : decode cX9_lifter 194 = .ok (.new 38, 3) := dk_187 0 38 (dk_at dksX9_lifter_8 6 rfl rfl)
theorem dX9_lifter_197 : decode cX9_lifter 197 = .ok (.dup, 1) := dk_89 (dk_at dksX9_lifter_8 9 rfl rfl)
theorem dX9_lifter_198 : decode cX9_lifter 198 = .ok (.aload_n 0, 1) := dk_42 (dk_at dksX9_lifter_8 10 rfl rfl)
theorem dX9_lifter_199 : decode cX9_lifter 199 = .ok (.getfield 19, 3) := dk_180 0 19 (dk_at dksX9_lifter_8 11 rfl rfl)
theorem dX9_lifter_202 : decode cX9_lifter 202 = .ok (.invokespecial 40, 3) := dk_183 0 40 (dk_at dksX9_lifter_8 14 rfl rfl)
theorem dX9_lifter_205 : decode cX9_lifter 205 = .ok (.athrow, 1) := dk_191 (dk_at dksX9_lifter_8 17 rfl rfl)
theorem dX9_lifter_206 : decode cX9_lifter 206 = .ok (.aload_n 1, 1) := dk_43 (dk_at dksX9_lifter_8 18 rfl rfl)
theorem dX9_lifter_207 : decode cX9_lifter 207 = .ok (.areturn, 1) := dk_176 (dk_at dksX9_lifter_8 19 rfl rfl)
abbrev cX9_number : ByteArray := prog_13_method_5_code
def yX9_number : MethodName := ⟨RX9, "number", "(II)I"⟩
def dkwX9_number_4 : List UInt8 := [180, 0, 19, 4, 100, 183, 0, 40, 191, 29, 172]
abbrev dktX9_number_4 : List UInt8 := dkwX9_number_4 ++ []
def dkwX9_number_3 : List UInt8 := [182, 0, 43, 154, 255, 208, 29, 133, 27, 133, 28, 133, 184, 0, 30, 154, 0, 17, 187, 0, 38, 89, 42]
abbrev dktX9_number_3 : List UInt8 := dkwX9_number_3 ++ dktX9_number_4
def dkwX9_number_2 : List UInt8 := [180, 0, 19, 4, 96, 181, 0, 19, 132, 4, 1, 29, 158, 0, 16, 21, 4, 7, 162, 0, 10, 42]
abbrev dktX9_number_2 : List UInt8 := dkwX9_number_2 ++ dktX9_number_3
def dkwX9_number_1 : List UInt8 := [16, 10, 29, 104, 42, 180, 0, 3, 180, 0, 22, 42, 180, 0, 19, 51, 96, 16, 48, 100, 62, 42, 89]
abbrev dktX9_number_1 : List UInt8 := dkwX9_number_1 ++ dktX9_number_2
def dkwX9_number_0 : List UInt8 := [42, 182, 0, 43, 154, 0, 15, 187, 0, 38, 89, 42, 180, 0, 19, 183, 0, 40, 191, 3, 62, 3, 54, 4]
abbrev dktX9_number_0 : List UInt8 := dkwX9_number_0 ++ dktX9_number_1
theorem dksX9_number_0 : cX9_number.data.toList.drop 0 = dktX9_number_0 := by decide +kernel
theorem dksX9_number_1 : cX9_number.data.toList.drop 24 = dktX9_number_1 := dk_seg dksX9_number_0 24 rfl rfl
theorem dksX9_number_2 : cX9_number.data.toList.drop 47 = dktX9_number_2 := dk_seg dksX9_number_1 23 rfl rfl
theorem dksX9_number_3 : cX9_number.data.toList.drop 69 = dktX9_number_3 := dk_seg dksX9_number_2 22 rfl rfl
theorem dksX9_number_4 : cX9_number.data.toList.drop 92 = dktX9_number_4 := dk_seg dksX9_number_3 23 rfl rfl
theorem dX9_number_0 : decode cX9_number 0 = .ok (.aload_n 0, 1) := dk_42 (dk_at dksX9_number_0 0 rfl rfl)
theorem dX9_number_1 : decode cX9_number 1 = .ok (.invokevirtual 43, 3) := dk_182 0 43 (dk_at dksX9_number_0 1 rfl rfl)
theorem dX9_number_4 : decode cX9_number 4 = .ok (.ifCond .ne 15, 3) := dk_154 0 15 (dk_at dksX9_number_0 4 rfl rfl)
theorem dX9_number_7 : decode cX9_number 7 = .ok (.new 38, 3) := dk_187 0 38 (dk_at dksX9_number_0 7 rfl rfl)
theorem dX9_number_10 : decode cX9_number 10 = .ok (.dup, 1) := dk_89 (dk_at dksX9_number_0 10 rfl rfl)
theorem dX9_number_11 : decode cX9_number 11 = .ok (.aload_n 0, 1) := dk_42 (dk_at dksX9_number_0 11 rfl rfl)
theorem dX9_number_12 : decode cX9_number 12 = .ok (.getfield 19, 3) := dk_180 0 19 (dk_at dksX9_number_0 12 rfl rfl)
theorem dX9_number_15 : decode cX9_number 15 = .ok (.invokespecial 40, 3) := dk_183 0 40 (dk_at dksX9_number_0 15 rfl rfl)
theorem dX9_number_18 : decode cX9_number 18 = .ok (.athrow, 1) := dk_191 (dk_at dksX9_number_0 18 rfl rfl)
theorem dX9_number_19 : decode cX9_number 19 = .ok (.iconst 0, 1) := dk_3 (dk_at dksX9_number_0 19 rfl rfl)
theorem dX9_number_20 : decode cX9_number 20 = .ok (.istore_n 3, 1) := dk_62 (dk_at dksX9_number_0 20 rfl rfl)
theorem dX9_number_21 : decode cX9_number 21 = .ok (.iconst 0, 1) := dk_3 (dk_at dksX9_number_0 21 rfl rfl)
theorem dX9_number_22 : decode cX9_number 22 = .ok (.istore 4, 2) := dk_54 4 (dk_at dksX9_number_0 22 rfl rfl)
theorem dX9_number_24 : decode cX9_number 24 = .ok (.bipush 10, 2) := dk_16 10 (dk_at dksX9_number_1 0 rfl rfl)
theorem dX9_number_26 : decode cX9_number 26 = .ok (.iload_n 3, 1) := dk_29 (dk_at dksX9_number_1 2 rfl rfl)
theorem dX9_number_27 : decode cX9_number 27 = .ok (.imul, 1) := dk_104 (dk_at dksX9_number_1 3 rfl rfl)
theorem dX9_number_28 : decode cX9_number 28 = .ok (.aload_n 0, 1) := dk_42 (dk_at dksX9_number_1 4 rfl rfl)
theorem dX9_number_29 : decode cX9_number 29 = .ok (.getfield 3, 3) := dk_180 0 3 (dk_at dksX9_number_1 5 rfl rfl)
theorem dX9_number_32 : decode cX9_number 32 = .ok (.getfield 22, 3) := dk_180 0 22 (dk_at dksX9_number_1 8 rfl rfl)
theorem dX9_number_35 : decode cX9_number 35 = .ok (.aload_n 0, 1) := dk_42 (dk_at dksX9_number_1 11 rfl rfl)
theorem dX9_number_36 : decode cX9_number 36 = .ok (.getfield 19, 3) := dk_180 0 19 (dk_at dksX9_number_1 12 rfl rfl)
theorem dX9_number_39 : decode cX9_number 39 = .ok (.baload, 1) := dk_51 (dk_at dksX9_number_1 15 rfl rfl)
theorem dX9_number_40 : decode cX9_number 40 = .ok (.iadd, 1) := dk_96 (dk_at dksX9_number_1 16 rfl rfl)
theorem dX9_number_41 : decode cX9_number 41 = .ok (.bipush 48, 2) := dk_16 48 (dk_at dksX9_number_1 17 rfl rfl)
theorem dX9_number_43 : decode cX9_number 43 = .ok (.isub, 1) := dk_100 (dk_at dksX9_number_1 19 rfl rfl)
theorem dX9_number_44 : decode cX9_number 44 = .ok (.istore_n 3, 1) := dk_62 (dk_at dksX9_number_1 20 rfl rfl)
theorem dX9_number_45 : decode cX9_number 45 = .ok (.aload_n 0, 1) := dk_42 (dk_at dksX9_number_1 21 rfl rfl)
theorem dX9_number_46 : decode cX9_number 46 = .ok (.dup, 1) := dk_89 (dk_at dksX9_number_1 22 rfl rfl)
theorem dX9_number_47 : decode cX9_number 47 = .ok (.getfield 19, 3) := dk_180 0 19 (dk_at dksX9_number_2 0 rfl rfl)
theorem dX9_number_50 : decode cX9_number 50 = .ok (.iconst 1, 1) := dk_4 (dk_at dksX9_number_2 3 rfl rfl)
theorem dX9_number_51 : decode cX9_number 51 = .ok (.iadd, 1) := dk_96 (dk_at dksX9_number_2 4 rfl rfl)
theorem dX9_number_52 : decode cX9_number 52 = .ok (.putfield 19, 3) := dk_181 0 19 (dk_at dksX9_number_2 5 rfl rfl)
theorem dX9_number_55 : decode cX9_number 55 = .ok (.iinc 4 1, 3) := dk_132 4 1 (dk_at dksX9_number_2 8 rfl rfl)
theorem dX9_number_58 : decode cX9_number 58 = .ok (.iload_n 3, 1) := dk_29 (dk_at dksX9_number_2 11 rfl rfl)
theorem dX9_number_59 : decode cX9_number 59 = .ok (.ifCond .le 16, 3) := dk_158 0 16 (dk_at dksX9_number_2 12 rfl rfl)
theorem dX9_number_62 : decode cX9_number 62 = .ok (.iload 4, 2) := dk_21 4 (dk_at dksX9_number_2 15 rfl rfl)
theorem dX9_number_64 : decode cX9_number 64 = .ok (.iconst 4, 1) := dk_7 (dk_at dksX9_number_2 17 rfl rfl)
theorem dX9_number_65 : decode cX9_number 65 = .ok (.if_icmp .ge 10, 3) := dk_162 0 10 (dk_at dksX9_number_2 18 rfl rfl)
theorem dX9_number_68 : decode cX9_number 68 = .ok (.aload_n 0, 1) := dk_42 (dk_at dksX9_number_2 21 rfl rfl)
theorem dX9_number_69 : decode cX9_number 69 = .ok (.invokevirtual 43, 3) := dk_182 0 43 (dk_at dksX9_number_3 0 rfl rfl)
theorem dX9_number_72 : decode cX9_number 72 = .ok (.ifCond .ne (-48), 3) := dk_154 255 208 (dk_at dksX9_number_3 3 rfl rfl)
theorem dX9_number_75 : decode cX9_number 75 = .ok (.iload_n 3, 1) := dk_29 (dk_at dksX9_number_3 6 rfl rfl)
theorem dX9_number_76 : decode cX9_number 76 = .ok (.i2l, 1) := dk_133 (dk_at dksX9_number_3 7 rfl rfl)
theorem dX9_number_77 : decode cX9_number 77 = .ok (.iload_n 1, 1) := dk_27 (dk_at dksX9_number_3 8 rfl rfl)
theorem dX9_number_78 : decode cX9_number 78 = .ok (.i2l, 1) := dk_133 (dk_at dksX9_number_3 9 rfl rfl)
theorem dX9_number_79 : decode cX9_number 79 = .ok (.iload_n 2, 1) := dk_28 (dk_at dksX9_number_3 10 rfl rfl)
theorem dX9_number_80 : decode cX9_number 80 = .ok (.i2l, 1) := dk_133 (dk_at dksX9_number_3 11 rfl rfl)
theorem dX9_number_81 : decode cX9_number 81 = .ok (.invokestatic 30, 3) := dk_184 0 30 (dk_at dksX9_number_3 12 rfl rfl)
theorem dX9_number_84 : decode cX9_number 84 = .ok (.ifCond .ne 17, 3) := dk_154 0 17 (dk_at dksX9_number_3 15 rfl rfl)
theorem dX9_number_87 : decode cX9_number 87 = .ok (.new 38, 3) := dk_187 0 38 (dk_at dksX9_number_3 18 rfl rfl)
theorem dX9_number_90 : decode cX9_number 90 = .ok (.dup, 1) := dk_89 (dk_at dksX9_number_3 21 rfl rfl)
theorem dX9_number_91 : decode cX9_number 91 = .ok (.aload_n 0, 1) := dk_42 (dk_at dksX9_number_3 22 rfl rfl)
theorem dX9_number_92 : decode cX9_number 92 = .ok (.getfield 19, 3) := dk_180 0 19 (dk_at dksX9_number_4 0 rfl rfl)
theorem dX9_number_95 : decode cX9_number 95 = .ok (.iconst 1, 1) := dk_4 (dk_at dksX9_number_4 3 rfl rfl)
theorem dX9_number_96 : decode cX9_number 96 = .ok (.isub, 1) := dk_100 (dk_at dksX9_number_4 4 rfl rfl)
theorem dX9_number_97 : decode cX9_number 97 = .ok (.invokespecial 40, 3) := dk_183 0 40 (dk_at dksX9_number_4 5 rfl rfl)
theorem dX9_number_100 : decode cX9_number 100 = .ok (.athrow, 1) := dk_191 (dk_at dksX9_number_4 8 rfl rfl)
theorem dX9_number_101 : decode cX9_number 101 = .ok (.iload_n 3, 1) := dk_29 (dk_at dksX9_number_4 9 rfl rfl)
theorem dX9_number_102 : decode cX9_number 102 = .ok (.ireturn, 1) := dk_172 (dk_at dksX9_number_4 10 rfl rfl)
abbrev cX9_isDigit : ByteArray := prog_13_method_3_code
def yX9_isDigit : MethodName := ⟨RX9, "isDigit", "()Z"⟩
def dkwX9_isDigit_1 : List UInt8 := [20, 0, 26, 20, 0, 28, 184, 0, 30, 153, 0, 7, 4, 167, 0, 4, 3, 172]
abbrev dktX9_isDigit_1 : List UInt8 := dkwX9_isDigit_1 ++ []
def dkwX9_isDigit_0 : List UInt8 := [42, 180, 0, 19, 42, 180, 0, 15, 162, 0, 32, 42, 180, 0, 3, 180, 0, 22, 42, 180, 0, 19, 51, 133]
abbrev dktX9_isDigit_0 : List UInt8 := dkwX9_isDigit_0 ++ dktX9_isDigit_1
theorem dksX9_isDigit_0 : cX9_isDigit.data.toList.drop 0 = dktX9_isDigit_0 := by decide +kernel
theorem dksX9_isDigit_1 : cX9_isDigit.data.toList.drop 24 = dktX9_isDigit_1 := dk_seg dksX9_isDigit_0 24 rfl rfl
theorem dX9_isDigit_0 : decode cX9_isDigit 0 = .ok (.aload_n 0, 1) := dk_42 (dk_at dksX9_isDigit_0 0 rfl rfl)
theorem dX9_isDigit_1 : decode cX9_isDigit 1 = .ok (.getfield 19, 3) := dk_180 0 19 (dk_at dksX9_isDigit_0 1 rfl rfl)
theorem dX9_isDigit_4 : decode cX9_isDigit 4 = .ok (.aload_n 0, 1) := dk_42 (dk_at dksX9_isDigit_0 4 rfl rfl)
theorem dX9_isDigit_5 : decode cX9_isDigit 5 = .ok (.getfield 15, 3) := dk_180 0 15 (dk_at dksX9_isDigit_0 5 rfl rfl)
theorem dX9_isDigit_8 : decode cX9_isDigit 8 = .ok (.if_icmp .ge 32, 3) := dk_162 0 32 (dk_at dksX9_isDigit_0 8 rfl rfl)
theorem dX9_isDigit_11 : decode cX9_isDigit 11 = .ok (.aload_n 0, 1) := dk_42 (dk_at dksX9_isDigit_0 11 rfl rfl)
theorem dX9_isDigit_12 : decode cX9_isDigit 12 = .ok (.getfield 3, 3) := dk_180 0 3 (dk_at dksX9_isDigit_0 12 rfl rfl)
theorem dX9_isDigit_15 : decode cX9_isDigit 15 = .ok (.getfield 22, 3) := dk_180 0 22 (dk_at dksX9_isDigit_0 15 rfl rfl)
theorem dX9_isDigit_18 : decode cX9_isDigit 18 = .ok (.aload_n 0, 1) := dk_42 (dk_at dksX9_isDigit_0 18 rfl rfl)
theorem dX9_isDigit_19 : decode cX9_isDigit 19 = .ok (.getfield 19, 3) := dk_180 0 19 (dk_at dksX9_isDigit_0 19 rfl rfl)
theorem dX9_isDigit_22 : decode cX9_isDigit 22 = .ok (.baload, 1) := dk_51 (dk_at dksX9_isDigit_0 22 rfl rfl)
theorem dX9_isDigit_23 : decode cX9_isDigit 23 = .ok (.i2l, 1) := dk_133 (dk_at dksX9_isDigit_0 23 rfl rfl)
theorem dX9_isDigit_24 : decode cX9_isDigit 24 = .ok (.ldc2_w 26, 3) := dk_20 0 26 (dk_at dksX9_isDigit_1 0 rfl rfl)
theorem dX9_isDigit_27 : decode cX9_isDigit 27 = .ok (.ldc2_w 28, 3) := dk_20 0 28 (dk_at dksX9_isDigit_1 3 rfl rfl)
theorem dX9_isDigit_30 : decode cX9_isDigit 30 = .ok (.invokestatic 30, 3) := dk_184 0 30 (dk_at dksX9_isDigit_1 6 rfl rfl)
theorem dX9_isDigit_33 : decode cX9_isDigit 33 = .ok (.ifCond .eq 7, 3) := dk_153 0 7 (dk_at dksX9_isDigit_1 9 rfl rfl)
theorem dX9_isDigit_36 : decode cX9_isDigit 36 = .ok (.iconst 1, 1) := dk_4 (dk_at dksX9_isDigit_1 12 rfl rfl)
theorem dX9_isDigit_37 : decode cX9_isDigit 37 = .ok (.goto 4, 3) := dk_167 0 4 (dk_at dksX9_isDigit_1 13 rfl rfl)
theorem dX9_isDigit_40 : decode cX9_isDigit 40 = .ok (.iconst 0, 1) := dk_3 (dk_at dksX9_isDigit_1 16 rfl rfl)
theorem dX9_isDigit_41 : decode cX9_isDigit 41 = .ok (.ireturn, 1) := dk_172 (dk_at dksX9_isDigit_1 17 rfl rfl)
abbrev cX9_passes : ByteArray := prog_13_method_4_code
def yX9_passes : MethodName := ⟨RX9, "passes", "(C)V"⟩
def dkwX9_passes_1 : List UInt8 := [180, 0, 19, 4, 96, 181, 0, 19, 177]
abbrev dktX9_passes_1 : List UInt8 := dkwX9_passes_1 ++ []
def dkwX9_passes_0 : List UInt8 := [42, 27, 182, 0, 34, 154, 0, 15, 187, 0, 38, 89, 42, 180, 0, 19, 183, 0, 40, 191, 42, 89]
abbrev dktX9_passes_0 : List UInt8 := dkwX9_passes_0 ++ dktX9_passes_1
theorem dksX9_passes_0 : cX9_passes.data.toList.drop 0 = dktX9_passes_0 := by decide +kernel
theorem dksX9_passes_1 : cX9_passes.data.toList.drop 22 = dktX9_passes_1 := dk_seg dksX9_passes_0 22 rfl rfl
theorem dX9_passes_0 : decode cX9_passes 0 = .ok (.aload_n 0, 1) := dk_42 (dk_at dksX9_passes_0 0 rfl rfl)
theorem dX9_passes_1 : decode cX9_passes 1 = .ok (.iload_n 1, 1) := dk_27 (dk_at dksX9_passes_0 1 rfl rfl)
theorem dX9_passes_2 : decode cX9_passes 2 = .ok (.invokevirtual 34, 3) := dk_182 0 34 (dk_at dksX9_passes_0 2 rfl rfl)
theorem dX9_passes_5 : decode cX9_passes 5 = .ok (.ifCond .ne 15, 3) := dk_154 0 15 (dk_at dksX9_passes_0 5 rfl rfl)
theorem dX9_passes_8 : decode cX9_passes 8 = .ok (.new 38, 3) := dk_187 0 38 (dk_at dksX9_passes_0 8 rfl rfl)
theorem dX9_passes_11 : decode cX9_passes 11 = .ok (.dup, 1) := dk_89 (dk_at dksX9_passes_0 11 rfl rfl)
theorem dX9_passes_12 : decode cX9_passes 12 = .ok (.aload_n 0, 1) := dk_42 (dk_at dksX9_passes_0 12 rfl rfl)
theorem dX9_passes_13 : decode cX9_passes 13 = .ok (.getfield 19, 3) := dk_180 0 19 (dk_at dksX9_passes_0 13 rfl rfl)
theorem dX9_passes_16 : decode cX9_passes 16 = .ok (.invokespecial 40, 3) := dk_183 0 40 (dk_at dksX9_passes_0 16 rfl rfl)
theorem dX9_passes_19 : decode cX9_passes 19 = .ok (.athrow, 1) := dk_191 (dk_at dksX9_passes_0 19 rfl rfl)
theorem dX9_passes_20 : decode cX9_passes 20 = .ok (.aload_n 0, 1) := dk_42 (dk_at dksX9_passes_0 20 rfl rfl)
theorem dX9_passes_21 : decode cX9_passes 21 = .ok (.dup, 1) := dk_89 (dk_at dksX9_passes_0 21 rfl rfl)
theorem dX9_passes_22 : decode cX9_passes 22 = .ok (.getfield 19, 3) := dk_180 0 19 (dk_at dksX9_passes_1 0 rfl rfl)
theorem dX9_passes_25 : decode cX9_passes 25 = .ok (.iconst 1, 1) := dk_4 (dk_at dksX9_passes_1 3 rfl rfl)
theorem dX9_passes_26 : decode cX9_passes 26 = .ok (.iadd, 1) := dk_96 (dk_at dksX9_passes_1 4 rfl rfl)
theorem dX9_passes_27 : decode cX9_passes 27 = .ok (.putfield 19, 3) := dk_181 0 19 (dk_at dksX9_passes_1 5 rfl rfl)
theorem dX9_passes_30 : decode cX9_passes 30 = .ok (.return_, 1) := dk_177 (dk_at dksX9_passes_1 8 rfl rfl)
abbrev cX9_sees : ByteArray := prog_13_method_2_code
def yX9_sees : MethodName := ⟨RX9, "sees", "(C)Z"⟩
def dkwX9_sees_1 : List UInt8 := [160, 0, 7, 4, 167, 0, 4, 3, 172]
abbrev dktX9_sees_1 : List UInt8 := dkwX9_sees_1 ++ []
def dkwX9_sees_0 : List UInt8 := [42, 180, 0, 19, 42, 180, 0, 15, 162, 0, 23, 42, 180, 0, 3, 180, 0, 22, 42, 180, 0, 19, 51, 27]
abbrev dktX9_sees_0 : List UInt8 := dkwX9_sees_0 ++ dktX9_sees_1
theorem dksX9_sees_0 : cX9_sees.data.toList.drop 0 = dktX9_sees_0 := by decide +kernel
theorem dksX9_sees_1 : cX9_sees.data.toList.drop 24 = dktX9_sees_1 := dk_seg dksX9_sees_0 24 rfl rfl
theorem dX9_sees_0 : decode cX9_sees 0 = .ok (.aload_n 0, 1) := dk_42 (dk_at dksX9_sees_0 0 rfl rfl)
theorem dX9_sees_1 : decode cX9_sees 1 = .ok (.getfield 19, 3) := dk_180 0 19 (dk_at dksX9_sees_0 1 rfl rfl)
theorem dX9_sees_4 : decode cX9_sees 4 = .ok (.aload_n 0, 1) := dk_42 (dk_at dksX9_sees_0 4 rfl rfl)
theorem dX9_sees_5 : decode cX9_sees 5 = .ok (.getfield 15, 3) := dk_180 0 15 (dk_at dksX9_sees_0 5 rfl rfl)
theorem dX9_sees_8 : decode cX9_sees 8 = .ok (.if_icmp .ge 23, 3) := dk_162 0 23 (dk_at dksX9_sees_0 8 rfl rfl)
theorem dX9_sees_11 : decode cX9_sees 11 = .ok (.aload_n 0, 1) := dk_42 (dk_at dksX9_sees_0 11 rfl rfl)
theorem dX9_sees_12 : decode cX9_sees 12 = .ok (.getfield 3, 3) := dk_180 0 3 (dk_at dksX9_sees_0 12 rfl rfl)
theorem dX9_sees_15 : decode cX9_sees 15 = .ok (.getfield 22, 3) := dk_180 0 22 (dk_at dksX9_sees_0 15 rfl rfl)
theorem dX9_sees_18 : decode cX9_sees 18 = .ok (.aload_n 0, 1) := dk_42 (dk_at dksX9_sees_0 18 rfl rfl)
theorem dX9_sees_19 : decode cX9_sees 19 = .ok (.getfield 19, 3) := dk_180 0 19 (dk_at dksX9_sees_0 19 rfl rfl)
theorem dX9_sees_22 : decode cX9_sees 22 = .ok (.baload, 1) := dk_51 (dk_at dksX9_sees_0 22 rfl rfl)
theorem dX9_sees_23 : decode cX9_sees 23 = .ok (.iload_n 1, 1) := dk_27 (dk_at dksX9_sees_0 23 rfl rfl)
theorem dX9_sees_24 : decode cX9_sees 24 = .ok (.if_icmp .ne 7, 3) := dk_160 0 7 (dk_at dksX9_sees_1 0 rfl rfl)
theorem dX9_sees_27 : decode cX9_sees 27 = .ok (.iconst 1, 1) := dk_4 (dk_at dksX9_sees_1 3 rfl rfl)
theorem dX9_sees_28 : decode cX9_sees 28 = .ok (.goto 4, 3) := dk_167 0 4 (dk_at dksX9_sees_1 4 rfl rfl)
theorem dX9_sees_31 : decode cX9_sees 31 = .ok (.iconst 0, 1) := dk_3 (dk_at dksX9_sees_1 7 rfl rfl)
theorem dX9_sees_32 : decode cX9_sees 32 = .ok (.ireturn, 1) := dk_172 (dk_at dksX9_sees_1 8 rfl rfl)
abbrev cX9_points : ByteArray := prog_13_method_6_code
def yX9_points : MethodName := ⟨RX9, "points", "(LNextLoad$Table;)V"⟩
def dkwX9_points_3 : List UInt8 := [161, 255, 190, 177]
abbrev dktX9_points_3 : List UInt8 := dkwX9_points_3 ++ []
def dkwX9_points_2 : List UInt8 := [29, 182, 0, 60, 21, 4, 4, 96, 61, 42, 16, 44, 182, 0, 34, 153, 0, 12, 43, 180, 0, 47, 16, 6]
abbrev dktX9_points_2 : List UInt8 := dkwX9_points_2 ++ dktX9_points_3
def dkwX9_points_1 : List UInt8 := [28, 16, 40, 182, 0, 52, 54, 4, 42, 16, 61, 182, 0, 56, 42, 3, 29, 182, 0, 52, 62, 43, 21, 4]
abbrev dktX9_points_1 : List UInt8 := dkwX9_points_1 ++ dktX9_points_2
def dkwX9_points_0 : List UInt8 := [4, 61, 17, 3, 232, 62, 43, 180, 0, 47, 158, 0, 13, 42, 89, 180, 0, 19, 4, 96, 181, 0, 19, 42]
abbrev dktX9_points_0 : List UInt8 := dkwX9_points_0 ++ dktX9_points_1
theorem dksX9_points_0 : cX9_points.data.toList.drop 0 = dktX9_points_0 := by decide +kernel
theorem dksX9_points_1 : cX9_points.data.toList.drop 24 = dktX9_points_1 := dk_seg dksX9_points_0 24 rfl rfl
theorem dksX9_points_2 : cX9_points.data.toList.drop 48 = dktX9_points_2 := dk_seg dksX9_points_1 24 rfl rfl
theorem dksX9_points_3 : cX9_points.data.toList.drop 72 = dktX9_points_3 := dk_seg dksX9_points_2 24 rfl rfl
theorem dX9_points_0 : decode cX9_points 0 = .ok (.iconst 1, 1) := dk_4 (dk_at dksX9_points_0 0 rfl rfl)
theorem dX9_points_1 : decode cX9_points 1 = .ok (.istore_n 2, 1) := dk_61 (dk_at dksX9_points_0 1 rfl rfl)
theorem dX9_points_2 : decode cX9_points 2 = .ok (.sipush 1000, 3) := dk_17 3 232 (dk_at dksX9_points_0 2 rfl rfl)
theorem dX9_points_5 : decode cX9_points 5 = .ok (.istore_n 3, 1) := dk_62 (dk_at dksX9_points_0 5 rfl rfl)
theorem dX9_points_6 : decode cX9_points 6 = .ok (.aload_n 1, 1) := dk_43 (dk_at dksX9_points_0 6 rfl rfl)
theorem dX9_points_7 : decode cX9_points 7 = .ok (.getfield 47, 3) := dk_180 0 47 (dk_at dksX9_points_0 7 rfl rfl)
theorem dX9_points_10 : decode cX9_points 10 = .ok (.ifCond .le 13, 3) := dk_158 0 13 (dk_at dksX9_points_0 10 rfl rfl)
theorem dX9_points_13 : decode cX9_points 13 = .ok (.aload_n 0, 1) := dk_42 (dk_at dksX9_points_0 13 rfl rfl)
theorem dX9_points_14 : decode cX9_points 14 = .ok (.dup, 1) := dk_89 (dk_at dksX9_points_0 14 rfl rfl)
theorem dX9_points_15 : decode cX9_points 15 = .ok (.getfield 19, 3) := dk_180 0 19 (dk_at dksX9_points_0 15 rfl rfl)
theorem dX9_points_18 : decode cX9_points 18 = .ok (.iconst 1, 1) := dk_4 (dk_at dksX9_points_0 18 rfl rfl)
theorem dX9_points_19 : decode cX9_points 19 = .ok (.iadd, 1) := dk_96 (dk_at dksX9_points_0 19 rfl rfl)
theorem dX9_points_20 : decode cX9_points 20 = .ok (.putfield 19, 3) := dk_181 0 19 (dk_at dksX9_points_0 20 rfl rfl)
theorem dX9_points_23 : decode cX9_points 23 = .ok (.aload_n 0, 1) := dk_42 (dk_at dksX9_points_0 23 rfl rfl)
theorem dX9_points_24 : decode cX9_points 24 = .ok (.iload_n 2, 1) := dk_28 (dk_at dksX9_points_1 0 rfl rfl)
theorem dX9_points_25 : decode cX9_points 25 = .ok (.bipush 40, 2) := dk_16 40 (dk_at dksX9_points_1 1 rfl rfl)
theorem dX9_points_27 : decode cX9_points 27 = .ok (.invokevirtual 52, 3) := dk_182 0 52 (dk_at dksX9_points_1 3 rfl rfl)
theorem dX9_points_30 : decode cX9_points 30 = .ok (.istore 4, 2) := dk_54 4 (dk_at dksX9_points_1 6 rfl rfl)
theorem dX9_points_32 : decode cX9_points 32 = .ok (.aload_n 0, 1) := dk_42 (dk_at dksX9_points_1 8 rfl rfl)
theorem dX9_points_33 : decode cX9_points 33 = .ok (.bipush 61, 2) := dk_16 61 (dk_at dksX9_points_1 9 rfl rfl)
theorem dX9_points_35 : decode cX9_points 35 = .ok (.invokevirtual 56, 3) := dk_182 0 56 (dk_at dksX9_points_1 11 rfl rfl)
theorem dX9_points_38 : decode cX9_points 38 = .ok (.aload_n 0, 1) := dk_42 (dk_at dksX9_points_1 14 rfl rfl)
theorem dX9_points_39 : decode cX9_points 39 = .ok (.iconst 0, 1) := dk_3 (dk_at dksX9_points_1 15 rfl rfl)
theorem dX9_points_40 : decode cX9_points 40 = .ok (.iload_n 3, 1) := dk_29 (dk_at dksX9_points_1 16 rfl rfl)
theorem dX9_points_41 : decode cX9_points 41 = .ok (.invokevirtual 52, 3) := dk_182 0 52 (dk_at dksX9_points_1 17 rfl rfl)
theorem dX9_points_44 : decode cX9_points 44 = .ok (.istore_n 3, 1) := dk_62 (dk_at dksX9_points_1 20 rfl rfl)
theorem dX9_points_45 : decode cX9_points 45 = .ok (.aload_n 1, 1) := dk_43 (dk_at dksX9_points_1 21 rfl rfl)
theorem dX9_points_46 : decode cX9_points 46 = .ok (.iload 4, 2) := dk_21 4 (dk_at dksX9_points_1 22 rfl rfl)
theorem dX9_points_48 : decode cX9_points 48 = .ok (.iload_n 3, 1) := dk_29 (dk_at dksX9_points_2 0 rfl rfl)
theorem dX9_points_49 : decode cX9_points 49 = .ok (.invokevirtual 60, 3) := dk_182 0 60 (dk_at dksX9_points_2 1 rfl rfl)
theorem dX9_points_52 : decode cX9_points 52 = .ok (.iload 4, 2) := dk_21 4 (dk_at dksX9_points_2 4 rfl rfl)
theorem dX9_points_54 : decode cX9_points 54 = .ok (.iconst 1, 1) := dk_4 (dk_at dksX9_points_2 6 rfl rfl)
theorem dX9_points_55 : decode cX9_points 55 = .ok (.iadd, 1) := dk_96 (dk_at dksX9_points_2 7 rfl rfl)
theorem dX9_points_56 : decode cX9_points 56 = .ok (.istore_n 2, 1) := dk_61 (dk_at dksX9_points_2 8 rfl rfl)
theorem dX9_points_57 : decode cX9_points 57 = .ok (.aload_n 0, 1) := dk_42 (dk_at dksX9_points_2 9 rfl rfl)
theorem dX9_points_58 : decode cX9_points 58 = .ok (.bipush 44, 2) := dk_16 44 (dk_at dksX9_points_2 10 rfl rfl)
theorem dX9_points_60 : decode cX9_points 60 = .ok (.invokevirtual 34, 3) := dk_182 0 34 (dk_at dksX9_points_2 12 rfl rfl)
theorem dX9_points_63 : decode cX9_points 63 = .ok (.ifCond .eq 12, 3) := dk_153 0 12 (dk_at dksX9_points_2 15 rfl rfl)
theorem dX9_points_66 : decode cX9_points 66 = .ok (.aload_n 1, 1) := dk_43 (dk_at dksX9_points_2 18 rfl rfl)
theorem dX9_points_67 : decode cX9_points 67 = .ok (.getfield 47, 3) := dk_180 0 47 (dk_at dksX9_points_2 19 rfl rfl)
theorem dX9_points_70 : decode cX9_points 70 = .ok (.bipush 6, 2) := dk_16 6 (dk_at dksX9_points_2 22 rfl rfl)
theorem dX9_points_72 : decode cX9_points 72 = .ok (.if_icmp .lt (-66), 3) := dk_161 255 190 (dk_at dksX9_points_3 0 rfl rfl)
theorem dX9_points_75 : decode cX9_points 75 = .ok (.return_, 1) := dk_177 (dk_at dksX9_points_3 3 rfl rfl)
theorem q123 : (Jvm.Cond.initialized "NextLoad$Reader") ∈ lw_all := lw_g (lw_at lw_m1 14 rfl) rfl
theorem q397 : (Jvm.Cond.fieldLinkNest "NextLoad$Reader" (73 : Nat) "NextLoad" "lifters" "Ljava/util/ArrayList;" "NextLoad") ∈ lw_tbl := lw_at lw_m2 48 rfl
theorem q404 : (Jvm.Cond.fieldLinkNest "NextLoad$Reader" (22 : Nat) "NextLoad" "text" "[B" "NextLoad") ∈ lw_tbl := lw_at lw_m2 55 rfl
theorem q473 : (Jvm.Cond.instantiable "NextLoad$Reader" (3 : Nat)) ∈ lw_all := lw_g (lw_at lw_m2 124 rfl) rfl
theorem q475 : (Jvm.Cond.instanceMethod ({ cls := "NextLoad$Reader", name := "<init>", desc := "(LNextLoad;I)V" } : Jvm.MethodName)) ∈ lw_all := lw_g (lw_at lw_m2 126 rfl) rfl
theorem q476 : (Jvm.Cond.code ({ cls := "NextLoad$Reader", name := "<init>", desc := "(LNextLoad;I)V" } : Jvm.MethodName) prog_13_method_1_code (3 : Nat) (Option.none : Option Jvm.ClassFile.FieldType)) ∈ lw_all := lw_g (lw_at lw_m2 127 rfl) rfl
theorem q477 : (Jvm.Cond.methodLink "NextLoad$Reader" (9 : Nat) ({ cls := "java/lang/Object", name := "<init>", desc := "()V" } : Jvm.MethodName)) ∈ lw_all := lw_g (lw_at lw_m2 128 rfl) rfl
theorem q478 : (Jvm.Cond.fieldLink "NextLoad$Reader" (15 : Nat) "NextLoad$Reader" "size" "I") ∈ lw_all := lw_g (lw_at lw_m2 129 rfl) rfl
theorem q479 : (Jvm.Cond.fieldLink "NextLoad$Reader" (19 : Nat) "NextLoad$Reader" "at" "I") ∈ lw_all := lw_g (lw_at lw_m2 130 rfl) rfl
theorem q480 : (Jvm.Cond.fieldLink "NextLoad$Reader" (3 : Nat) "NextLoad$Reader" "this$0" "LNextLoad;") ∈ lw_all := lw_g (lw_at lw_m2 131 rfl) rfl
theorem q481 : (Jvm.Cond.laysFinal "NextLoad$Reader" "NextLoad$Reader" "size" "I") ∈ lw_all := lw_g (lw_at lw_m2 132 rfl) rfl
theorem q482 : (Jvm.Cond.soleField "NextLoad$Reader" "size") ∈ lw_all := lw_g (lw_at lw_m2 133 rfl) rfl
theorem q483 : (Jvm.Cond.lays "NextLoad$Reader" "NextLoad$Reader" "at" "I") ∈ lw_all := lw_g (lw_at lw_m2 134 rfl) rfl
theorem q484 : (Jvm.Cond.soleField "NextLoad$Reader" "at") ∈ lw_all := lw_g (lw_at lw_m2 135 rfl) rfl
theorem q485 : (Jvm.Cond.laysFinal "NextLoad$Reader" "NextLoad$Reader" "this$0" "LNextLoad;") ∈ lw_all := lw_g (lw_at lw_m2 136 rfl) rfl
theorem q486 : (Jvm.Cond.soleField "NextLoad$Reader" "this$0") ∈ lw_all := lw_g (lw_at lw_m2 137 rfl) rfl
theorem q487 : (Jvm.Cond.superclass "NextLoad$Reader" "java/lang/Object") ∈ lw_all := lw_g (lw_at lw_m2 138 rfl) rfl
theorem q489 : (Jvm.Cond.instanceMethod ({ cls := "NextLoad$Reader", name := "lifter", desc := "()LNextLoad$Lifter;" } : Jvm.MethodName)) ∈ lw_all := lw_g (lw_at lw_m2 140 rfl) rfl
theorem q490 : (Jvm.Cond.selects "NextLoad$Reader" ({ cls := "NextLoad$Reader", name := "lifter", desc := "()LNextLoad$Lifter;" } : Jvm.MethodName) ({ cls := "NextLoad$Reader", name := "lifter", desc := "()LNextLoad$Lifter;" } : Jvm.MethodName)) ∈ lw_all := lw_g (lw_at lw_m2 141 rfl) rfl
theorem q491 : (Jvm.Cond.code ({ cls := "NextLoad$Reader", name := "lifter", desc := "()LNextLoad$Lifter;" } : Jvm.MethodName) prog_13_method_7_code (3 : Nat) (Option.some (Jvm.ClassFile.FieldType.object "NextLoad$Lifter"))) ∈ lw_all := lw_g (lw_at lw_m2 142 rfl) rfl
theorem q492 : (Jvm.Cond.classLink "NextLoad$Reader" (64 : Nat) "NextLoad$Lifter") ∈ lw_all := lw_g (lw_at lw_m2 143 rfl) rfl
theorem q494 : (Jvm.Cond.methodLinkNest "NextLoad$Reader" (66 : Nat) ({ cls := "NextLoad$Lifter", name := "<init>", desc := "()V" } : Jvm.MethodName) "NextLoad") ∈ lw_tbl := lw_at lw_m2 145 rfl
theorem q508 : (Jvm.Cond.fieldLinkNest "NextLoad$Reader" (47 : Nat) "NextLoad$Table" "many" "I" "NextLoad") ∈ lw_tbl := lw_at lw_m2 159 rfl
theorem q516 : (Jvm.Cond.fieldLinkNest "NextLoad$Reader" (67 : Nat) "NextLoad$Lifter" "body" "I" "NextLoad") ∈ lw_tbl := lw_at lw_m2 167 rfl
theorem q520 : (Jvm.Cond.fieldLinkNest "NextLoad$Reader" (70 : Nat) "NextLoad$Lifter" "lot" "I" "NextLoad") ∈ lw_tbl := lw_at lw_m2 171 rfl
theorem q524 : (Jvm.Cond.fieldLinkNest "NextLoad$Reader" (86 : Nat) "NextLoad$Lifter" "table" "[LNextLoad$Table;" "NextLoad") ∈ lw_tbl := lw_at lw_m2 175 rfl
theorem q528 : (Jvm.Cond.fieldLinkNest "NextLoad$Reader" (94 : Nat) "NextLoad$Lifter" "open" "[I" "NextLoad") ∈ lw_tbl := lw_at lw_m2 179 rfl
theorem q532 : (Jvm.Cond.fieldLinkNest "NextLoad$Reader" (98 : Nat) "NextLoad$Lifter" "more" "[I" "NextLoad") ∈ lw_tbl := lw_at lw_m2 183 rfl
theorem q535 : (Jvm.Cond.fieldLinkNest "NextLoad$Reader" (101 : Nat) "NextLoad$Lifter" "again" "[I" "NextLoad") ∈ lw_tbl := lw_at lw_m2 186 rfl
theorem q550 : (Jvm.Cond.methodLink "NextLoad$Reader" (52 : Nat) ({ cls := "NextLoad$Reader", name := "number", desc := "(II)I" } : Jvm.MethodName)) ∈ lw_all := lw_g (lw_at lw_m2 201 rfl) rfl
theorem q551 : (Jvm.Cond.privateMethod ({ cls := "NextLoad$Reader", name := "number", desc := "(II)I" } : Jvm.MethodName)) ∈ lw_tbl := lw_at lw_m2 202 rfl
theorem q552 : (Jvm.Cond.instanceMethod ({ cls := "NextLoad$Reader", name := "number", desc := "(II)I" } : Jvm.MethodName)) ∈ lw_all := lw_g (lw_at lw_m2 203 rfl) rfl
theorem q553 : (Jvm.Cond.code ({ cls := "NextLoad$Reader", name := "number", desc := "(II)I" } : Jvm.MethodName) prog_13_method_5_code (5 : Nat) (Option.some Jvm.ClassFile.FieldType.int)) ∈ lw_all := lw_g (lw_at lw_m2 204 rfl) rfl
theorem q554 : (Jvm.Cond.methodLink "NextLoad$Reader" (43 : Nat) ({ cls := "NextLoad$Reader", name := "isDigit", desc := "()Z" } : Jvm.MethodName)) ∈ lw_all := lw_g (lw_at lw_m2 205 rfl) rfl
theorem q555 : (Jvm.Cond.privateMethod ({ cls := "NextLoad$Reader", name := "isDigit", desc := "()Z" } : Jvm.MethodName)) ∈ lw_tbl := lw_at lw_m2 206 rfl
theorem q556 : (Jvm.Cond.instanceMethod ({ cls := "NextLoad$Reader", name := "isDigit", desc := "()Z" } : Jvm.MethodName)) ∈ lw_all := lw_g (lw_at lw_m2 207 rfl) rfl
theorem q557 : (Jvm.Cond.code ({ cls := "NextLoad$Reader", name := "isDigit", desc := "()Z" } : Jvm.MethodName) prog_13_method_3_code (1 : Nat) (Option.some Jvm.ClassFile.FieldType.boolean)) ∈ lw_all := lw_g (lw_at lw_m2 208 rfl) rfl
theorem q558 : (Jvm.Cond.constantLong "NextLoad$Reader" (26 : Nat) (48 : Int64)) ∈ lw_all := lw_g (lw_at lw_m2 209 rfl) rfl
theorem q559 : (Jvm.Cond.constantLong "NextLoad$Reader" (28 : Nat) (57 : Int64)) ∈ lw_all := lw_g (lw_at lw_m2 210 rfl) rfl
theorem q560 : (Jvm.Cond.methodLinkNest "NextLoad$Reader" (30 : Nat) ({ cls := "NextLoad", name := "in", desc := "(JJJ)Z" } : Jvm.MethodName) "NextLoad") ∈ lw_tbl := lw_at lw_m2 211 rfl
theorem q561 : (Jvm.Cond.classLink "NextLoad$Reader" (38 : Nat) "NextLoad$Fault") ∈ lw_all := lw_g (lw_at lw_m2 212 rfl) rfl
theorem q599 : (Jvm.Cond.methodLink "NextLoad$Reader" (40 : Nat) ({ cls := "NextLoad$Fault", name := "<init>", desc := "(I)V" } : Jvm.MethodName)) ∈ lw_all := lw_g (lw_at lw_m3 10 rfl) rfl
theorem q625 : (Jvm.Cond.methodLink "NextLoad$Reader" (56 : Nat) ({ cls := "NextLoad$Reader", name := "passes", desc := "(C)V" } : Jvm.MethodName)) ∈ lw_all := lw_g (lw_at lw_m3 36 rfl) rfl
theorem q626 : (Jvm.Cond.privateMethod ({ cls := "NextLoad$Reader", name := "passes", desc := "(C)V" } : Jvm.MethodName)) ∈ lw_tbl := lw_at lw_m3 37 rfl
theorem q627 : (Jvm.Cond.instanceMethod ({ cls := "NextLoad$Reader", name := "passes", desc := "(C)V" } : Jvm.MethodName)) ∈ lw_all := lw_g (lw_at lw_m3 38 rfl) rfl
theorem q628 : (Jvm.Cond.code ({ cls := "NextLoad$Reader", name := "passes", desc := "(C)V" } : Jvm.MethodName) prog_13_method_4_code (2 : Nat) (Option.none : Option Jvm.ClassFile.FieldType)) ∈ lw_all := lw_g (lw_at lw_m3 39 rfl) rfl
theorem q629 : (Jvm.Cond.methodLink "NextLoad$Reader" (34 : Nat) ({ cls := "NextLoad$Reader", name := "sees", desc := "(C)Z" } : Jvm.MethodName)) ∈ lw_all := lw_g (lw_at lw_m3 40 rfl) rfl
theorem q630 : (Jvm.Cond.privateMethod ({ cls := "NextLoad$Reader", name := "sees", desc := "(C)Z" } : Jvm.MethodName)) ∈ lw_tbl := lw_at lw_m3 41 rfl
theorem q631 : (Jvm.Cond.instanceMethod ({ cls := "NextLoad$Reader", name := "sees", desc := "(C)Z" } : Jvm.MethodName)) ∈ lw_all := lw_g (lw_at lw_m3 42 rfl) rfl
theorem q632 : (Jvm.Cond.code ({ cls := "NextLoad$Reader", name := "sees", desc := "(C)Z" } : Jvm.MethodName) prog_13_method_2_code (2 : Nat) (Option.some Jvm.ClassFile.FieldType.boolean)) ∈ lw_all := lw_g (lw_at lw_m3 43 rfl) rfl
theorem q633 : (Jvm.Cond.methodLink "NextLoad$Reader" (77 : Nat) ({ cls := "java/util/ArrayList", name := "size", desc := "()I" } : Jvm.MethodName)) ∈ lw_all := lw_g (lw_at lw_m3 44 rfl) rfl
theorem q634 : (Jvm.Cond.methodLink "NextLoad$Reader" (82 : Nat) ({ cls := "java/util/ArrayList", name := "get", desc := "(I)Ljava/lang/Object;" } : Jvm.MethodName)) ∈ lw_all := lw_g (lw_at lw_m3 45 rfl) rfl
theorem q635 : (Jvm.Cond.methodLink "NextLoad$Reader" (90 : Nat) ({ cls := "NextLoad$Reader", name := "points", desc := "(LNextLoad$Table;)V" } : Jvm.MethodName)) ∈ lw_all := lw_g (lw_at lw_m3 46 rfl) rfl
theorem q636 : (Jvm.Cond.privateMethod ({ cls := "NextLoad$Reader", name := "points", desc := "(LNextLoad$Table;)V" } : Jvm.MethodName)) ∈ lw_tbl := lw_at lw_m3 47 rfl
theorem q637 : (Jvm.Cond.instanceMethod ({ cls := "NextLoad$Reader", name := "points", desc := "(LNextLoad$Table;)V" } : Jvm.MethodName)) ∈ lw_all := lw_g (lw_at lw_m3 48 rfl) rfl
theorem q638 : (Jvm.Cond.code ({ cls := "NextLoad$Reader", name := "points", desc := "(LNextLoad$Table;)V" } : Jvm.MethodName) prog_13_method_6_code (5 : Nat) (Option.none : Option Jvm.ClassFile.FieldType)) ∈ lw_all := lw_g (lw_at lw_m3 49 rfl) rfl
theorem q639 : (Jvm.Cond.methodLink "NextLoad$Reader" (60 : Nat) ({ cls := "NextLoad$Table", name := "adds", desc := "(II)V" } : Jvm.MethodName)) ∈ lw_all := lw_g (lw_at lw_m3 50 rfl) rfl
theorem q688 : (Jvm.Cond.selects "NextLoad$Reader" ({ cls := "java/lang/Object", name := "getClass", desc := "()Ljava/lang/Class;" } : Jvm.MethodName) ({ cls := "java/lang/Object", name := "getClass", desc := "()Ljava/lang/Class;" } : Jvm.MethodName)) ∈ lw_all := lw_g (lw_at lw_m3 99 rfl) rfl
theorem q1940 : (Jvm.Cond.castable "NextLoad$Reader" "java/lang/Object") ∈ lw_tbl := lw_at lw_m8 151 rfl
theorem in_X9 : ∀ w ∈ wsX90, w ∈ lw_all := lw_in wsX90 [481, 483, 485] (by decide +kernel) (by decide +kernel)
