set_option maxRecDepth 100000
/-! NextLoadModel -/
set_option maxRecDepth 100000
def RX8 : String := "NextLoadModel"
def TX8 : u_T := fun k => match k with
  | 0 => ("NextLoadModel", "thrown", "I", false)
  | 1 => ("NextLoadModel", "told", "I", false)
  | 2 => ("NextLoadModel", "row", "[J", true)
  | 3 => ("NextLoadModel", "lifters", "I", false)
  | 4 => ("NextLoadModel", "body", "[I", true)
  | 5 => ("NextLoadModel", "lot", "[I", true)
  | 6 => ("NextLoadModel", "points", "[I", true)
  | 7 => ("NextLoadModel", "pointLoad", "[I", true)
  | 8 => ("NextLoadModel", "pointOdds", "[I", true)
  | 9 => ("NextLoadModel", "plan", "[I", true)
  | 10 => ("NextLoadModel", "tire", "I", false)
  | 11 => ("NextLoadModel", "meet", "[I", true)
  | 12 => ("NextLoadModel", "aside", "[I", true)
  | 13 => ("NextLoadModel", "tries", "I", false)
  | 14 => ("NextLoadModel", "goods", "I", false)
  | 15 => ("NextLoadModel", "tryOf", "[I", true)
  | 16 => ("NextLoadModel", "askedThen", "I", false)
  | 17 => ("NextLoadModel", "tape", "[I", true)
  | 18 => ("NextLoadModel", "taped", "I", false)
  | 19 => ("NextLoadModel", "at", "I", false)
  | 20 => ("NextLoadModel", "to", "I", false)
  | 21 => ("NextLoadModel", "number", "I", false)
  | 22 => ("NextLoadModel", "readBody", "I", false)
  | 23 => ("NextLoadModel", "readLot", "I", false)
  | 24 => ("NextLoadModel", "readPoints", "[I", true)
  | 25 => ("NextLoadModel", "readLoad", "[I", true)
  | 26 => ("NextLoadModel", "readOdds", "[I", true)
  | 27 => ("NextLoadModel", "readPlan", "[I", true)
  | 28 => ("NextLoadModel", "aim", "[I", true)
  | 29 => ("NextLoadModel", "chances", "[I", true)
  | 30 => ("NextLoadModel", "win", "[I", true)
  | 31 => ("NextLoadModel", "behind", "[I", true)
  | 32 => ("NextLoadModel", "bestValue", "[I", true)
  | 33 => ("NextLoadModel", "bestLoad", "I", false)
  | 34 => ("NextLoadModel", "nextLoad", "I", false)
  | 35 => ("NextLoadModel", "one", "I", false)
  | 36 => ("NextLoadModel", "other", "I", false)
  | 37 => ("NextLoadModel", "duelValue", "[I", true)
  | 38 => ("NextLoadModel", "duelChoice", "[I", true)
  | _ => ("NextLoadModel", "drawn", "I", false)
def tyX8 : Nat → FieldType := fun k => match k with
  | 0 => .int
  | 1 => .int
  | 2 => .array .long
  | 3 => .int
  | 4 => .array .int
  | 5 => .array .int
  | 6 => .array .int
  | 7 => .array .int
  | 8 => .array .int
  | 9 => .array .int
  | 10 => .int
  | 11 => .array .int
  | 12 => .array .int
  | 13 => .int
  | 14 => .int
  | 15 => .array .int
  | 16 => .int
  | 17 => .array .int
  | 18 => .int
  | 19 => .int
  | 20 => .int
  | 21 => .int
  | 22 => .int
  | 23 => .int
  | 24 => .array .int
  | 25 => .array .int
  | 26 => .array .int
  | 27 => .array .int
  | 28 => .array .int
  | 29 => .array .int
  | 30 => .array .int
  | 31 => .array .int
  | 32 => .array .int
  | 33 => .int
  | 34 => .int
  | 35 => .int
  | 36 => .int
  | 37 => .array .int
  | 38 => .array .int
  | _ => .int
abbrev wsX80 : List Cond := u_ws RX8 TX8 40
set_option maxRecDepth 100000 in
theorem nmX8 : ∀ a, a < 40 → ∀ b, b < 40 → a ≠ b → (TX8 a).2.1 ≠ (TX8 b).2.1 := by decide +kernel
set_option maxRecDepth 100000 in
theorem tyX8_ok : ∀ k, k < 40 → parseFieldDescriptor (TX8 k).2.2.1 = some (tyX8 k) := by decide +kernel
abbrev cX8_init : ByteArray := prog_21_method_1_code
def yX8_init : MethodName := ⟨RX8, "<init>", "()V"⟩
def dkwX8_init_7 : List UInt8 := [181, 0, 68, 42, 17, 59, 25, 188, 10, 181, 0, 71, 42, 17, 59, 25, 188, 10, 181, 0, 74, 177]
abbrev dktX8_init_7 : List UInt8 := dkwX8_init_7 ++ []
def dkwX8_init_6 : List UInt8 := [16, 121, 188, 10, 181, 0, 62, 42, 17, 1, 228, 188, 10, 181, 0, 65, 42, 17, 110, 64, 188, 10]
abbrev dktX8_init_6 : List UInt8 := dkwX8_init_6 ++ dktX8_init_7
def dkwX8_init_5 : List UInt8 := [16, 9, 188, 10, 181, 0, 53, 42, 16, 122, 188, 10, 181, 0, 56, 42, 16, 122, 188, 10, 181, 0, 59, 42]
abbrev dktX8_init_5 : List UInt8 := dkwX8_init_5 ++ dktX8_init_6
def dkwX8_init_4 : List UInt8 := [6, 188, 10, 181, 0, 44, 42, 16, 18, 188, 10, 181, 0, 47, 42, 16, 18, 188, 10, 181, 0, 50, 42]
abbrev dktX8_init_4 : List UInt8 := dkwX8_init_4 ++ dktX8_init_5
def dkwX8_init_3 : List UInt8 := [188, 10, 181, 0, 35, 42, 17, 0, 240, 188, 10, 181, 0, 38, 42, 17, 0, 240, 188, 10, 181, 0, 41, 42]
abbrev dktX8_init_3 : List UInt8 := dkwX8_init_3 ++ dktX8_init_4
def dkwX8_init_2 : List UInt8 := [188, 10, 181, 0, 26, 42, 16, 54, 188, 10, 181, 0, 29, 42, 16, 63, 188, 10, 181, 0, 32, 42, 16, 63]
abbrev dktX8_init_2 : List UInt8 := dkwX8_init_2 ++ dktX8_init_3
def dkwX8_init_1 : List UInt8 := [188, 10, 181, 0, 17, 42, 16, 18, 188, 10, 181, 0, 20, 42, 16, 108, 188, 10, 181, 0, 23, 42, 16, 108]
abbrev dktX8_init_1 : List UInt8 := dkwX8_init_1 ++ dktX8_init_2
def dkwX8_init_0 : List UInt8 := [42, 183, 0, 1, 42, 16, 64, 188, 11, 181, 0, 7, 42, 16, 6, 188, 10, 181, 0, 13, 42, 16, 6]
abbrev dktX8_init_0 : List UInt8 := dkwX8_init_0 ++ dktX8_init_1
theorem dksX8_init_0 : cX8_init.data.toList.drop 0 = dktX8_init_0 := by decide +kernel
theorem dksX8_init_1 : cX8_init.data.toList.drop 23 = dktX8_init_1 := dk_seg dksX8_init_0 23 rfl rfl
theorem dksX8_init_2 : cX8_init.data.toList.drop 47 = dktX8_init_2 := dk_seg dksX8_init_1 24 rfl rfl
theorem dksX8_init_3 : cX8_init.data.toList.drop 71 = dktX8_init_3 := dk_seg dksX8_init_2 24 rfl rfl
theorem dksX8_init_4 : cX8_init.data.toList.drop 95 = dktX8_init_4 := dk_seg dksX8_init_3 24 rfl rfl
theorem dksX8_init_5 : cX8_init.data.toList.drop 118 = dktX8_init_5 := dk_seg dksX8_init_4 23 rfl rfl
theorem dksX8_init_6 : cX8_init.data.toList.drop 142 = dktX8_init_6 := dk_seg dksX8_init_5 24 rfl rfl
theorem dksX8_init_7 : cX8_init.data.toList.drop 164 = dktX8_init_7 := dk_seg dksX8_init_6 22 rfl rfl
theorem dX8_init_0 : decode cX8_init 0 = .ok (.aload_n 0, 1) := dk_42 (dk_at dksX8_init_0 0 rfl rfl)
theorem dX8_init_1 : decode cX8_init 1 = .ok (.invokespecial 1, 3) := dk_183 0 1 (dk_at dksX8_init_0 1 rfl rfl)
theorem dX8_init_4 : decode cX8_init 4 = .ok (.aload_n 0, 1) := dk_42 (dk_at dksX8_init_0 4 rfl rfl)
theorem dX8_init_5 : decode cX8_init 5 = .ok (.bipush 64, 2) := dk_16 64 (dk_at dksX8_init_0 5 rfl rfl)
theorem dX8_init_7 : decode cX8_init 7 = .ok (.newarray .long, 2) := dk_188_11 (dk_at dksX8_init_0 7 rfl rfl)
theorem dX8_init_9 : decode cX8_init 9 = .ok (.putfield 7, 3) := dk_181 0 7 (dk_at dksX8_init_0 9 rfl rfl)
theorem dX8_init_12 : decode cX8_init 12 = .ok (.aload_n 0, 1) := dk_42 (dk_at dksX8_init_0 12 rfl rfl)
theorem dX8_init_13 : decode cX8_init 13 = .ok (.bipush 6, 2) := dk_16 6 (dk_at dksX8_init_0 13 rfl rfl)
theorem dX8_init_15 : decode cX8_init 15 = .ok (.newarray .int, 2) := dk_188_10 (dk_at dksX8_init_0 15 rfl rfl)
theorem dX8_init_17 : decode cX8_init 17 = .ok (.putfield 13, 3) := dk_181 0 13 (dk_at dksX8_init_0 17 rfl rfl)
theorem dX8_init_20 : decode cX8_init 20 = .ok (.aload_n 0, 1) := dk_42 (dk_at dksX8_init_0 20 rfl rfl)
theorem dX8_init_21 : decode cX8_init 21 = .ok (.bipush 6, 2) := dk_16 6 (dk_at dksX8_init_0 21 rfl rfl)
theorem dX8_init_23 : decode cX8_init 23 = .ok (.newarray .int, 2) := dk_188_10 (dk_at dksX8_init_1 0 rfl rfl)
theorem dX8_init_25 : decode cX8_init 25 = .ok (.putfield 17, 3) := dk_181 0 17 (dk_at dksX8_init_1 2 rfl rfl)
theorem dX8_init_28 : decode cX8_init 28 = .ok (.aload_n 0, 1) := dk_42 (dk_at dksX8_init_1 5 rfl rfl)
theorem dX8_init_29 : decode cX8_init 29 = .ok (.bipush 18, 2) := dk_16 18 (dk_at dksX8_init_1 6 rfl rfl)
theorem dX8_init_31 : decode cX8_init 31 = .ok (.newarray .int, 2) := dk_188_10 (dk_at dksX8_init_1 8 rfl rfl)
theorem dX8_init_33 : decode cX8_init 33 = .ok (.putfield 20, 3) := dk_181 0 20 (dk_at dksX8_init_1 10 rfl rfl)
theorem dX8_init_36 : decode cX8_init 36 = .ok (.aload_n 0, 1) := dk_42 (dk_at dksX8_init_1 13 rfl rfl)
theorem dX8_init_37 : decode cX8_init 37 = .ok (.bipush 108, 2) := dk_16 108 (dk_at dksX8_init_1 14 rfl rfl)
theorem dX8_init_39 : decode cX8_init 39 = .ok (.newarray .int, 2) := dk_188_10 (dk_at dksX8_init_1 16 rfl rfl)
theorem dX8_init_41 : decode cX8_init 41 = .ok (.putfield 23, 3) := dk_181 0 23 (dk_at dksX8_init_1 18 rfl rfl)
theorem dX8_init_44 : decode cX8_init 44 = .ok (.aload_n 0, 1) := dk_42 (dk_at dksX8_init_1 21 rfl rfl)
theorem dX8_init_45 : decode cX8_init 45 = .ok (.bipush 108, 2) := dk_16 108 (dk_at dksX8_init_1 22 rfl rfl)
theorem dX8_init_47 : decode cX8_init 47 = .ok (.newarray .int, 2) := dk_188_10 (dk_at dksX8_init_2 0 rfl rfl)
theorem dX8_init_49 : decode cX8_init 49 = .ok (.putfield 26, 3) := dk_181 0 26 (dk_at dksX8_init_2 2 rfl rfl)
theorem dX8_init_52 : decode cX8_init 52 = .ok (.aload_n 0, 1) := dk_42 (dk_at dksX8_init_2 5 rfl rfl)
theorem dX8_init_53 : decode cX8_init 53 = .ok (.bipush 54, 2) := dk_16 54 (dk_at dksX8_init_2 6 rfl rfl)
theorem dX8_init_55 : decode cX8_init 55 = .ok (.newarray .int, 2) := dk_188_10 (dk_at dksX8_init_2 8 rfl rfl)
theorem dX8_init_57 : decode cX8_init 57 = .ok (.putfield 29, 3) := dk_181 0 29 (dk_at dksX8_init_2 10 rfl rfl)
theorem dX8_init_60 : decode cX8_init 60 = .ok (.aload_n 0, 1) := dk_42 (dk_at dksX8_init_2 13 rfl rfl)
theorem dX8_init_61 : decode cX8_init 61 = .ok (.bipush 63, 2) := dk_16 63 (dk_at dksX8_init_2 14 rfl rfl)
theorem dX8_init_63 : decode cX8_init 63 = .ok (.newarray .int, 2) := dk_188_10 (dk_at dksX8_init_2 16 rfl rfl)
theorem dX8_init_65 : decode cX8_init 65 = .ok (.putfield 32, 3) := dk_181 0 32 (dk_at dksX8_init_2 18 rfl rfl)
theorem dX8_init_68 : decode cX8_init 68 = .ok (.aload_n 0, 1) := dk_42 (dk_at dksX8_init_2 21 rfl rfl)
theorem dX8_init_69 : decode cX8_init 69 = .ok (.bipush 63, 2) := dk_16 63 (dk_at dksX8_init_2 22 rfl rfl)
theorem dX8_init_71 : decode cX8_init 71 = .ok (.newarray .int, 2) := dk_188_10 (dk_at dksX8_init_3 0 rfl rfl)
theorem dX8_init_73 : decode cX8_init 73 = .ok (.putfield 35, 3) := dk_181 0 35 (dk_at dksX8_init_3 2 rfl rfl)
theorem dX8_init_76 : decode cX8_init 76 = .ok (.aload_n 0, 1) := dk_42 (dk_at dksX8_init_3 5 rfl rfl)
theorem dX8_init_77 : decode cX8_init 77 = .ok (.sipush 240, 3) := dk_17 0 240 (dk_at dksX8_init_3 6 rfl rfl)
theorem dX8_init_80 : decode cX8_init 80 = .ok (.newarray .int, 2) := dk_188_10 (dk_at dksX8_init_3 9 rfl rfl)
theorem dX8_init_82 : decode cX8_init 82 = .ok (.putfield 38, 3) := dk_181 0 38 (dk_at dksX8_init_3 11 rfl rfl)
theorem dX8_init_85 : decode cX8_init 85 = .ok (.aload_n 0, 1) := dk_42 (dk_at dksX8_init_3 14 rfl rfl)
theorem dX8_init_86 : decode cX8_init 86 = .ok (.sipush 240, 3) := dk_17 0 240 (dk_at dksX8_init_3 15 rfl rfl)
theorem dX8_init_89 : decode cX8_init 89 = .ok (.newarray .int, 2) := dk_188_10 (dk_at dksX8_init_3 18 rfl rfl)
theorem dX8_init_91 : decode cX8_init 91 = .ok (.putfield 41, 3) := dk_181 0 41 (dk_at dksX8_init_3 20 rfl rfl)
theorem dX8_init_94 : decode cX8_init 94 = .ok (.aload_n 0, 1) := dk_42 (dk_at dksX8_init_3 23 rfl rfl)
theorem dX8_init_95 : decode cX8_init 95 = .ok (.iconst 3, 1) := dk_6 (dk_at dksX8_init_4 0 rfl rfl)
theorem dX8_init_96 : decode cX8_init 96 = .ok (.newarray .int, 2) := dk_188_10 (dk_at dksX8_init_4 1 rfl rfl)
theorem dX8_init_98 : decode cX8_init 98 = .ok (.putfield 44, 3) := dk_181 0 44 (dk_at dksX8_init_4 3 rfl rfl)
theorem dX8_init_101 : decode cX8_init 101 = .ok (.aload_n 0, 1) := dk_42 (dk_at dksX8_init_4 6 rfl rfl)
theorem dX8_init_102 : decode cX8_init 102 = .ok (.bipush 18, 2) := dk_16 18 (dk_at dksX8_init_4 7 rfl rfl)
theorem dX8_init_104 : decode cX8_init 104 = .ok (.newarray .int, 2) := dk_188_10 (dk_at dksX8_init_4 9 rfl rfl)
theorem dX8_init_106 : decode cX8_init 106 = .ok (.putfield 47, 3) := dk_181 0 47 (dk_at dksX8_init_4 11 rfl rfl)
theorem dX8_init_109 : decode cX8_init 109 = .ok (.aload_n 0, 1) := dk_42 (dk_at dksX8_init_4 14 rfl rfl)
theorem dX8_init_110 : decode cX8_init 110 = .ok (.bipush 18, 2) := dk_16 18 (dk_at dksX8_init_4 15 rfl rfl)
theorem dX8_init_112 : decode cX8_init 112 = .ok (.newarray .int, 2) := dk_188_10 (dk_at dksX8_init_4 17 rfl rfl)
theorem dX8_init_114 : decode cX8_init 114 = .ok (.putfield 50, 3) := dk_181 0 50 (dk_at dksX8_init_4 19 rfl rfl)
theorem dX8_init_117 : decode cX8_init 117 = .ok (.aload_n 0, 1) := dk_42 (dk_at dksX8_init_4 22 rfl rfl)
theorem dX8_init_118 : decode cX8_init 118 = .ok (.bipush 9, 2) := dk_16 9 (dk_at dksX8_init_5 0 rfl rfl)
theorem dX8_init_120 : decode cX8_init 120 = .ok (.newarray .int, 2) := dk_188_10 (dk_at dksX8_init_5 2 rfl rfl)
theorem dX8_init_122 : decode cX8_init 122 = .ok (.putfield 53, 3) := dk_181 0 53 (dk_at dksX8_init_5 4 rfl rfl)
theorem dX8_init_125 : decode cX8_init 125 = .ok (.aload_n 0, 1) := dk_42 (dk_at dksX8_init_5 7 rfl rfl)
theorem dX8_init_126 : decode cX8_init 126 = .ok (.bipush 122, 2) := dk_16 122 (dk_at dksX8_init_5 8 rfl rfl)
theorem dX8_init_128 : decode cX8_init 128 = .ok (.newarray .int, 2) := dk_188_10 (dk_at dksX8_init_5 10 rfl rfl)
theorem dX8_init_130 : decode cX8_init 130 = .ok (.putfield 56, 3) := dk_181 0 56 (dk_at dksX8_init_5 12 rfl rfl)
theorem dX8_init_133 : decode cX8_init 133 = .ok (.aload_n 0, 1) := dk_42 (dk_at dksX8_init_5 15 rfl rfl)
theorem dX8_init_134 : decode cX8_init 134 = .ok (.bipush 122, 2) := dk_16 122 (dk_at dksX8_init_5 16 rfl rfl)
theorem dX8_init_136 : decode cX8_init 136 = .ok (.newarray .int, 2) := dk_188_10 (dk_at dksX8_init_5 18 rfl rfl)
theorem dX8_init_138 : decode cX8_init 138 = .ok (.putfield 59, 3) := dk_181 0 59 (dk_at dksX8_init_5 20 rfl rfl)
theorem dX8_init_141 : decode cX8_init 141 = .ok (.aload_n 0, 1) := dk_42 (dk_at dksX8_init_5 23 rfl rfl)
theorem dX8_init_142 : decode cX8_init 142 = .ok (.bipush 121, 2) := dk_16 121 (dk_at dksX8_init_6 0 rfl rfl)
theorem dX8_init_144 : decode cX8_init 144 = .ok (.newarray .int, 2) := dk_188_10 (dk_at dksX8_init_6 2 rfl rfl)
theorem dX8_init_146 : decode cX8_init 146 = .ok (.putfield 62, 3) := dk_181 0 62 (dk_at dksX8_init_6 4 rfl rfl)
theorem dX8_init_149 : decode cX8_init 149 = .ok (.aload_n 0, 1) := dk_42 (dk_at dksX8_init_6 7 rfl rfl)
theorem dX8_init_150 : decode cX8_init 150 = .ok (.sipush 484, 3) := dk_17 1 228 (dk_at dksX8_init_6 8 rfl rfl)
theorem dX8_init_153 : decode cX8_init 153 = .ok (.newarray .int, 2) := dk_188_10 (dk_at dksX8_init_6 11 rfl rfl)
theorem dX8_init_155 : decode cX8_init 155 = .ok (.putfield 65, 3) := dk_181 0 65 (dk_at dksX8_init_6 13 rfl rfl)
theorem dX8_init_158 : decode cX8_init 158 = .ok (.aload_n 0, 1) := dk_42 (dk_at dksX8_init_6 16 rfl rfl)
theorem dX8_init_159 : decode cX8_init 159 = .ok (.sipush 28224, 3) := dk_17 110 64 (dk_at dksX8_init_6 17 rfl rfl)
theorem dX8_init_162 : decode cX8_init 162 = .ok (.newarray .int, 2) := dk_188_10 (dk_at dksX8_init_6 20 rfl rfl)
theorem dX8_init_164 : decode cX8_init 164 = .ok (.putfield 68, 3) := dk_181 0 68 (dk_at dksX8_init_7 0 rfl rfl)
theorem dX8_init_167 : decode cX8_init 167 = .ok (.aload_n 0, 1) := dk_42 (dk_at dksX8_init_7 3 rfl rfl)
theorem dX8_init_168 : decode cX8_init 168 = .ok (.sipush 15129, 3) := dk_17 59 25 (dk_at dksX8_init_7 4 rfl rfl)
theorem dX8_init_171 : decode cX8_init 171 = .ok (.newarray .int, 2) := dk_188_10 (dk_at dksX8_init_7 7 rfl rfl)
theorem dX8_init_173 : decode cX8_init 173 = .ok (.putfield 71, 3) := dk_181 0 71 (dk_at dksX8_init_7 9 rfl rfl)
theorem dX8_init_176 : decode cX8_init 176 = .ok (.aload_n 0, 1) := dk_42 (dk_at dksX8_init_7 12 rfl rfl)
theorem dX8_init_177 : decode cX8_init 177 = .ok (.sipush 15129, 3) := dk_17 59 25 (dk_at dksX8_init_7 13 rfl rfl)
theorem dX8_init_180 : decode cX8_init 180 = .ok (.newarray .int, 2) := dk_188_10 (dk_at dksX8_init_7 16 rfl rfl)
theorem dX8_init_182 : decode cX8_init 182 = .ok (.putfield 74, 3) := dk_181 0 74 (dk_at dksX8_init_7 18 rfl rfl)
theorem dX8_init_185 : decode cX8_init 185 = .ok (.return_, 1) := dk_177 (dk_at dksX8_init_7 21 rfl rfl)
abbrev cX8_thrown : ByteArray := prog_21_method_2_code
def yX8_thrown : MethodName := ⟨RX8, "thrown", "()I"⟩
theorem dX8_thrown_0 : decode cX8_thrown 0 = .ok (.aload_n 0, 1) := by decide +kernel
theorem dX8_thrown_1 : decode cX8_thrown 1 = .ok (.getfield 77, 3) := by decide +kernel
theorem dX8_thrown_4 : decode cX8_thrown 4 = .ok (.ireturn, 1) := by decide +kernel
abbrev cX8_sign : ByteArray := prog_21_method_32_code
def yX8_sign : MethodName := ⟨RX8, "sign", "(I)I"⟩
def dkwX8_sign_2 : List UInt8 := [132, 2, 1, 167, 255, 224, 42, 89, 180, 0, 184, 7, 96, 181, 0, 184, 42, 180, 0, 184, 172]
abbrev dktX8_sign_2 : List UInt8 := dkwX8_sign_2 ++ []
def dkwX8_sign_1 : List UInt8 := [42, 180, 0, 41, 42, 180, 0, 184, 28, 96, 27, 16, 24, 16, 8, 28, 104, 100, 122, 17, 0, 255, 126, 79]
abbrev dktX8_sign_1 : List UInt8 := dkwX8_sign_1 ++ dktX8_sign_2
def dkwX8_sign_0 : List UInt8 := [42, 3, 181, 0, 77, 42, 180, 0, 184, 17, 0, 236, 164, 0, 5, 2, 172, 3, 61, 28, 7, 162, 0, 33]
abbrev dktX8_sign_0 : List UInt8 := dkwX8_sign_0 ++ dktX8_sign_1
theorem dksX8_sign_0 : cX8_sign.data.toList.drop 0 = dktX8_sign_0 := by decide +kernel
theorem dksX8_sign_1 : cX8_sign.data.toList.drop 24 = dktX8_sign_1 := dk_seg dksX8_sign_0 24 rfl rfl
theorem dksX8_sign_2 : cX8_sign.data.toList.drop 48 = dktX8_sign_2 := dk_seg dksX8_sign_1 24 rfl rfl
theorem dX8_sign_0 : decode cX8_sign 0 = .ok (.aload_n 0, 1) := dk_42 (dk_at dksX8_sign_0 0 rfl rfl)
theorem dX8_sign_1 : decode cX8_sign 1 = .ok (.iconst 0, 1) := dk_3 (dk_at dksX8_sign_0 1 rfl rfl)
theorem dX8_sign_2 : decode cX8_sign 2 = .ok (.putfield 77, 3) := dk_181 0 77 (dk_at dksX8_sign_0 2 rfl rfl)
theorem dX8_sign_5 : decode cX8_sign 5 = .ok (.aload_n 0, 1) := dk_42 (dk_at dksX8_sign_0 5 rfl rfl)
theorem dX8_sign_6 : decode cX8_sign 6 = .ok (.getfield 184, 3) := dk_180 0 184 (dk_at dksX8_sign_0 6 rfl rfl)
theorem dX8_sign_9 : decode cX8_sign 9 = .ok (.sipush 236, 3) := dk_17 0 236 (dk_at dksX8_sign_0 9 rfl rfl)
theorem dX8_sign_12 : decode cX8_sign 12 = .ok (.if_icmp .le 5, 3) := dk_164 0 5 (dk_at dksX8_sign_0 12 rfl rfl)
theorem dX8_sign_15 : decode cX8_sign 15 = .ok (.iconst (-1), 1) := dk_2 (dk_at dksX8_sign_0 15 rfl rfl)
theorem dX8_sign_16 : decode cX8_sign 16 = .ok (.ireturn, 1) := dk_172 (dk_at dksX8_sign_0 16 rfl rfl)
theorem dX8_sign_17 : decode cX8_sign 17 = .ok (.iconst 0, 1) := dk_3 (dk_at dksX8_sign_0 17 rfl rfl)
theorem dX8_sign_18 : decode cX8_sign 18 = .ok (.istore_n 2, 1) := dk_61 (dk_at dksX8_sign_0 18 rfl rfl)
theorem dX8_sign_19 : decode cX8_sign 19 = .ok (.iload_n 2, 1) := dk_28 (dk_at dksX8_sign_0 19 rfl rfl)
theorem dX8_sign_20 : decode cX8_sign 20 = .ok (.iconst 4, 1) := dk_7 (dk_at dksX8_sign_0 20 rfl rfl)
theorem dX8_sign_21 : decode cX8_sign 21 = .ok (.if_icmp .ge 33, 3) := dk_162 0 33 (dk_at dksX8_sign_0 21 rfl rfl)
theorem dX8_sign_24 : decode cX8_sign 24 = .ok (.aload_n 0, 1) := dk_42 (dk_at dksX8_sign_1 0 rfl rfl)
theorem dX8_sign_25 : decode cX8_sign 25 = .ok (.getfield 41, 3) := dk_180 0 41 (dk_at dksX8_sign_1 1 rfl rfl)
theorem dX8_sign_28 : decode cX8_sign 28 = .ok (.aload_n 0, 1) := dk_42 (dk_at dksX8_sign_1 4 rfl rfl)
theorem dX8_sign_29 : decode cX8_sign 29 = .ok (.getfield 184, 3) := dk_180 0 184 (dk_at dksX8_sign_1 5 rfl rfl)
theorem dX8_sign_32 : decode cX8_sign 32 = .ok (.iload_n 2, 1) := dk_28 (dk_at dksX8_sign_1 8 rfl rfl)
theorem dX8_sign_33 : decode cX8_sign 33 = .ok (.iadd, 1) := dk_96 (dk_at dksX8_sign_1 9 rfl rfl)
theorem dX8_sign_34 : decode cX8_sign 34 = .ok (.iload_n 1, 1) := dk_27 (dk_at dksX8_sign_1 10 rfl rfl)
theorem dX8_sign_35 : decode cX8_sign 35 = .ok (.bipush 24, 2) := dk_16 24 (dk_at dksX8_sign_1 11 rfl rfl)
theorem dX8_sign_37 : decode cX8_sign 37 = .ok (.bipush 8, 2) := dk_16 8 (dk_at dksX8_sign_1 13 rfl rfl)
theorem dX8_sign_39 : decode cX8_sign 39 = .ok (.iload_n 2, 1) := dk_28 (dk_at dksX8_sign_1 15 rfl rfl)
theorem dX8_sign_40 : decode cX8_sign 40 = .ok (.imul, 1) := dk_104 (dk_at dksX8_sign_1 16 rfl rfl)
theorem dX8_sign_41 : decode cX8_sign 41 = .ok (.isub, 1) := dk_100 (dk_at dksX8_sign_1 17 rfl rfl)
theorem dX8_sign_42 : decode cX8_sign 42 = .ok (.ishr, 1) := dk_122 (dk_at dksX8_sign_1 18 rfl rfl)
theorem dX8_sign_43 : decode cX8_sign 43 = .ok (.sipush 255, 3) := dk_17 0 255 (dk_at dksX8_sign_1 19 rfl rfl)
theorem dX8_sign_46 : decode cX8_sign 46 = .ok (.iand, 1) := dk_126 (dk_at dksX8_sign_1 22 rfl rfl)
theorem dX8_sign_47 : decode cX8_sign 47 = .ok (.iastore, 1) := dk_79 (dk_at dksX8_sign_1 23 rfl rfl)
theorem dX8_sign_48 : decode cX8_sign 48 = .ok (.iinc 2 1, 3) := dk_132 2 1 (dk_at dksX8_sign_2 0 rfl rfl)
theorem dX8_sign_51 : decode cX8_sign 51 = .ok (.goto (-32), 3) := dk_167 255 224 (dk_at dksX8_sign_2 3 rfl rfl)
theorem dX8_sign_54 : decode cX8_sign 54 = .ok (.aload_n 0, 1) := dk_42 (dk_at dksX8_sign_2 6 rfl rfl)
theorem dX8_sign_55 : decode cX8_sign 55 = .ok (.dup, 1) := dk_89 (dk_at dksX8_sign_2 7 rfl rfl)
theorem dX8_sign_56 : decode cX8_sign 56 = .ok (.getfield 184, 3) := dk_180 0 184 (dk_at dksX8_sign_2 8 rfl rfl)
theorem dX8_sign_59 : decode cX8_sign 59 = .ok (.iconst 4, 1) := dk_7 (dk_at dksX8_sign_2 11 rfl rfl)
theorem dX8_sign_60 : decode cX8_sign 60 = .ok (.iadd, 1) := dk_96 (dk_at dksX8_sign_2 12 rfl rfl)
theorem dX8_sign_61 : decode cX8_sign 61 = .ok (.putfield 184, 3) := dk_181 0 184 (dk_at dksX8_sign_2 13 rfl rfl)
theorem dX8_sign_64 : decode cX8_sign 64 = .ok (.aload_n 0, 1) := dk_42 (dk_at dksX8_sign_2 16 rfl rfl)
theorem dX8_sign_65 : decode cX8_sign 65 = .ok (.getfield 184, 3) := dk_180 0 184 (dk_at dksX8_sign_2 17 rfl rfl)
theorem dX8_sign_68 : decode cX8_sign 68 = .ok (.ireturn, 1) := dk_172 (dk_at dksX8_sign_2 20 rfl rfl)
abbrev cX8_end : ByteArray := prog_21_method_33_code
def yX8_end : MethodName := ⟨RX8, "end", "(I)Z"⟩
def dkwX8_end_1 : List UInt8 := [181, 0, 184, 4, 172]
abbrev dktX8_end_1 : List UInt8 := dkwX8_end_1 ++ []
def dkwX8_end_0 : List UInt8 := [42, 3, 181, 0, 77, 27, 133, 9, 42, 180, 0, 184, 133, 184, 0, 87, 154, 0, 5, 3, 172, 42, 27]
abbrev dktX8_end_0 : List UInt8 := dkwX8_end_0 ++ dktX8_end_1
theorem dksX8_end_0 : cX8_end.data.toList.drop 0 = dktX8_end_0 := by decide +kernel
theorem dksX8_end_1 : cX8_end.data.toList.drop 23 = dktX8_end_1 := dk_seg dksX8_end_0 23 rfl rfl
theorem dX8_end_0 : decode cX8_end 0 = .ok (.aload_n 0, 1) := dk_42 (dk_at dksX8_end_0 0 rfl rfl)
theorem dX8_end_1 : decode cX8_end 1 = .ok (.iconst 0, 1) := dk_3 (dk_at dksX8_end_0 1 rfl rfl)
theorem dX8_end_2 : decode cX8_end 2 = .ok (.putfield 77, 3) := dk_181 0 77 (dk_at dksX8_end_0 2 rfl rfl)
theorem dX8_end_5 : decode cX8_end 5 = .ok (.iload_n 1, 1) := dk_27 (dk_at dksX8_end_0 5 rfl rfl)
theorem dX8_end_6 : decode cX8_end 6 = .ok (.i2l, 1) := dk_133 (dk_at dksX8_end_0 6 rfl rfl)
theorem dX8_end_7 : decode cX8_end 7 = .ok (.lconst 0, 1) := dk_9 (dk_at dksX8_end_0 7 rfl rfl)
theorem dX8_end_8 : decode cX8_end 8 = .ok (.aload_n 0, 1) := dk_42 (dk_at dksX8_end_0 8 rfl rfl)
theorem dX8_end_9 : decode cX8_end 9 = .ok (.getfield 184, 3) := dk_180 0 184 (dk_at dksX8_end_0 9 rfl rfl)
theorem dX8_end_12 : decode cX8_end 12 = .ok (.i2l, 1) := dk_133 (dk_at dksX8_end_0 12 rfl rfl)
theorem dX8_end_13 : decode cX8_end 13 = .ok (.invokestatic 87, 3) := dk_184 0 87 (dk_at dksX8_end_0 13 rfl rfl)
theorem dX8_end_16 : decode cX8_end 16 = .ok (.ifCond .ne 5, 3) := dk_154 0 5 (dk_at dksX8_end_0 16 rfl rfl)
theorem dX8_end_19 : decode cX8_end 19 = .ok (.iconst 0, 1) := dk_3 (dk_at dksX8_end_0 19 rfl rfl)
theorem dX8_end_20 : decode cX8_end 20 = .ok (.ireturn, 1) := dk_172 (dk_at dksX8_end_0 20 rfl rfl)
theorem dX8_end_21 : decode cX8_end 21 = .ok (.aload_n 0, 1) := dk_42 (dk_at dksX8_end_0 21 rfl rfl)
theorem dX8_end_22 : decode cX8_end 22 = .ok (.iload_n 1, 1) := dk_27 (dk_at dksX8_end_0 22 rfl rfl)
theorem dX8_end_23 : decode cX8_end 23 = .ok (.putfield 184, 3) := dk_181 0 184 (dk_at dksX8_end_1 0 rfl rfl)
theorem dX8_end_26 : decode cX8_end 26 = .ok (.iconst 1, 1) := dk_4 (dk_at dksX8_end_1 3 rfl rfl)
theorem dX8_end_27 : decode cX8_end 27 = .ok (.ireturn, 1) := dk_172 (dk_at dksX8_end_1 4 rfl rfl)
abbrev cX8_in : ByteArray := prog_21_method_3_code
def yX8_in : MethodName := ⟨RX8, "in", "(JJJ)Z"⟩
def dkwX8_in_0 : List UInt8 := [30, 32, 148, 155, 0, 14, 30, 22, 4, 148, 157, 0, 7, 4, 167, 0, 4, 3, 172]
abbrev dktX8_in_0 : List UInt8 := dkwX8_in_0 ++ []
theorem dksX8_in_0 : cX8_in.data.toList.drop 0 = dktX8_in_0 := by decide +kernel
theorem dX8_in_0 : decode cX8_in 0 = .ok (.lload_n 0, 1) := dk_30 (dk_at dksX8_in_0 0 rfl rfl)
theorem dX8_in_1 : decode cX8_in 1 = .ok (.lload_n 2, 1) := dk_32 (dk_at dksX8_in_0 1 rfl rfl)
theorem dX8_in_2 : decode cX8_in 2 = .ok (.lcmp, 1) := dk_148 (dk_at dksX8_in_0 2 rfl rfl)
theorem dX8_in_3 : decode cX8_in 3 = .ok (.ifCond .lt 14, 3) := dk_155 0 14 (dk_at dksX8_in_0 3 rfl rfl)
theorem dX8_in_6 : decode cX8_in 6 = .ok (.lload_n 0, 1) := dk_30 (dk_at dksX8_in_0 6 rfl rfl)
theorem dX8_in_7 : decode cX8_in 7 = .ok (.lload 4, 2) := dk_22 4 (dk_at dksX8_in_0 7 rfl rfl)
theorem dX8_in_9 : decode cX8_in 9 = .ok (.lcmp, 1) := dk_148 (dk_at dksX8_in_0 9 rfl rfl)
theorem dX8_in_10 : decode cX8_in 10 = .ok (.ifCond .gt 7, 3) := dk_157 0 7 (dk_at dksX8_in_0 10 rfl rfl)
theorem dX8_in_13 : decode cX8_in 13 = .ok (.iconst 1, 1) := dk_4 (dk_at dksX8_in_0 13 rfl rfl)
theorem dX8_in_14 : decode cX8_in 14 = .ok (.goto 4, 3) := dk_167 0 4 (dk_at dksX8_in_0 14 rfl rfl)
theorem dX8_in_17 : decode cX8_in 17 = .ok (.iconst 0, 1) := dk_3 (dk_at dksX8_in_0 17 rfl rfl)
theorem dX8_in_18 : decode cX8_in 18 = .ok (.ireturn, 1) := dk_172 (dk_at dksX8_in_0 18 rfl rfl)
abbrev cX8_enters : ByteArray := prog_21_method_42_code
def yX8_enters : MethodName := ⟨RX8, "enters", "()I"⟩
def dkwX8_enters_10 : List UInt8 := [180, 0, 84, 4, 100, 172]
abbrev dktX8_enters_10 : List UInt8 := dkwX8_enters_10 ++ []
def dkwX8_enters_9 : List UInt8 := [167, 255, 221, 132, 1, 1, 167, 255, 117, 42, 89, 180, 0, 84, 4, 96, 181, 0, 84, 42, 182, 0, 230, 42]
abbrev dktX8_enters_9 : List UInt8 := dkwX8_enters_9 ++ dktX8_enters_10
def dkwX8_enters_8 : List UInt8 := [180, 0, 84, 104, 27, 96, 104, 28, 96, 42, 180, 0, 53, 6, 27, 104, 28, 96, 46, 79, 132, 2, 1]
abbrev dktX8_enters_8 : List UInt8 := dkwX8_enters_8 ++ dktX8_enters_9
def dkwX8_enters_7 : List UInt8 := [28, 96, 46, 79, 132, 2, 1, 167, 255, 189, 3, 61, 28, 6, 162, 0, 36, 42, 180, 0, 29, 6, 6, 42]
abbrev dktX8_enters_7 : List UInt8 := dkwX8_enters_7 ++ dktX8_enters_8
def dkwX8_enters_6 : List UInt8 := [180, 0, 26, 16, 6, 6, 42, 180, 0, 84, 104, 27, 96, 104, 28, 96, 42, 180, 0, 50, 16, 6, 27, 104]
abbrev dktX8_enters_6 : List UInt8 := dkwX8_enters_6 ++ dktX8_enters_7
def dkwX8_enters_5 : List UInt8 := [180, 0, 84, 104, 27, 96, 104, 28, 96, 42, 180, 0, 47, 16, 6, 27, 104, 28, 96, 46, 79, 42]
abbrev dktX8_enters_5 : List UInt8 := dkwX8_enters_5 ++ dktX8_enters_6
def dkwX8_enters_4 : List UInt8 := [42, 180, 0, 44, 27, 46, 79, 3, 61, 28, 16, 6, 162, 0, 67, 42, 180, 0, 23, 16, 6, 6, 42]
abbrev dktX8_enters_4 : List UInt8 := dkwX8_enters_4 ++ dktX8_enters_5
def dkwX8_enters_3 : List UInt8 := [42, 180, 0, 218, 79, 3, 60, 27, 6, 162, 0, 140, 42, 180, 0, 20, 6, 42, 180, 0, 84, 104, 27, 96]
abbrev dktX8_enters_3 : List UInt8 := dkwX8_enters_3 ++ dktX8_enters_4
def dkwX8_enters_2 : List UInt8 := [16, 254, 172, 42, 180, 0, 13, 42, 180, 0, 84, 42, 180, 0, 212, 79, 42, 180, 0, 17, 42, 180, 0, 84]
abbrev dktX8_enters_2 : List UInt8 := dkwX8_enters_2 ++ dktX8_enters_3
def dkwX8_enters_1 : List UInt8 := [182, 0, 227, 154, 0, 11, 16, 235, 42, 180, 0, 187, 100, 172, 42, 180, 0, 84, 16, 6, 160, 0, 6]
abbrev dktX8_enters_1 : List UInt8 := dkwX8_enters_1 ++ dktX8_enters_2
def dkwX8_enters_0 : List UInt8 := [42, 3, 181, 0, 77, 42, 42, 180, 0, 184, 181, 0, 190, 42, 3, 181, 0, 184, 42, 3, 181, 0, 187, 42]
abbrev dktX8_enters_0 : List UInt8 := dkwX8_enters_0 ++ dktX8_enters_1
theorem dksX8_enters_0 : cX8_enters.data.toList.drop 0 = dktX8_enters_0 := by decide +kernel
theorem dksX8_enters_1 : cX8_enters.data.toList.drop 24 = dktX8_enters_1 := dk_seg dksX8_enters_0 24 rfl rfl
theorem dksX8_enters_2 : cX8_enters.data.toList.drop 47 = dktX8_enters_2 := dk_seg dksX8_enters_1 23 rfl rfl
theorem dksX8_enters_3 : cX8_enters.data.toList.drop 71 = dktX8_enters_3 := dk_seg dksX8_enters_2 24 rfl rfl
theorem dksX8_enters_4 : cX8_enters.data.toList.drop 95 = dktX8_enters_4 := dk_seg dksX8_enters_3 24 rfl rfl
theorem dksX8_enters_5 : cX8_enters.data.toList.drop 118 = dktX8_enters_5 := dk_seg dksX8_enters_4 23 rfl rfl
theorem dksX8_enters_6 : cX8_enters.data.toList.drop 140 = dktX8_enters_6 := dk_seg dksX8_enters_5 22 rfl rfl
theorem dksX8_enters_7 : cX8_enters.data.toList.drop 164 = dktX8_enters_7 := dk_seg dksX8_enters_6 24 rfl rfl
theorem dksX8_enters_8 : cX8_enters.data.toList.drop 188 = dktX8_enters_8 := dk_seg dksX8_enters_7 24 rfl rfl
theorem dksX8_enters_9 : cX8_enters.data.toList.drop 211 = dktX8_enters_9 := dk_seg dksX8_enters_8 23 rfl rfl
theorem dksX8_enters_10 : cX8_enters.data.toList.drop 235 = dktX8_enters_10 := dk_seg dksX8_enters_9 24 rfl rfl
theorem dX8_enters_0 : decode cX8_enters 0 = .ok (.aload_n 0, 1) := dk_42 (dk_at dksX8_enters_0 0 rfl rfl)
theorem dX8_enters_1 : decode cX8_enters 1 = .ok (.iconst 0, 1) := dk_3 (dk_at dksX8_enters_0 1 rfl rfl)
theorem dX8_enters_2 : decode cX8_enters 2 = .ok (.putfield 77, 3) := dk_181 0 77 (dk_at dksX8_enters_0 2 rfl rfl)
theorem dX8_enters_5 : decode cX8_enters 5 = .ok (.aload_n 0, 1) := dk_42 (dk_at dksX8_enters_0 5 rfl rfl)
theorem dX8_enters_6 : decode cX8_enters 6 = .ok (.aload_n 0, 1) := dk_42 (dk_at dksX8_enters_0 6 rfl rfl)
theorem dX8_enters_7 : decode cX8_enters 7 = .ok (.getfield 184, 3) := dk_180 0 184 (dk_at dksX8_enters_0 7 rfl rfl)
theorem dX8_enters_10 : decode cX8_enters 10 = .ok (.putfield 190, 3) := dk_181 0 190 (dk_at dksX8_enters_0 10 rfl rfl)
theorem dX8_enters_13 : decode cX8_enters 13 = .ok (.aload_n 0, 1) := dk_42 (dk_at dksX8_enters_0 13 rfl rfl)
theorem dX8_enters_14 : decode cX8_enters 14 = .ok (.iconst 0, 1) := dk_3 (dk_at dksX8_enters_0 14 rfl rfl)
theorem dX8_enters_15 : decode cX8_enters 15 = .ok (.putfield 184, 3) := dk_181 0 184 (dk_at dksX8_enters_0 15 rfl rfl)
theorem dX8_enters_18 : decode cX8_enters 18 = .ok (.aload_n 0, 1) := dk_42 (dk_at dksX8_enters_0 18 rfl rfl)
theorem dX8_enters_19 : decode cX8_enters 19 = .ok (.iconst 0, 1) := dk_3 (dk_at dksX8_enters_0 19 rfl rfl)
theorem dX8_enters_20 : decode cX8_enters 20 = .ok (.putfield 187, 3) := dk_181 0 187 (dk_at dksX8_enters_0 20 rfl rfl)
theorem dX8_enters_23 : decode cX8_enters 23 = .ok (.aload_n 0, 1) := dk_42 (dk_at dksX8_enters_0 23 rfl rfl)
theorem dX8_enters_24 : decode cX8_enters 24 = .ok (.invokevirtual 227, 3) := dk_182 0 227 (dk_at dksX8_enters_1 0 rfl rfl)
theorem dX8_enters_27 : decode cX8_enters 27 = .ok (.ifCond .ne 11, 3) := dk_154 0 11 (dk_at dksX8_enters_1 3 rfl rfl)
theorem dX8_enters_30 : decode cX8_enters 30 = .ok (.bipush (-21), 2) := dk_16 235 (dk_at dksX8_enters_1 6 rfl rfl)
theorem dX8_enters_32 : decode cX8_enters 32 = .ok (.aload_n 0, 1) := dk_42 (dk_at dksX8_enters_1 8 rfl rfl)
theorem dX8_enters_33 : decode cX8_enters 33 = .ok (.getfield 187, 3) := dk_180 0 187 (dk_at dksX8_enters_1 9 rfl rfl)
theorem dX8_enters_36 : decode cX8_enters 36 = .ok (.isub, 1) := dk_100 (dk_at dksX8_enters_1 12 rfl rfl)
theorem dX8_enters_37 : decode cX8_enters 37 = .ok (.ireturn, 1) := dk_172 (dk_at dksX8_enters_1 13 rfl rfl)
theorem dX8_enters_38 : decode cX8_enters 38 = .ok (.aload_n 0, 1) := dk_42 (dk_at dksX8_enters_1 14 rfl rfl)
theorem dX8_enters_39 : decode cX8_enters 39 = .ok (.getfield 84, 3) := dk_180 0 84 (dk_at dksX8_enters_1 15 rfl rfl)
theorem dX8_enters_42 : decode cX8_enters 42 = .ok (.bipush 6, 2) := dk_16 6 (dk_at dksX8_enters_1 18 rfl rfl)
theorem dX8_enters_44 : decode cX8_enters 44 = .ok (.if_icmp .ne 6, 3) := dk_160 0 6 (dk_at dksX8_enters_1 20 rfl rfl)
theorem dX8_enters_47 : decode cX8_enters 47 = .ok (.bipush (-2), 2) := dk_16 254 (dk_at dksX8_enters_2 0 rfl rfl)
theorem dX8_enters_49 : decode cX8_enters 49 = .ok (.ireturn, 1) := dk_172 (dk_at dksX8_enters_2 2 rfl rfl)
theorem dX8_enters_50 : decode cX8_enters 50 = .ok (.aload_n 0, 1) := dk_42 (dk_at dksX8_enters_2 3 rfl rfl)
theorem dX8_enters_51 : decode cX8_enters 51 = .ok (.getfield 13, 3) := dk_180 0 13 (dk_at dksX8_enters_2 4 rfl rfl)
theorem dX8_enters_54 : decode cX8_enters 54 = .ok (.aload_n 0, 1) := dk_42 (dk_at dksX8_enters_2 7 rfl rfl)
theorem dX8_enters_55 : decode cX8_enters 55 = .ok (.getfield 84, 3) := dk_180 0 84 (dk_at dksX8_enters_2 8 rfl rfl)
theorem dX8_enters_58 : decode cX8_enters 58 = .ok (.aload_n 0, 1) := dk_42 (dk_at dksX8_enters_2 11 rfl rfl)
theorem dX8_enters_59 : decode cX8_enters 59 = .ok (.getfield 212, 3) := dk_180 0 212 (dk_at dksX8_enters_2 12 rfl rfl)
theorem dX8_enters_62 : decode cX8_enters 62 = .ok (.iastore, 1) := dk_79 (dk_at dksX8_enters_2 15 rfl rfl)
theorem dX8_enters_63 : decode cX8_enters 63 = .ok (.aload_n 0, 1) := dk_42 (dk_at dksX8_enters_2 16 rfl rfl)
theorem dX8_enters_64 : decode cX8_enters 64 = .ok (.getfield 17, 3) := dk_180 0 17 (dk_at dksX8_enters_2 17 rfl rfl)
theorem dX8_enters_67 : decode cX8_enters 67 = .ok (.aload_n 0, 1) := dk_42 (dk_at dksX8_enters_2 20 rfl rfl)
theorem dX8_enters_68 : decode cX8_enters 68 = .ok (.getfield 84, 3) := dk_180 0 84 (dk_at dksX8_enters_2 21 rfl rfl)
theorem dX8_enters_71 : decode cX8_enters 71 = .ok (.aload_n 0, 1) := dk_42 (dk_at dksX8_enters_3 0 rfl rfl)
theorem dX8_enters_72 : decode cX8_enters 72 = .ok (.getfield 218, 3) := dk_180 0 218 (dk_at dksX8_enters_3 1 rfl rfl)
theorem dX8_enters_75 : decode cX8_enters 75 = .ok (.iastore, 1) := dk_79 (dk_at dksX8_enters_3 4 rfl rfl)
theorem dX8_enters_76 : decode cX8_enters 76 = .ok (.iconst 0, 1) := dk_3 (dk_at dksX8_enters_3 5 rfl rfl)
theorem dX8_enters_77 : decode cX8_enters 77 = .ok (.istore_n 1, 1) := dk_60 (dk_at dksX8_enters_3 6 rfl rfl)
theorem dX8_enters_78 : decode cX8_enters 78 = .ok (.iload_n 1, 1) := dk_27 (dk_at dksX8_enters_3 7 rfl rfl)
theorem dX8_enters_79 : decode cX8_enters 79 = .ok (.iconst 3, 1) := dk_6 (dk_at dksX8_enters_3 8 rfl rfl)
theorem dX8_enters_80 : decode cX8_enters 80 = .ok (.if_icmp .ge 140, 3) := dk_162 0 140 (dk_at dksX8_enters_3 9 rfl rfl)
theorem dX8_enters_83 : decode cX8_enters 83 = .ok (.aload_n 0, 1) := dk_42 (dk_at dksX8_enters_3 12 rfl rfl)
theorem dX8_enters_84 : decode cX8_enters 84 = .ok (.getfield 20, 3) := dk_180 0 20 (dk_at dksX8_enters_3 13 rfl rfl)
theorem dX8_enters_87 : decode cX8_enters 87 = .ok (.iconst 3, 1) := dk_6 (dk_at dksX8_enters_3 16 rfl rfl)
theorem dX8_enters_88 : decode cX8_enters 88 = .ok (.aload_n 0, 1) := dk_42 (dk_at dksX8_enters_3 17 rfl rfl)
theorem dX8_enters_89 : decode cX8_enters 89 = .ok (.getfield 84, 3) := dk_180 0 84 (dk_at dksX8_enters_3 18 rfl rfl)
theorem dX8_enters_92 : decode cX8_enters 92 = .ok (.imul, 1) := dk_104 (dk_at dksX8_enters_3 21 rfl rfl)
theorem dX8_enters_93 : decode cX8_enters 93 = .ok (.iload_n 1, 1) := dk_27 (dk_at dksX8_enters_3 22 rfl rfl)
theorem dX8_enters_94 : decode cX8_enters 94 = .ok (.iadd, 1) := dk_96 (dk_at dksX8_enters_3 23 rfl rfl)
theorem dX8_enters_95 : decode cX8_enters 95 = .ok (.aload_n 0, 1) := dk_42 (dk_at dksX8_enters_4 0 rfl rfl)
theorem dX8_enters_96 : decode cX8_enters 96 = .ok (.getfield 44, 3) := dk_180 0 44 (dk_at dksX8_enters_4 1 rfl rfl)
theorem dX8_enters_99 : decode cX8_enters 99 = .ok (.iload_n 1, 1) := dk_27 (dk_at dksX8_enters_4 4 rfl rfl)
theorem dX8_enters_100 : decode cX8_enters 100 = .ok (.iaload, 1) := dk_46 (dk_at dksX8_enters_4 5 rfl rfl)
theorem dX8_enters_101 : decode cX8_enters 101 = .ok (.iastore, 1) := dk_79 (dk_at dksX8_enters_4 6 rfl rfl)
theorem dX8_enters_102 : decode cX8_enters 102 = .ok (.iconst 0, 1) := dk_3 (dk_at dksX8_enters_4 7 rfl rfl)
theorem dX8_enters_103 : decode cX8_enters 103 = .ok (.istore_n 2, 1) := dk_61 (dk_at dksX8_enters_4 8 rfl rfl)
theorem dX8_enters_104 : decode cX8_enters 104 = .ok (.iload_n 2, 1) := dk_28 (dk_at dksX8_enters_4 9 rfl rfl)
theorem dX8_enters_105 : decode cX8_enters 105 = .ok (.bipush 6, 2) := dk_16 6 (dk_at dksX8_enters_4 10 rfl rfl)
theorem dX8_enters_107 : decode cX8_enters 107 = .ok (.if_icmp .ge 67, 3) := dk_162 0 67 (dk_at dksX8_enters_4 12 rfl rfl)
theorem dX8_enters_110 : decode cX8_enters 110 = .ok (.aload_n 0, 1) := dk_42 (dk_at dksX8_enters_4 15 rfl rfl)
theorem dX8_enters_111 : decode cX8_enters 111 = .ok (.getfield 23, 3) := dk_180 0 23 (dk_at dksX8_enters_4 16 rfl rfl)
theorem dX8_enters_114 : decode cX8_enters 114 = .ok (.bipush 6, 2) := dk_16 6 (dk_at dksX8_enters_4 19 rfl rfl)
theorem dX8_enters_116 : decode cX8_enters 116 = .ok (.iconst 3, 1) := dk_6 (dk_at dksX8_enters_4 21 rfl rfl)
theorem dX8_enters_117 : decode cX8_enters 117 = .ok (.aload_n 0, 1) := dk_42 (dk_at dksX8_enters_4 22 rfl rfl)
theorem dX8_enters_118 : decode cX8_enters 118 = .ok (.getfield 84, 3) := dk_180 0 84 (dk_at dksX8_enters_5 0 rfl rfl)
theorem dX8_enters_121 : decode cX8_enters 121 = .ok (.imul, 1) := dk_104 (dk_at dksX8_enters_5 3 rfl rfl)
theorem dX8_enters_122 : decode cX8_enters 122 = .ok (.iload_n 1, 1) := dk_27 (dk_at dksX8_enters_5 4 rfl rfl)
theorem dX8_enters_123 : decode cX8_enters 123 = .ok (.iadd, 1) := dk_96 (dk_at dksX8_enters_5 5 rfl rfl)
theorem dX8_enters_124 : decode cX8_enters 124 = .ok (.imul, 1) := dk_104 (dk_at dksX8_enters_5 6 rfl rfl)
theorem dX8_enters_125 : decode cX8_enters 125 = .ok (.iload_n 2, 1) := dk_28 (dk_at dksX8_enters_5 7 rfl rfl)
theorem dX8_enters_126 : decode cX8_enters 126 = .ok (.iadd, 1) := dk_96 (dk_at dksX8_enters_5 8 rfl rfl)
theorem dX8_enters_127 : decode cX8_enters 127 = .ok (.aload_n 0, 1) := dk_42 (dk_at dksX8_enters_5 9 rfl rfl)
theorem dX8_enters_128 : decode cX8_enters 128 = .ok (.getfield 47, 3) := dk_180 0 47 (dk_at dksX8_enters_5 10 rfl rfl)
theorem dX8_enters_131 : decode cX8_enters 131 = .ok (.bipush 6, 2) := dk_16 6 (dk_at dksX8_enters_5 13 rfl rfl)
theorem dX8_enters_133 : decode cX8_enters 133 = .ok (.iload_n 1, 1) := dk_27 (dk_at dksX8_enters_5 15 rfl rfl)
theorem dX8_enters_134 : decode cX8_enters 134 = .ok (.imul, 1) := dk_104 (dk_at dksX8_enters_5 16 rfl rfl)
theorem dX8_enters_135 : decode cX8_enters 135 = .ok (.iload_n 2, 1) := dk_28 (dk_at dksX8_enters_5 17 rfl rfl)
theorem dX8_enters_136 : decode cX8_enters 136 = .ok (.iadd, 1) := dk_96 (dk_at dksX8_enters_5 18 rfl rfl)
theorem dX8_enters_137 : decode cX8_enters 137 = .ok (.iaload, 1) := dk_46 (dk_at dksX8_enters_5 19 rfl rfl)
theorem dX8_enters_138 : decode cX8_enters 138 = .ok (.iastore, 1) := dk_79 (dk_at dksX8_enters_5 20 rfl rfl)
theorem dX8_enters_139 : decode cX8_enters 139 = .ok (.aload_n 0, 1) := dk_42 (dk_at dksX8_enters_5 21 rfl rfl)
theorem dX8_enters_140 : decode cX8_enters 140 = .ok (.getfield 26, 3) := dk_180 0 26 (dk_at dksX8_enters_6 0 rfl rfl)
theorem dX8_enters_143 : decode cX8_enters 143 = .ok (.bipush 6, 2) := dk_16 6 (dk_at dksX8_enters_6 3 rfl rfl)
theorem dX8_enters_145 : decode cX8_enters 145 = .ok (.iconst 3, 1) := dk_6 (dk_at dksX8_enters_6 5 rfl rfl)
theorem dX8_enters_146 : decode cX8_enters 146 = .ok (.aload_n 0, 1) := dk_42 (dk_at dksX8_enters_6 6 rfl rfl)
theorem dX8_enters_147 : decode cX8_enters 147 = .ok (.getfield 84, 3) := dk_180 0 84 (dk_at dksX8_enters_6 7 rfl rfl)
theorem dX8_enters_150 : decode cX8_enters 150 = .ok (.imul, 1) := dk_104 (dk_at dksX8_enters_6 10 rfl rfl)
theorem dX8_enters_151 : decode cX8_enters 151 = .ok (.iload_n 1, 1) := dk_27 (dk_at dksX8_enters_6 11 rfl rfl)
theorem dX8_enters_152 : decode cX8_enters 152 = .ok (.iadd, 1) := dk_96 (dk_at dksX8_enters_6 12 rfl rfl)
theorem dX8_enters_153 : decode cX8_enters 153 = .ok (.imul, 1) := dk_104 (dk_at dksX8_enters_6 13 rfl rfl)
theorem dX8_enters_154 : decode cX8_enters 154 = .ok (.iload_n 2, 1) := dk_28 (dk_at dksX8_enters_6 14 rfl rfl)
theorem dX8_enters_155 : decode cX8_enters 155 = .ok (.iadd, 1) := dk_96 (dk_at dksX8_enters_6 15 rfl rfl)
theorem dX8_enters_156 : decode cX8_enters 156 = .ok (.aload_n 0, 1) := dk_42 (dk_at dksX8_enters_6 16 rfl rfl)
theorem dX8_enters_157 : decode cX8_enters 157 = .ok (.getfield 50, 3) := dk_180 0 50 (dk_at dksX8_enters_6 17 rfl rfl)
theorem dX8_enters_160 : decode cX8_enters 160 = .ok (.bipush 6, 2) := dk_16 6 (dk_at dksX8_enters_6 20 rfl rfl)
theorem dX8_enters_162 : decode cX8_enters 162 = .ok (.iload_n 1, 1) := dk_27 (dk_at dksX8_enters_6 22 rfl rfl)
theorem dX8_enters_163 : decode cX8_enters 163 = .ok (.imul, 1) := dk_104 (dk_at dksX8_enters_6 23 rfl rfl)
theorem dX8_enters_164 : decode cX8_enters 164 = .ok (.iload_n 2, 1) := dk_28 (dk_at dksX8_enters_7 0 rfl rfl)
theorem dX8_enters_165 : decode cX8_enters 165 = .ok (.iadd, 1) := dk_96 (dk_at dksX8_enters_7 1 rfl rfl)
theorem dX8_enters_166 : decode cX8_enters 166 = .ok (.iaload, 1) := dk_46 (dk_at dksX8_enters_7 2 rfl rfl)
theorem dX8_enters_167 : decode cX8_enters 167 = .ok (.iastore, 1) := dk_79 (dk_at dksX8_enters_7 3 rfl rfl)
theorem dX8_enters_168 : decode cX8_enters 168 = .ok (.iinc 2 1, 3) := dk_132 2 1 (dk_at dksX8_enters_7 4 rfl rfl)
theorem dX8_enters_171 : decode cX8_enters 171 = .ok (.goto (-67), 3) := dk_167 255 189 (dk_at dksX8_enters_7 7 rfl rfl)
theorem dX8_enters_174 : decode cX8_enters 174 = .ok (.iconst 0, 1) := dk_3 (dk_at dksX8_enters_7 10 rfl rfl)
theorem dX8_enters_175 : decode cX8_enters 175 = .ok (.istore_n 2, 1) := dk_61 (dk_at dksX8_enters_7 11 rfl rfl)
theorem dX8_enters_176 : decode cX8_enters 176 = .ok (.iload_n 2, 1) := dk_28 (dk_at dksX8_enters_7 12 rfl rfl)
theorem dX8_enters_177 : decode cX8_enters 177 = .ok (.iconst 3, 1) := dk_6 (dk_at dksX8_enters_7 13 rfl rfl)
theorem dX8_enters_178 : decode cX8_enters 178 = .ok (.if_icmp .ge 36, 3) := dk_162 0 36 (dk_at dksX8_enters_7 14 rfl rfl)
theorem dX8_enters_181 : decode cX8_enters 181 = .ok (.aload_n 0, 1) := dk_42 (dk_at dksX8_enters_7 17 rfl rfl)
theorem dX8_enters_182 : decode cX8_enters 182 = .ok (.getfield 29, 3) := dk_180 0 29 (dk_at dksX8_enters_7 18 rfl rfl)
theorem dX8_enters_185 : decode cX8_enters 185 = .ok (.iconst 3, 1) := dk_6 (dk_at dksX8_enters_7 21 rfl rfl)
theorem dX8_enters_186 : decode cX8_enters 186 = .ok (.iconst 3, 1) := dk_6 (dk_at dksX8_enters_7 22 rfl rfl)
theorem dX8_enters_187 : decode cX8_enters 187 = .ok (.aload_n 0, 1) := dk_42 (dk_at dksX8_enters_7 23 rfl rfl)
theorem dX8_enters_188 : decode cX8_enters 188 = .ok (.getfield 84, 3) := dk_180 0 84 (dk_at dksX8_enters_8 0 rfl rfl)
theorem dX8_enters_191 : decode cX8_enters 191 = .ok (.imul, 1) := dk_104 (dk_at dksX8_enters_8 3 rfl rfl)
theorem dX8_enters_192 : decode cX8_enters 192 = .ok (.iload_n 1, 1) := dk_27 (dk_at dksX8_enters_8 4 rfl rfl)
theorem dX8_enters_193 : decode cX8_enters 193 = .ok (.iadd, 1) := dk_96 (dk_at dksX8_enters_8 5 rfl rfl)
theorem dX8_enters_194 : decode cX8_enters 194 = .ok (.imul, 1) := dk_104 (dk_at dksX8_enters_8 6 rfl rfl)
theorem dX8_enters_195 : decode cX8_enters 195 = .ok (.iload_n 2, 1) := dk_28 (dk_at dksX8_enters_8 7 rfl rfl)
theorem dX8_enters_196 : decode cX8_enters 196 = .ok (.iadd, 1) := dk_96 (dk_at dksX8_enters_8 8 rfl rfl)
theorem dX8_enters_197 : decode cX8_enters 197 = .ok (.aload_n 0, 1) := dk_42 (dk_at dksX8_enters_8 9 rfl rfl)
theorem dX8_enters_198 : decode cX8_enters 198 = .ok (.getfield 53, 3) := dk_180 0 53 (dk_at dksX8_enters_8 10 rfl rfl)
theorem dX8_enters_201 : decode cX8_enters 201 = .ok (.iconst 3, 1) := dk_6 (dk_at dksX8_enters_8 13 rfl rfl)
theorem dX8_enters_202 : decode cX8_enters 202 = .ok (.iload_n 1, 1) := dk_27 (dk_at dksX8_enters_8 14 rfl rfl)
theorem dX8_enters_203 : decode cX8_enters 203 = .ok (.imul, 1) := dk_104 (dk_at dksX8_enters_8 15 rfl rfl)
theorem dX8_enters_204 : decode cX8_enters 204 = .ok (.iload_n 2, 1) := dk_28 (dk_at dksX8_enters_8 16 rfl rfl)
theorem dX8_enters_205 : decode cX8_enters 205 = .ok (.iadd, 1) := dk_96 (dk_at dksX8_enters_8 17 rfl rfl)
theorem dX8_enters_206 : decode cX8_enters 206 = .ok (.iaload, 1) := dk_46 (dk_at dksX8_enters_8 18 rfl rfl)
theorem dX8_enters_207 : decode cX8_enters 207 = .ok (.iastore, 1) := dk_79 (dk_at dksX8_enters_8 19 rfl rfl)
theorem dX8_enters_208 : decode cX8_enters 208 = .ok (.iinc 2 1, 3) := dk_132 2 1 (dk_at dksX8_enters_8 20 rfl rfl)
theorem dX8_enters_211 : decode cX8_enters 211 = .ok (.goto (-35), 3) := dk_167 255 221 (dk_at dksX8_enters_9 0 rfl rfl)
theorem dX8_enters_214 : decode cX8_enters 214 = .ok (.iinc 1 1, 3) := dk_132 1 1 (dk_at dksX8_enters_9 3 rfl rfl)
theorem dX8_enters_217 : decode cX8_enters 217 = .ok (.goto (-139), 3) := dk_167 255 117 (dk_at dksX8_enters_9 6 rfl rfl)
theorem dX8_enters_220 : decode cX8_enters 220 = .ok (.aload_n 0, 1) := dk_42 (dk_at dksX8_enters_9 9 rfl rfl)
theorem dX8_enters_221 : decode cX8_enters 221 = .ok (.dup, 1) := dk_89 (dk_at dksX8_enters_9 10 rfl rfl)
theorem dX8_enters_222 : decode cX8_enters 222 = .ok (.getfield 84, 3) := dk_180 0 84 (dk_at dksX8_enters_9 11 rfl rfl)
theorem dX8_enters_225 : decode cX8_enters 225 = .ok (.iconst 1, 1) := dk_4 (dk_at dksX8_enters_9 14 rfl rfl)
theorem dX8_enters_226 : decode cX8_enters 226 = .ok (.iadd, 1) := dk_96 (dk_at dksX8_enters_9 15 rfl rfl)
theorem dX8_enters_227 : decode cX8_enters 227 = .ok (.putfield 84, 3) := dk_181 0 84 (dk_at dksX8_enters_9 16 rfl rfl)
theorem dX8_enters_230 : decode cX8_enters 230 = .ok (.aload_n 0, 1) := dk_42 (dk_at dksX8_enters_9 19 rfl rfl)
theorem dX8_enters_231 : decode cX8_enters 231 = .ok (.invokevirtual 230, 3) := dk_182 0 230 (dk_at dksX8_enters_9 20 rfl rfl)
theorem dX8_enters_234 : decode cX8_enters 234 = .ok (.aload_n 0, 1) := dk_42 (dk_at dksX8_enters_9 23 rfl rfl)
theorem dX8_enters_235 : decode cX8_enters 235 = .ok (.getfield 84, 3) := dk_180 0 84 (dk_at dksX8_enters_10 0 rfl rfl)
theorem dX8_enters_238 : decode cX8_enters 238 = .ok (.iconst 1, 1) := dk_4 (dk_at dksX8_enters_10 3 rfl rfl)
theorem dX8_enters_239 : decode cX8_enters 239 = .ok (.isub, 1) := dk_100 (dk_at dksX8_enters_10 4 rfl rfl)
theorem dX8_enters_240 : decode cX8_enters 240 = .ok (.ireturn, 1) := dk_172 (dk_at dksX8_enters_10 5 rfl rfl)
abbrev cX8_takesLifter : ByteArray := prog_21_method_41_code
def yX8_takesLifter : MethodName := ⟨RX8, "takesLifter", "()Z"⟩
def dkwX8_takesLifter_4 : List UInt8 := [160, 0, 7, 4, 167, 0, 4, 3, 172]
abbrev dktX8_takesLifter_4 : List UInt8 := dkwX8_takesLifter_4 ++ []
def dkwX8_takesLifter_3 : List UInt8 := [27, 182, 0, 224, 154, 0, 5, 3, 172, 132, 1, 1, 167, 255, 221, 42, 180, 0, 187, 42, 180, 0, 190]
abbrev dktX8_takesLifter_3 : List UInt8 := dkwX8_takesLifter_3 ++ dktX8_takesLifter_4
def dkwX8_takesLifter_2 : List UInt8 := [60, 27, 6, 162, 0, 36, 42, 16, 59, 182, 0, 209, 153, 0, 19, 42, 27, 182, 0, 221, 153, 0, 11, 42]
abbrev dktX8_takesLifter_2 : List UInt8 := dkwX8_takesLifter_2 ++ dktX8_takesLifter_3
def dkwX8_takesLifter_1 : List UInt8 := [182, 0, 209, 153, 0, 10, 42, 182, 0, 215, 154, 0, 5, 3, 172, 42, 42, 180, 0, 200, 181, 0, 218, 3]
abbrev dktX8_takesLifter_1 : List UInt8 := dkwX8_takesLifter_1 ++ dktX8_takesLifter_2
def dkwX8_takesLifter_0 : List UInt8 := [42, 4, 17, 0, 200, 182, 0, 206, 154, 0, 5, 3, 172, 42, 42, 180, 0, 200, 181, 0, 212, 42, 16, 44]
abbrev dktX8_takesLifter_0 : List UInt8 := dkwX8_takesLifter_0 ++ dktX8_takesLifter_1
theorem dksX8_takesLifter_0 : cX8_takesLifter.data.toList.drop 0 = dktX8_takesLifter_0 := by decide +kernel
theorem dksX8_takesLifter_1 : cX8_takesLifter.data.toList.drop 24 = dktX8_takesLifter_1 := dk_seg dksX8_takesLifter_0 24 rfl rfl
theorem dksX8_takesLifter_2 : cX8_takesLifter.data.toList.drop 48 = dktX8_takesLifter_2 := dk_seg dksX8_takesLifter_1 24 rfl rfl
theorem dksX8_takesLifter_3 : cX8_takesLifter.data.toList.drop 72 = dktX8_takesLifter_3 := dk_seg dksX8_takesLifter_2 24 rfl rfl
theorem dksX8_takesLifter_4 : cX8_takesLifter.data.toList.drop 95 = dktX8_takesLifter_4 := dk_seg dksX8_takesLifter_3 23 rfl rfl
theorem dX8_takesLifter_0 : decode cX8_takesLifter 0 = .ok (.aload_n 0, 1) := dk_42 (dk_at dksX8_takesLifter_0 0 rfl rfl)
theorem dX8_takesLifter_1 : decode cX8_takesLifter 1 = .ok (.iconst 1, 1) := dk_4 (dk_at dksX8_takesLifter_0 1 rfl rfl)
theorem dX8_takesLifter_2 : decode cX8_takesLifter 2 = .ok (.sipush 200, 3) := dk_17 0 200 (dk_at dksX8_takesLifter_0 2 rfl rfl)
theorem dX8_takesLifter_5 : decode cX8_takesLifter 5 = .ok (.invokevirtual 206, 3) := dk_182 0 206 (dk_at dksX8_takesLifter_0 5 rfl rfl)
theorem dX8_takesLifter_8 : decode cX8_takesLifter 8 = .ok (.ifCond .ne 5, 3) := dk_154 0 5 (dk_at dksX8_takesLifter_0 8 rfl rfl)
theorem dX8_takesLifter_11 : decode cX8_takesLifter 11 = .ok (.iconst 0, 1) := dk_3 (dk_at dksX8_takesLifter_0 11 rfl rfl)
theorem dX8_takesLifter_12 : decode cX8_takesLifter 12 = .ok (.ireturn, 1) := dk_172 (dk_at dksX8_takesLifter_0 12 rfl rfl)
theorem dX8_takesLifter_13 : decode cX8_takesLifter 13 = .ok (.aload_n 0, 1) := dk_42 (dk_at dksX8_takesLifter_0 13 rfl rfl)
theorem dX8_takesLifter_14 : decode cX8_takesLifter 14 = .ok (.aload_n 0, 1) := dk_42 (dk_at dksX8_takesLifter_0 14 rfl rfl)
theorem dX8_takesLifter_15 : decode cX8_takesLifter 15 = .ok (.getfield 200, 3) := dk_180 0 200 (dk_at dksX8_takesLifter_0 15 rfl rfl)
theorem dX8_takesLifter_18 : decode cX8_takesLifter 18 = .ok (.putfield 212, 3) := dk_181 0 212 (dk_at dksX8_takesLifter_0 18 rfl rfl)
theorem dX8_takesLifter_21 : decode cX8_takesLifter 21 = .ok (.aload_n 0, 1) := dk_42 (dk_at dksX8_takesLifter_0 21 rfl rfl)
theorem dX8_takesLifter_22 : decode cX8_takesLifter 22 = .ok (.bipush 44, 2) := dk_16 44 (dk_at dksX8_takesLifter_0 22 rfl rfl)
theorem dX8_takesLifter_24 : decode cX8_takesLifter 24 = .ok (.invokevirtual 209, 3) := dk_182 0 209 (dk_at dksX8_takesLifter_1 0 rfl rfl)
theorem dX8_takesLifter_27 : decode cX8_takesLifter 27 = .ok (.ifCond .eq 10, 3) := dk_153 0 10 (dk_at dksX8_takesLifter_1 3 rfl rfl)
theorem dX8_takesLifter_30 : decode cX8_takesLifter 30 = .ok (.aload_n 0, 1) := dk_42 (dk_at dksX8_takesLifter_1 6 rfl rfl)
theorem dX8_takesLifter_31 : decode cX8_takesLifter 31 = .ok (.invokevirtual 215, 3) := dk_182 0 215 (dk_at dksX8_takesLifter_1 7 rfl rfl)
theorem dX8_takesLifter_34 : decode cX8_takesLifter 34 = .ok (.ifCond .ne 5, 3) := dk_154 0 5 (dk_at dksX8_takesLifter_1 10 rfl rfl)
theorem dX8_takesLifter_37 : decode cX8_takesLifter 37 = .ok (.iconst 0, 1) := dk_3 (dk_at dksX8_takesLifter_1 13 rfl rfl)
theorem dX8_takesLifter_38 : decode cX8_takesLifter 38 = .ok (.ireturn, 1) := dk_172 (dk_at dksX8_takesLifter_1 14 rfl rfl)
theorem dX8_takesLifter_39 : decode cX8_takesLifter 39 = .ok (.aload_n 0, 1) := dk_42 (dk_at dksX8_takesLifter_1 15 rfl rfl)
theorem dX8_takesLifter_40 : decode cX8_takesLifter 40 = .ok (.aload_n 0, 1) := dk_42 (dk_at dksX8_takesLifter_1 16 rfl rfl)
theorem dX8_takesLifter_41 : decode cX8_takesLifter 41 = .ok (.getfield 200, 3) := dk_180 0 200 (dk_at dksX8_takesLifter_1 17 rfl rfl)
theorem dX8_takesLifter_44 : decode cX8_takesLifter 44 = .ok (.putfield 218, 3) := dk_181 0 218 (dk_at dksX8_takesLifter_1 20 rfl rfl)
theorem dX8_takesLifter_47 : decode cX8_takesLifter 47 = .ok (.iconst 0, 1) := dk_3 (dk_at dksX8_takesLifter_1 23 rfl rfl)
theorem dX8_takesLifter_48 : decode cX8_takesLifter 48 = .ok (.istore_n 1, 1) := dk_60 (dk_at dksX8_takesLifter_2 0 rfl rfl)
theorem dX8_takesLifter_49 : decode cX8_takesLifter 49 = .ok (.iload_n 1, 1) := dk_27 (dk_at dksX8_takesLifter_2 1 rfl rfl)
theorem dX8_takesLifter_50 : decode cX8_takesLifter 50 = .ok (.iconst 3, 1) := dk_6 (dk_at dksX8_takesLifter_2 2 rfl rfl)
theorem dX8_takesLifter_51 : decode cX8_takesLifter 51 = .ok (.if_icmp .ge 36, 3) := dk_162 0 36 (dk_at dksX8_takesLifter_2 3 rfl rfl)
theorem dX8_takesLifter_54 : decode cX8_takesLifter 54 = .ok (.aload_n 0, 1) := dk_42 (dk_at dksX8_takesLifter_2 6 rfl rfl)
theorem dX8_takesLifter_55 : decode cX8_takesLifter 55 = .ok (.bipush 59, 2) := dk_16 59 (dk_at dksX8_takesLifter_2 7 rfl rfl)
theorem dX8_takesLifter_57 : decode cX8_takesLifter 57 = .ok (.invokevirtual 209, 3) := dk_182 0 209 (dk_at dksX8_takesLifter_2 9 rfl rfl)
theorem dX8_takesLifter_60 : decode cX8_takesLifter 60 = .ok (.ifCond .eq 19, 3) := dk_153 0 19 (dk_at dksX8_takesLifter_2 12 rfl rfl)
theorem dX8_takesLifter_63 : decode cX8_takesLifter 63 = .ok (.aload_n 0, 1) := dk_42 (dk_at dksX8_takesLifter_2 15 rfl rfl)
theorem dX8_takesLifter_64 : decode cX8_takesLifter 64 = .ok (.iload_n 1, 1) := dk_27 (dk_at dksX8_takesLifter_2 16 rfl rfl)
theorem dX8_takesLifter_65 : decode cX8_takesLifter 65 = .ok (.invokevirtual 221, 3) := dk_182 0 221 (dk_at dksX8_takesLifter_2 17 rfl rfl)
theorem dX8_takesLifter_68 : decode cX8_takesLifter 68 = .ok (.ifCond .eq 11, 3) := dk_153 0 11 (dk_at dksX8_takesLifter_2 20 rfl rfl)
theorem dX8_takesLifter_71 : decode cX8_takesLifter 71 = .ok (.aload_n 0, 1) := dk_42 (dk_at dksX8_takesLifter_2 23 rfl rfl)
theorem dX8_takesLifter_72 : decode cX8_takesLifter 72 = .ok (.iload_n 1, 1) := dk_27 (dk_at dksX8_takesLifter_3 0 rfl rfl)
theorem dX8_takesLifter_73 : decode cX8_takesLifter 73 = .ok (.invokevirtual 224, 3) := dk_182 0 224 (dk_at dksX8_takesLifter_3 1 rfl rfl)
theorem dX8_takesLifter_76 : decode cX8_takesLifter 76 = .ok (.ifCond .ne 5, 3) := dk_154 0 5 (dk_at dksX8_takesLifter_3 4 rfl rfl)
theorem dX8_takesLifter_79 : decode cX8_takesLifter 79 = .ok (.iconst 0, 1) := dk_3 (dk_at dksX8_takesLifter_3 7 rfl rfl)
theorem dX8_takesLifter_80 : decode cX8_takesLifter 80 = .ok (.ireturn, 1) := dk_172 (dk_at dksX8_takesLifter_3 8 rfl rfl)
theorem dX8_takesLifter_81 : decode cX8_takesLifter 81 = .ok (.iinc 1 1, 3) := dk_132 1 1 (dk_at dksX8_takesLifter_3 9 rfl rfl)
theorem dX8_takesLifter_84 : decode cX8_takesLifter 84 = .ok (.goto (-35), 3) := dk_167 255 221 (dk_at dksX8_takesLifter_3 12 rfl rfl)
theorem dX8_takesLifter_87 : decode cX8_takesLifter 87 = .ok (.aload_n 0, 1) := dk_42 (dk_at dksX8_takesLifter_3 15 rfl rfl)
theorem dX8_takesLifter_88 : decode cX8_takesLifter 88 = .ok (.getfield 187, 3) := dk_180 0 187 (dk_at dksX8_takesLifter_3 16 rfl rfl)
theorem dX8_takesLifter_91 : decode cX8_takesLifter 91 = .ok (.aload_n 0, 1) := dk_42 (dk_at dksX8_takesLifter_3 19 rfl rfl)
theorem dX8_takesLifter_92 : decode cX8_takesLifter 92 = .ok (.getfield 190, 3) := dk_180 0 190 (dk_at dksX8_takesLifter_3 20 rfl rfl)
theorem dX8_takesLifter_95 : decode cX8_takesLifter 95 = .ok (.if_icmp .ne 7, 3) := dk_160 0 7 (dk_at dksX8_takesLifter_4 0 rfl rfl)
theorem dX8_takesLifter_98 : decode cX8_takesLifter 98 = .ok (.iconst 1, 1) := dk_4 (dk_at dksX8_takesLifter_4 3 rfl rfl)
theorem dX8_takesLifter_99 : decode cX8_takesLifter 99 = .ok (.goto 4, 3) := dk_167 0 4 (dk_at dksX8_takesLifter_4 4 rfl rfl)
theorem dX8_takesLifter_102 : decode cX8_takesLifter 102 = .ok (.iconst 0, 1) := dk_3 (dk_at dksX8_takesLifter_4 7 rfl rfl)
theorem dX8_takesLifter_103 : decode cX8_takesLifter 103 = .ok (.ireturn, 1) := dk_172 (dk_at dksX8_takesLifter_4 8 rfl rfl)
abbrev cX8_takesNumber : ByteArray := prog_21_method_37_code
def yX8_takesNumber : MethodName := ⟨RX8, "takesNumber", "(II)Z"⟩
def dkwX8_takesNumber_0 : List UInt8 := [42, 27, 28, 182, 0, 203, 153, 0, 14, 42, 182, 0, 197, 154, 0, 7, 4, 167, 0, 4, 3, 172]
abbrev dktX8_takesNumber_0 : List UInt8 := dkwX8_takesNumber_0 ++ []
theorem dksX8_takesNumber_0 : cX8_takesNumber.data.toList.drop 0 = dktX8_takesNumber_0 := by decide +kernel
theorem dX8_takesNumber_0 : decode cX8_takesNumber 0 = .ok (.aload_n 0, 1) := dk_42 (dk_at dksX8_takesNumber_0 0 rfl rfl)
theorem dX8_takesNumber_1 : decode cX8_takesNumber 1 = .ok (.iload_n 1, 1) := dk_27 (dk_at dksX8_takesNumber_0 1 rfl rfl)
theorem dX8_takesNumber_2 : decode cX8_takesNumber 2 = .ok (.iload_n 2, 1) := dk_28 (dk_at dksX8_takesNumber_0 2 rfl rfl)
theorem dX8_takesNumber_3 : decode cX8_takesNumber 3 = .ok (.invokevirtual 203, 3) := dk_182 0 203 (dk_at dksX8_takesNumber_0 3 rfl rfl)
theorem dX8_takesNumber_6 : decode cX8_takesNumber 6 = .ok (.ifCond .eq 14, 3) := dk_153 0 14 (dk_at dksX8_takesNumber_0 6 rfl rfl)
theorem dX8_takesNumber_9 : decode cX8_takesNumber 9 = .ok (.aload_n 0, 1) := dk_42 (dk_at dksX8_takesNumber_0 9 rfl rfl)
theorem dX8_takesNumber_10 : decode cX8_takesNumber 10 = .ok (.invokevirtual 197, 3) := dk_182 0 197 (dk_at dksX8_takesNumber_0 10 rfl rfl)
theorem dX8_takesNumber_13 : decode cX8_takesNumber 13 = .ok (.ifCond .ne 7, 3) := dk_154 0 7 (dk_at dksX8_takesNumber_0 13 rfl rfl)
theorem dX8_takesNumber_16 : decode cX8_takesNumber 16 = .ok (.iconst 1, 1) := dk_4 (dk_at dksX8_takesNumber_0 16 rfl rfl)
theorem dX8_takesNumber_17 : decode cX8_takesNumber 17 = .ok (.goto 4, 3) := dk_167 0 4 (dk_at dksX8_takesNumber_0 17 rfl rfl)
theorem dX8_takesNumber_20 : decode cX8_takesNumber 20 = .ok (.iconst 0, 1) := dk_3 (dk_at dksX8_takesNumber_0 20 rfl rfl)
theorem dX8_takesNumber_21 : decode cX8_takesNumber 21 = .ok (.ireturn, 1) := dk_172 (dk_at dksX8_takesNumber_0 21 rfl rfl)
abbrev cX8_readsNumber : ByteArray := prog_21_method_36_code
def yX8_readsNumber : MethodName := ⟨RX8, "readsNumber", "(II)Z"⟩
def dkwX8_readsNumber_4 : List UInt8 := [42, 89, 180, 0, 187, 4, 100, 181, 0, 187, 3, 172, 4, 172]
abbrev dktX8_readsNumber_4 : List UInt8 := dkwX8_readsNumber_4 ++ []
def dkwX8_readsNumber_3 : List UInt8 := [181, 0, 187, 132, 3, 1, 167, 255, 196, 42, 180, 0, 200, 133, 27, 133, 28, 133, 184, 0, 87, 154, 0, 15]
abbrev dktX8_readsNumber_3 : List UInt8 := dkwX8_readsNumber_3 ++ dktX8_readsNumber_4
def dkwX8_readsNumber_2 : List UInt8 := [180, 0, 41, 42, 180, 0, 187, 46, 96, 16, 48, 100, 181, 0, 200, 42, 89, 180, 0, 187, 4, 96]
abbrev dktX8_readsNumber_2 : List UInt8 := dkwX8_readsNumber_2 ++ dktX8_readsNumber_3
def dkwX8_readsNumber_1 : List UInt8 := [7, 162, 0, 54, 29, 153, 0, 10, 42, 180, 0, 200, 158, 0, 43, 42, 16, 10, 42, 180, 0, 200, 104, 42]
abbrev dktX8_readsNumber_1 : List UInt8 := dkwX8_readsNumber_1 ++ dktX8_readsNumber_2
def dkwX8_readsNumber_0 : List UInt8 := [42, 182, 0, 197, 154, 0, 5, 3, 172, 42, 3, 181, 0, 200, 3, 62, 42, 182, 0, 197, 153, 0, 59, 29]
abbrev dktX8_readsNumber_0 : List UInt8 := dkwX8_readsNumber_0 ++ dktX8_readsNumber_1
theorem dksX8_readsNumber_0 : cX8_readsNumber.data.toList.drop 0 = dktX8_readsNumber_0 := by decide +kernel
theorem dksX8_readsNumber_1 : cX8_readsNumber.data.toList.drop 24 = dktX8_readsNumber_1 := dk_seg dksX8_readsNumber_0 24 rfl rfl
theorem dksX8_readsNumber_2 : cX8_readsNumber.data.toList.drop 48 = dktX8_readsNumber_2 := dk_seg dksX8_readsNumber_1 24 rfl rfl
theorem dksX8_readsNumber_3 : cX8_readsNumber.data.toList.drop 70 = dktX8_readsNumber_3 := dk_seg dksX8_readsNumber_2 22 rfl rfl
theorem dksX8_readsNumber_4 : cX8_readsNumber.data.toList.drop 94 = dktX8_readsNumber_4 := dk_seg dksX8_readsNumber_3 24 rfl rfl
theorem dX8_readsNumber_0 : decode cX8_readsNumber 0 = .ok (.aload_n 0, 1) := dk_42 (dk_at dksX8_readsNumber_0 0 rfl rfl)
theorem dX8_readsNumber_1 : decode cX8_readsNumber 1 = .ok (.invokevirtual 197, 3) := dk_182 0 197 (dk_at dksX8_readsNumber_0 1 rfl rfl)
theorem dX8_readsNumber_4 : decode cX8_readsNumber 4 = .ok (.ifCond .ne 5, 3) := dk_154 0 5 (dk_at dksX8_readsNumber_0 4 rfl rfl)
theorem dX8_readsNumber_7 : decode cX8_readsNumber 7 = .ok (.iconst 0, 1) := dk_3 (dk_at dksX8_readsNumber_0 7 rfl rfl)
theorem dX8_readsNumber_8 : decode cX8_readsNumber 8 = .ok (.ireturn, 1) := dk_172 (dk_at dksX8_readsNumber_0 8 rfl rfl)
theorem dX8_readsNumber_9 : decode cX8_readsNumber 9 = .ok (.aload_n 0, 1) := dk_42 (dk_at dksX8_readsNumber_0 9 rfl rfl)
theorem dX8_readsNumber_10 : decode cX8_readsNumber 10 = .ok (.iconst 0, 1) := dk_3 (dk_at dksX8_readsNumber_0 10 rfl rfl)
theorem dX8_readsNumber_11 : decode cX8_readsNumber 11 = .ok (.putfield 200, 3) := dk_181 0 200 (dk_at dksX8_readsNumber_0 11 rfl rfl)
theorem dX8_readsNumber_14 : decode cX8_readsNumber 14 = .ok (.iconst 0, 1) := dk_3 (dk_at dksX8_readsNumber_0 14 rfl rfl)
theorem dX8_readsNumber_15 : decode cX8_readsNumber 15 = .ok (.istore_n 3, 1) := dk_62 (dk_at dksX8_readsNumber_0 15 rfl rfl)
theorem dX8_readsNumber_16 : decode cX8_readsNumber 16 = .ok (.aload_n 0, 1) := dk_42 (dk_at dksX8_readsNumber_0 16 rfl rfl)
theorem dX8_readsNumber_17 : decode cX8_readsNumber 17 = .ok (.invokevirtual 197, 3) := dk_182 0 197 (dk_at dksX8_readsNumber_0 17 rfl rfl)
theorem dX8_readsNumber_20 : decode cX8_readsNumber 20 = .ok (.ifCond .eq 59, 3) := dk_153 0 59 (dk_at dksX8_readsNumber_0 20 rfl rfl)
theorem dX8_readsNumber_23 : decode cX8_readsNumber 23 = .ok (.iload_n 3, 1) := dk_29 (dk_at dksX8_readsNumber_0 23 rfl rfl)
theorem dX8_readsNumber_24 : decode cX8_readsNumber 24 = .ok (.iconst 4, 1) := dk_7 (dk_at dksX8_readsNumber_1 0 rfl rfl)
theorem dX8_readsNumber_25 : decode cX8_readsNumber 25 = .ok (.if_icmp .ge 54, 3) := dk_162 0 54 (dk_at dksX8_readsNumber_1 1 rfl rfl)
theorem dX8_readsNumber_28 : decode cX8_readsNumber 28 = .ok (.iload_n 3, 1) := dk_29 (dk_at dksX8_readsNumber_1 4 rfl rfl)
theorem dX8_readsNumber_29 : decode cX8_readsNumber 29 = .ok (.ifCond .eq 10, 3) := dk_153 0 10 (dk_at dksX8_readsNumber_1 5 rfl rfl)
theorem dX8_readsNumber_32 : decode cX8_readsNumber 32 = .ok (.aload_n 0, 1) := dk_42 (dk_at dksX8_readsNumber_1 8 rfl rfl)
theorem dX8_readsNumber_33 : decode cX8_readsNumber 33 = .ok (.getfield 200, 3) := dk_180 0 200 (dk_at dksX8_readsNumber_1 9 rfl rfl)
theorem dX8_readsNumber_36 : decode cX8_readsNumber 36 = .ok (.ifCond .le 43, 3) := dk_158 0 43 (dk_at dksX8_readsNumber_1 12 rfl rfl)
theorem dX8_readsNumber_39 : decode cX8_readsNumber 39 = .ok (.aload_n 0, 1) := dk_42 (dk_at dksX8_readsNumber_1 15 rfl rfl)
theorem dX8_readsNumber_40 : decode cX8_readsNumber 40 = .ok (.bipush 10, 2) := dk_16 10 (dk_at dksX8_readsNumber_1 16 rfl rfl)
theorem dX8_readsNumber_42 : decode cX8_readsNumber 42 = .ok (.aload_n 0, 1) := dk_42 (dk_at dksX8_readsNumber_1 18 rfl rfl)
theorem dX8_readsNumber_43 : decode cX8_readsNumber 43 = .ok (.getfield 200, 3) := dk_180 0 200 (dk_at dksX8_readsNumber_1 19 rfl rfl)
theorem dX8_readsNumber_46 : decode cX8_readsNumber 46 = .ok (.imul, 1) := dk_104 (dk_at dksX8_readsNumber_1 22 rfl rfl)
theorem dX8_readsNumber_47 : decode cX8_readsNumber 47 = .ok (.aload_n 0, 1) := dk_42 (dk_at dksX8_readsNumber_1 23 rfl rfl)
theorem dX8_readsNumber_48 : decode cX8_readsNumber 48 = .ok (.getfield 41, 3) := dk_180 0 41 (dk_at dksX8_readsNumber_2 0 rfl rfl)
theorem dX8_readsNumber_51 : decode cX8_readsNumber 51 = .ok (.aload_n 0, 1) := dk_42 (dk_at dksX8_readsNumber_2 3 rfl rfl)
theorem dX8_readsNumber_52 : decode cX8_readsNumber 52 = .ok (.getfield 187, 3) := dk_180 0 187 (dk_at dksX8_readsNumber_2 4 rfl rfl)
theorem dX8_readsNumber_55 : decode cX8_readsNumber 55 = .ok (.iaload, 1) := dk_46 (dk_at dksX8_readsNumber_2 7 rfl rfl)
theorem dX8_readsNumber_56 : decode cX8_readsNumber 56 = .ok (.iadd, 1) := dk_96 (dk_at dksX8_readsNumber_2 8 rfl rfl)
theorem dX8_readsNumber_57 : decode cX8_readsNumber 57 = .ok (.bipush 48, 2) := dk_16 48 (dk_at dksX8_readsNumber_2 9 rfl rfl)
theorem dX8_readsNumber_59 : decode cX8_readsNumber 59 = .ok (.isub, 1) := dk_100 (dk_at dksX8_readsNumber_2 11 rfl rfl)
theorem dX8_readsNumber_60 : decode cX8_readsNumber 60 = .ok (.putfield 200, 3) := dk_181 0 200 (dk_at dksX8_readsNumber_2 12 rfl rfl)
theorem dX8_readsNumber_63 : decode cX8_readsNumber 63 = .ok (.aload_n 0, 1) := dk_42 (dk_at dksX8_readsNumber_2 15 rfl rfl)
theorem dX8_readsNumber_64 : decode cX8_readsNumber 64 = .ok (.dup, 1) := dk_89 (dk_at dksX8_readsNumber_2 16 rfl rfl)
theorem dX8_readsNumber_65 : decode cX8_readsNumber 65 = .ok (.getfield 187, 3) := dk_180 0 187 (dk_at dksX8_readsNumber_2 17 rfl rfl)
theorem dX8_readsNumber_68 : decode cX8_readsNumber 68 = .ok (.iconst 1, 1) := dk_4 (dk_at dksX8_readsNumber_2 20 rfl rfl)
theorem dX8_readsNumber_69 : decode cX8_readsNumber 69 = .ok (.iadd, 1) := dk_96 (dk_at dksX8_readsNumber_2 21 rfl rfl)
theorem dX8_readsNumber_70 : decode cX8_readsNumber 70 = .ok (.putfield 187, 3) := dk_181 0 187 (dk_at dksX8_readsNumber_3 0 rfl rfl)
theorem dX8_readsNumber_73 : decode cX8_readsNumber 73 = .ok (.iinc 3 1, 3) := dk_132 3 1 (dk_at dksX8_readsNumber_3 3 rfl rfl)
theorem dX8_readsNumber_76 : decode cX8_readsNumber 76 = .ok (.goto (-60), 3) := dk_167 255 196 (dk_at dksX8_readsNumber_3 6 rfl rfl)
theorem dX8_readsNumber_79 : decode cX8_readsNumber 79 = .ok (.aload_n 0, 1) := dk_42 (dk_at dksX8_readsNumber_3 9 rfl rfl)
theorem dX8_readsNumber_80 : decode cX8_readsNumber 80 = .ok (.getfield 200, 3) := dk_180 0 200 (dk_at dksX8_readsNumber_3 10 rfl rfl)
theorem dX8_readsNumber_83 : decode cX8_readsNumber 83 = .ok (.i2l, 1) := dk_133 (dk_at dksX8_readsNumber_3 13 rfl rfl)
theorem dX8_readsNumber_84 : decode cX8_readsNumber 84 = .ok (.iload_n 1, 1) := dk_27 (dk_at dksX8_readsNumber_3 14 rfl rfl)
theorem dX8_readsNumber_85 : decode cX8_readsNumber 85 = .ok (.i2l, 1) := dk_133 (dk_at dksX8_readsNumber_3 15 rfl rfl)
theorem dX8_readsNumber_86 : decode cX8_readsNumber 86 = .ok (.iload_n 2, 1) := dk_28 (dk_at dksX8_readsNumber_3 16 rfl rfl)
theorem dX8_readsNumber_87 : decode cX8_readsNumber 87 = .ok (.i2l, 1) := dk_133 (dk_at dksX8_readsNumber_3 17 rfl rfl)
theorem dX8_readsNumber_88 : decode cX8_readsNumber 88 = .ok (.invokestatic 87, 3) := dk_184 0 87 (dk_at dksX8_readsNumber_3 18 rfl rfl)
theorem dX8_readsNumber_91 : decode cX8_readsNumber 91 = .ok (.ifCond .ne 15, 3) := dk_154 0 15 (dk_at dksX8_readsNumber_3 21 rfl rfl)
theorem dX8_readsNumber_94 : decode cX8_readsNumber 94 = .ok (.aload_n 0, 1) := dk_42 (dk_at dksX8_readsNumber_4 0 rfl rfl)
theorem dX8_readsNumber_95 : decode cX8_readsNumber 95 = .ok (.dup, 1) := dk_89 (dk_at dksX8_readsNumber_4 1 rfl rfl)
theorem dX8_readsNumber_96 : decode cX8_readsNumber 96 = .ok (.getfield 187, 3) := dk_180 0 187 (dk_at dksX8_readsNumber_4 2 rfl rfl)
theorem dX8_readsNumber_99 : decode cX8_readsNumber 99 = .ok (.iconst 1, 1) := dk_4 (dk_at dksX8_readsNumber_4 5 rfl rfl)
theorem dX8_readsNumber_100 : decode cX8_readsNumber 100 = .ok (.isub, 1) := dk_100 (dk_at dksX8_readsNumber_4 6 rfl rfl)
theorem dX8_readsNumber_101 : decode cX8_readsNumber 101 = .ok (.putfield 187, 3) := dk_181 0 187 (dk_at dksX8_readsNumber_4 7 rfl rfl)
theorem dX8_readsNumber_104 : decode cX8_readsNumber 104 = .ok (.iconst 0, 1) := dk_3 (dk_at dksX8_readsNumber_4 10 rfl rfl)
theorem dX8_readsNumber_105 : decode cX8_readsNumber 105 = .ok (.ireturn, 1) := dk_172 (dk_at dksX8_readsNumber_4 11 rfl rfl)
theorem dX8_readsNumber_106 : decode cX8_readsNumber 106 = .ok (.iconst 1, 1) := dk_4 (dk_at dksX8_readsNumber_4 12 rfl rfl)
theorem dX8_readsNumber_107 : decode cX8_readsNumber 107 = .ok (.ireturn, 1) := dk_172 (dk_at dksX8_readsNumber_4 13 rfl rfl)
abbrev cX8_isDigit : ByteArray := prog_21_method_35_code
def yX8_isDigit : MethodName := ⟨RX8, "isDigit", "()Z"⟩
def dkwX8_isDigit_1 : List UInt8 := [20, 0, 195, 184, 0, 87, 153, 0, 7, 4, 167, 0, 4, 3, 172]
abbrev dktX8_isDigit_1 : List UInt8 := dkwX8_isDigit_1 ++ []
def dkwX8_isDigit_0 : List UInt8 := [42, 180, 0, 187, 42, 180, 0, 190, 162, 0, 29, 42, 180, 0, 41, 42, 180, 0, 187, 46, 133, 20, 0, 193]
abbrev dktX8_isDigit_0 : List UInt8 := dkwX8_isDigit_0 ++ dktX8_isDigit_1
theorem dksX8_isDigit_0 : cX8_isDigit.data.toList.drop 0 = dktX8_isDigit_0 := by decide +kernel
theorem dksX8_isDigit_1 : cX8_isDigit.data.toList.drop 24 = dktX8_isDigit_1 := dk_seg dksX8_isDigit_0 24 rfl rfl
theorem dX8_isDigit_0 : decode cX8_isDigit 0 = .ok (.aload_n 0, 1) := dk_42 (dk_at dksX8_isDigit_0 0 rfl rfl)
theorem dX8_isDigit_1 : decode cX8_isDigit 1 = .ok (.getfield 187, 3) := dk_180 0 187 (dk_at dksX8_isDigit_0 1 rfl rfl)
theorem dX8_isDigit_4 : decode cX8_isDigit 4 = .ok (.aload_n 0, 1) := dk_42 (dk_at dksX8_isDigit_0 4 rfl rfl)
theorem dX8_isDigit_5 : decode cX8_isDigit 5 = .ok (.getfield 190, 3) := dk_180 0 190 (dk_at dksX8_isDigit_0 5 rfl rfl)
theorem dX8_isDigit_8 : decode cX8_isDigit 8 = .ok (.if_icmp .ge 29, 3) := dk_162 0 29 (dk_at dksX8_isDigit_0 8 rfl rfl)
theorem dX8_isDigit_11 : decode cX8_isDigit 11 = .ok (.aload_n 0, 1) := dk_42 (dk_at dksX8_isDigit_0 11 rfl rfl)
theorem dX8_isDigit_12 : decode cX8_isDigit 12 = .ok (.getfield 41, 3) := dk_180 0 41 (dk_at dksX8_isDigit_0 12 rfl rfl)
theorem dX8_isDigit_15 : decode cX8_isDigit 15 = .ok (.aload_n 0, 1) := dk_42 (dk_at dksX8_isDigit_0 15 rfl rfl)
theorem dX8_isDigit_16 : decode cX8_isDigit 16 = .ok (.getfield 187, 3) := dk_180 0 187 (dk_at dksX8_isDigit_0 16 rfl rfl)
theorem dX8_isDigit_19 : decode cX8_isDigit 19 = .ok (.iaload, 1) := dk_46 (dk_at dksX8_isDigit_0 19 rfl rfl)
theorem dX8_isDigit_20 : decode cX8_isDigit 20 = .ok (.i2l, 1) := dk_133 (dk_at dksX8_isDigit_0 20 rfl rfl)
theorem dX8_isDigit_21 : decode cX8_isDigit 21 = .ok (.ldc2_w 193, 3) := dk_20 0 193 (dk_at dksX8_isDigit_0 21 rfl rfl)
theorem dX8_isDigit_24 : decode cX8_isDigit 24 = .ok (.ldc2_w 195, 3) := dk_20 0 195 (dk_at dksX8_isDigit_1 0 rfl rfl)
theorem dX8_isDigit_27 : decode cX8_isDigit 27 = .ok (.invokestatic 87, 3) := dk_184 0 87 (dk_at dksX8_isDigit_1 3 rfl rfl)
theorem dX8_isDigit_30 : decode cX8_isDigit 30 = .ok (.ifCond .eq 7, 3) := dk_153 0 7 (dk_at dksX8_isDigit_1 6 rfl rfl)
theorem dX8_isDigit_33 : decode cX8_isDigit 33 = .ok (.iconst 1, 1) := dk_4 (dk_at dksX8_isDigit_1 9 rfl rfl)
theorem dX8_isDigit_34 : decode cX8_isDigit 34 = .ok (.goto 4, 3) := dk_167 0 4 (dk_at dksX8_isDigit_1 10 rfl rfl)
theorem dX8_isDigit_37 : decode cX8_isDigit 37 = .ok (.iconst 0, 1) := dk_3 (dk_at dksX8_isDigit_1 13 rfl rfl)
theorem dX8_isDigit_38 : decode cX8_isDigit 38 = .ok (.ireturn, 1) := dk_172 (dk_at dksX8_isDigit_1 14 rfl rfl)
abbrev cX8_takes : ByteArray := prog_21_method_34_code
def yX8_takes : MethodName := ⟨RX8, "takes", "(I)Z"⟩
def dkwX8_takes_1 : List UInt8 := [3, 172, 42, 89, 180, 0, 187, 4, 96, 181, 0, 187, 4, 172]
abbrev dktX8_takes_1 : List UInt8 := dkwX8_takes_1 ++ []
def dkwX8_takes_0 : List UInt8 := [42, 180, 0, 187, 42, 180, 0, 190, 162, 0, 16, 42, 180, 0, 41, 42, 180, 0, 187, 46, 27, 159, 0, 5]
abbrev dktX8_takes_0 : List UInt8 := dkwX8_takes_0 ++ dktX8_takes_1
theorem dksX8_takes_0 : cX8_takes.data.toList.drop 0 = dktX8_takes_0 := by decide +kernel
theorem dksX8_takes_1 : cX8_takes.data.toList.drop 24 = dktX8_takes_1 := dk_seg dksX8_takes_0 24 rfl rfl
theorem dX8_takes_0 : decode cX8_takes 0 = .ok (.aload_n 0, 1) := dk_42 (dk_at dksX8_takes_0 0 rfl rfl)
theorem dX8_takes_1 : decode cX8_takes 1 = .ok (.getfield 187, 3) := dk_180 0 187 (dk_at dksX8_takes_0 1 rfl rfl)
theorem dX8_takes_4 : decode cX8_takes 4 = .ok (.aload_n 0, 1) := dk_42 (dk_at dksX8_takes_0 4 rfl rfl)
theorem dX8_takes_5 : decode cX8_takes 5 = .ok (.getfield 190, 3) := dk_180 0 190 (dk_at dksX8_takes_0 5 rfl rfl)
theorem dX8_takes_8 : decode cX8_takes 8 = .ok (.if_icmp .ge 16, 3) := dk_162 0 16 (dk_at dksX8_takes_0 8 rfl rfl)
theorem dX8_takes_11 : decode cX8_takes 11 = .ok (.aload_n 0, 1) := dk_42 (dk_at dksX8_takes_0 11 rfl rfl)
theorem dX8_takes_12 : decode cX8_takes 12 = .ok (.getfield 41, 3) := dk_180 0 41 (dk_at dksX8_takes_0 12 rfl rfl)
theorem dX8_takes_15 : decode cX8_takes 15 = .ok (.aload_n 0, 1) := dk_42 (dk_at dksX8_takes_0 15 rfl rfl)
theorem dX8_takes_16 : decode cX8_takes 16 = .ok (.getfield 187, 3) := dk_180 0 187 (dk_at dksX8_takes_0 16 rfl rfl)
theorem dX8_takes_19 : decode cX8_takes 19 = .ok (.iaload, 1) := dk_46 (dk_at dksX8_takes_0 19 rfl rfl)
theorem dX8_takes_20 : decode cX8_takes 20 = .ok (.iload_n 1, 1) := dk_27 (dk_at dksX8_takes_0 20 rfl rfl)
theorem dX8_takes_21 : decode cX8_takes 21 = .ok (.if_icmp .eq 5, 3) := dk_159 0 5 (dk_at dksX8_takes_0 21 rfl rfl)
theorem dX8_takes_24 : decode cX8_takes 24 = .ok (.iconst 0, 1) := dk_3 (dk_at dksX8_takes_1 0 rfl rfl)
theorem dX8_takes_25 : decode cX8_takes 25 = .ok (.ireturn, 1) := dk_172 (dk_at dksX8_takes_1 1 rfl rfl)
theorem dX8_takes_26 : decode cX8_takes 26 = .ok (.aload_n 0, 1) := dk_42 (dk_at dksX8_takes_1 2 rfl rfl)
theorem dX8_takes_27 : decode cX8_takes 27 = .ok (.dup, 1) := dk_89 (dk_at dksX8_takes_1 3 rfl rfl)
theorem dX8_takes_28 : decode cX8_takes 28 = .ok (.getfield 187, 3) := dk_180 0 187 (dk_at dksX8_takes_1 4 rfl rfl)
theorem dX8_takes_31 : decode cX8_takes 31 = .ok (.iconst 1, 1) := dk_4 (dk_at dksX8_takes_1 7 rfl rfl)
theorem dX8_takes_32 : decode cX8_takes 32 = .ok (.iadd, 1) := dk_96 (dk_at dksX8_takes_1 8 rfl rfl)
theorem dX8_takes_33 : decode cX8_takes 33 = .ok (.putfield 187, 3) := dk_181 0 187 (dk_at dksX8_takes_1 9 rfl rfl)
theorem dX8_takes_36 : decode cX8_takes 36 = .ok (.iconst 1, 1) := dk_4 (dk_at dksX8_takes_1 12 rfl rfl)
theorem dX8_takes_37 : decode cX8_takes 37 = .ok (.ireturn, 1) := dk_172 (dk_at dksX8_takes_1 13 rfl rfl)
abbrev cX8_takesLot : ByteArray := prog_21_method_38_code
def yX8_takesLot : MethodName := ⟨RX8, "takesLot", "()Z"⟩
def dkwX8_takesLot_2 : List UInt8 := [132, 1, 1, 167, 255, 220, 4, 172]
abbrev dktX8_takesLot_2 : List UInt8 := dkwX8_takesLot_2 ++ []
def dkwX8_takesLot_1 : List UInt8 := [180, 0, 17, 27, 46, 42, 180, 0, 200, 160, 0, 15, 42, 89, 180, 0, 187, 4, 100, 181, 0, 187, 3, 172]
abbrev dktX8_takesLot_1 : List UInt8 := dkwX8_takesLot_1 ++ dktX8_takesLot_2
def dkwX8_takesLot_0 : List UInt8 := [42, 3, 16, 99, 182, 0, 203, 154, 0, 5, 3, 172, 3, 60, 27, 42, 180, 0, 84, 162, 0, 34, 42]
abbrev dktX8_takesLot_0 : List UInt8 := dkwX8_takesLot_0 ++ dktX8_takesLot_1
theorem dksX8_takesLot_0 : cX8_takesLot.data.toList.drop 0 = dktX8_takesLot_0 := by decide +kernel
theorem dksX8_takesLot_1 : cX8_takesLot.data.toList.drop 23 = dktX8_takesLot_1 := dk_seg dksX8_takesLot_0 23 rfl rfl
theorem dksX8_takesLot_2 : cX8_takesLot.data.toList.drop 47 = dktX8_takesLot_2 := dk_seg dksX8_takesLot_1 24 rfl rfl
theorem dX8_takesLot_0 : decode cX8_takesLot 0 = .ok (.aload_n 0, 1) := dk_42 (dk_at dksX8_takesLot_0 0 rfl rfl)
theorem dX8_takesLot_1 : decode cX8_takesLot 1 = .ok (.iconst 0, 1) := dk_3 (dk_at dksX8_takesLot_0 1 rfl rfl)
theorem dX8_takesLot_2 : decode cX8_takesLot 2 = .ok (.bipush 99, 2) := dk_16 99 (dk_at dksX8_takesLot_0 2 rfl rfl)
theorem dX8_takesLot_4 : decode cX8_takesLot 4 = .ok (.invokevirtual 203, 3) := dk_182 0 203 (dk_at dksX8_takesLot_0 4 rfl rfl)
theorem dX8_takesLot_7 : decode cX8_takesLot 7 = .ok (.ifCond .ne 5, 3) := dk_154 0 5 (dk_at dksX8_takesLot_0 7 rfl rfl)
theorem dX8_takesLot_10 : decode cX8_takesLot 10 = .ok (.iconst 0, 1) := dk_3 (dk_at dksX8_takesLot_0 10 rfl rfl)
theorem dX8_takesLot_11 : decode cX8_takesLot 11 = .ok (.ireturn, 1) := dk_172 (dk_at dksX8_takesLot_0 11 rfl rfl)
theorem dX8_takesLot_12 : decode cX8_takesLot 12 = .ok (.iconst 0, 1) := dk_3 (dk_at dksX8_takesLot_0 12 rfl rfl)
theorem dX8_takesLot_13 : decode cX8_takesLot 13 = .ok (.istore_n 1, 1) := dk_60 (dk_at dksX8_takesLot_0 13 rfl rfl)
theorem dX8_takesLot_14 : decode cX8_takesLot 14 = .ok (.iload_n 1, 1) := dk_27 (dk_at dksX8_takesLot_0 14 rfl rfl)
theorem dX8_takesLot_15 : decode cX8_takesLot 15 = .ok (.aload_n 0, 1) := dk_42 (dk_at dksX8_takesLot_0 15 rfl rfl)
theorem dX8_takesLot_16 : decode cX8_takesLot 16 = .ok (.getfield 84, 3) := dk_180 0 84 (dk_at dksX8_takesLot_0 16 rfl rfl)
theorem dX8_takesLot_19 : decode cX8_takesLot 19 = .ok (.if_icmp .ge 34, 3) := dk_162 0 34 (dk_at dksX8_takesLot_0 19 rfl rfl)
theorem dX8_takesLot_22 : decode cX8_takesLot 22 = .ok (.aload_n 0, 1) := dk_42 (dk_at dksX8_takesLot_0 22 rfl rfl)
theorem dX8_takesLot_23 : decode cX8_takesLot 23 = .ok (.getfield 17, 3) := dk_180 0 17 (dk_at dksX8_takesLot_1 0 rfl rfl)
theorem dX8_takesLot_26 : decode cX8_takesLot 26 = .ok (.iload_n 1, 1) := dk_27 (dk_at dksX8_takesLot_1 3 rfl rfl)
theorem dX8_takesLot_27 : decode cX8_takesLot 27 = .ok (.iaload, 1) := dk_46 (dk_at dksX8_takesLot_1 4 rfl rfl)
theorem dX8_takesLot_28 : decode cX8_takesLot 28 = .ok (.aload_n 0, 1) := dk_42 (dk_at dksX8_takesLot_1 5 rfl rfl)
theorem dX8_takesLot_29 : decode cX8_takesLot 29 = .ok (.getfield 200, 3) := dk_180 0 200 (dk_at dksX8_takesLot_1 6 rfl rfl)
theorem dX8_takesLot_32 : decode cX8_takesLot 32 = .ok (.if_icmp .ne 15, 3) := dk_160 0 15 (dk_at dksX8_takesLot_1 9 rfl rfl)
theorem dX8_takesLot_35 : decode cX8_takesLot 35 = .ok (.aload_n 0, 1) := dk_42 (dk_at dksX8_takesLot_1 12 rfl rfl)
theorem dX8_takesLot_36 : decode cX8_takesLot 36 = .ok (.dup, 1) := dk_89 (dk_at dksX8_takesLot_1 13 rfl rfl)
theorem dX8_takesLot_37 : decode cX8_takesLot 37 = .ok (.getfield 187, 3) := dk_180 0 187 (dk_at dksX8_takesLot_1 14 rfl rfl)
theorem dX8_takesLot_40 : decode cX8_takesLot 40 = .ok (.iconst 1, 1) := dk_4 (dk_at dksX8_takesLot_1 17 rfl rfl)
theorem dX8_takesLot_41 : decode cX8_takesLot 41 = .ok (.isub, 1) := dk_100 (dk_at dksX8_takesLot_1 18 rfl rfl)
theorem dX8_takesLot_42 : decode cX8_takesLot 42 = .ok (.putfield 187, 3) := dk_181 0 187 (dk_at dksX8_takesLot_1 19 rfl rfl)
theorem dX8_takesLot_45 : decode cX8_takesLot 45 = .ok (.iconst 0, 1) := dk_3 (dk_at dksX8_takesLot_1 22 rfl rfl)
theorem dX8_takesLot_46 : decode cX8_takesLot 46 = .ok (.ireturn, 1) := dk_172 (dk_at dksX8_takesLot_1 23 rfl rfl)
theorem dX8_takesLot_47 : decode cX8_takesLot 47 = .ok (.iinc 1 1, 3) := dk_132 1 1 (dk_at dksX8_takesLot_2 0 rfl rfl)
theorem dX8_takesLot_50 : decode cX8_takesLot 50 = .ok (.goto (-36), 3) := dk_167 255 220 (dk_at dksX8_takesLot_2 3 rfl rfl)
theorem dX8_takesLot_53 : decode cX8_takesLot 53 = .ok (.iconst 1, 1) := dk_4 (dk_at dksX8_takesLot_2 6 rfl rfl)
theorem dX8_takesLot_54 : decode cX8_takesLot 54 = .ok (.ireturn, 1) := dk_172 (dk_at dksX8_takesLot_2 7 rfl rfl)
abbrev cX8_takesTable : ByteArray := prog_21_method_39_code
def yX8_takesTable : MethodName := ⟨RX8, "takesTable", "(I)Z"⟩
def dkwX8_takesTable_6 : List UInt8 := [4, 172]
abbrev dktX8_takesTable_6 : List UInt8 := dkwX8_takesTable_6 ++ []
def dkwX8_takesTable_5 : List UInt8 := [16, 44, 182, 0, 209, 153, 0, 7, 4, 167, 0, 4, 3, 62, 167, 255, 130, 42, 180, 0, 44, 27, 28, 79]
abbrev dktX8_takesTable_5 : List UInt8 := dkwX8_takesTable_5 ++ dktX8_takesTable_6
def dkwX8_takesTable_4 : List UInt8 := [3, 172, 42, 180, 0, 50, 21, 4, 42, 180, 0, 200, 79, 132, 2, 1, 28, 16, 6, 162, 0, 16, 42]
abbrev dktX8_takesTable_4 : List UInt8 := dkwX8_takesTable_4 ++ dktX8_takesTable_5
def dkwX8_takesTable_3 : List UInt8 := [154, 0, 9, 17, 3, 232, 167, 0, 12, 42, 180, 0, 50, 21, 4, 4, 100, 46, 182, 0, 206, 154, 0, 5]
abbrev dktX8_takesTable_3 : List UInt8 := dkwX8_takesTable_3 ++ dktX8_takesTable_4
def dkwX8_takesTable_2 : List UInt8 := [42, 180, 0, 47, 21, 4, 42, 180, 0, 200, 79, 42, 16, 61, 182, 0, 209, 153, 0, 30, 42, 3, 28]
abbrev dktX8_takesTable_2 : List UInt8 := dkwX8_takesTable_2 ++ dktX8_takesTable_3
def dkwX8_takesTable_1 : List UInt8 := [167, 0, 14, 42, 180, 0, 47, 21, 4, 4, 100, 46, 4, 96, 16, 40, 182, 0, 206, 154, 0, 5, 3, 172]
abbrev dktX8_takesTable_1 : List UInt8 := dkwX8_takesTable_1 ++ dktX8_takesTable_2
def dkwX8_takesTable_0 : List UInt8 := [3, 61, 4, 62, 29, 153, 0, 128, 16, 6, 27, 104, 28, 96, 54, 4, 42, 28, 154, 0, 7, 4]
abbrev dktX8_takesTable_0 : List UInt8 := dkwX8_takesTable_0 ++ dktX8_takesTable_1
theorem dksX8_takesTable_0 : cX8_takesTable.data.toList.drop 0 = dktX8_takesTable_0 := by decide +kernel
theorem dksX8_takesTable_1 : cX8_takesTable.data.toList.drop 22 = dktX8_takesTable_1 := dk_seg dksX8_takesTable_0 22 rfl rfl
theorem dksX8_takesTable_2 : cX8_takesTable.data.toList.drop 46 = dktX8_takesTable_2 := dk_seg dksX8_takesTable_1 24 rfl rfl
theorem dksX8_takesTable_3 : cX8_takesTable.data.toList.drop 69 = dktX8_takesTable_3 := dk_seg dksX8_takesTable_2 23 rfl rfl
theorem dksX8_takesTable_4 : cX8_takesTable.data.toList.drop 93 = dktX8_takesTable_4 := dk_seg dksX8_takesTable_3 24 rfl rfl
theorem dksX8_takesTable_5 : cX8_takesTable.data.toList.drop 116 = dktX8_takesTable_5 := dk_seg dksX8_takesTable_4 23 rfl rfl
theorem dksX8_takesTable_6 : cX8_takesTable.data.toList.drop 140 = dktX8_takesTable_6 := dk_seg dksX8_takesTable_5 24 rfl rfl
theorem dX8_takesTable_0 : decode cX8_takesTable 0 = .ok (.iconst 0, 1) := dk_3 (dk_at dksX8_takesTable_0 0 rfl rfl)
theorem dX8_takesTable_1 : decode cX8_takesTable 1 = .ok (.istore_n 2, 1) := dk_61 (dk_at dksX8_takesTable_0 1 rfl rfl)
theorem dX8_takesTable_2 : decode cX8_takesTable 2 = .ok (.iconst 1, 1) := dk_4 (dk_at dksX8_takesTable_0 2 rfl rfl)
theorem dX8_takesTable_3 : decode cX8_takesTable 3 = .ok (.istore_n 3, 1) := dk_62 (dk_at dksX8_takesTable_0 3 rfl rfl)
theorem dX8_takesTable_4 : decode cX8_takesTable 4 = .ok (.iload_n 3, 1) := dk_29 (dk_at dksX8_takesTable_0 4 rfl rfl)
theorem dX8_takesTable_5 : decode cX8_takesTable 5 = .ok (.ifCond .eq 128, 3) := dk_153 0 128 (dk_at dksX8_takesTable_0 5 rfl rfl)
theorem dX8_takesTable_8 : decode cX8_takesTable 8 = .ok (.bipush 6, 2) := dk_16 6 (dk_at dksX8_takesTable_0 8 rfl rfl)
theorem dX8_takesTable_10 : decode cX8_takesTable 10 = .ok (.iload_n 1, 1) := dk_27 (dk_at dksX8_takesTable_0 10 rfl rfl)
theorem dX8_takesTable_11 : decode cX8_takesTable 11 = .ok (.imul, 1) := dk_104 (dk_at dksX8_takesTable_0 11 rfl rfl)
theorem dX8_takesTable_12 : decode cX8_takesTable 12 = .ok (.iload_n 2, 1) := dk_28 (dk_at dksX8_takesTable_0 12 rfl rfl)
theorem dX8_takesTable_13 : decode cX8_takesTable 13 = .ok (.iadd, 1) := dk_96 (dk_at dksX8_takesTable_0 13 rfl rfl)
theorem dX8_takesTable_14 : decode cX8_takesTable 14 = .ok (.istore 4, 2) := dk_54 4 (dk_at dksX8_takesTable_0 14 rfl rfl)
theorem dX8_takesTable_16 : decode cX8_takesTable 16 = .ok (.aload_n 0, 1) := dk_42 (dk_at dksX8_takesTable_0 16 rfl rfl)
theorem dX8_takesTable_17 : decode cX8_takesTable 17 = .ok (.iload_n 2, 1) := dk_28 (dk_at dksX8_takesTable_0 17 rfl rfl)
theorem dX8_takesTable_18 : decode cX8_takesTable 18 = .ok (.ifCond .ne 7, 3) := dk_154 0 7 (dk_at dksX8_takesTable_0 18 rfl rfl)
theorem dX8_takesTable_21 : decode cX8_takesTable 21 = .ok (.iconst 1, 1) := dk_4 (dk_at dksX8_takesTable_0 21 rfl rfl)
theorem dX8_takesTable_22 : decode cX8_takesTable 22 = .ok (.goto 14, 3) := dk_167 0 14 (dk_at dksX8_takesTable_1 0 rfl rfl)
theorem dX8_takesTable_25 : decode cX8_takesTable 25 = .ok (.aload_n 0, 1) := dk_42 (dk_at dksX8_takesTable_1 3 rfl rfl)
theorem dX8_takesTable_26 : decode cX8_takesTable 26 = .ok (.getfield 47, 3) := dk_180 0 47 (dk_at dksX8_takesTable_1 4 rfl rfl)
theorem dX8_takesTable_29 : decode cX8_takesTable 29 = .ok (.iload 4, 2) := dk_21 4 (dk_at dksX8_takesTable_1 7 rfl rfl)
theorem dX8_takesTable_31 : decode cX8_takesTable 31 = .ok (.iconst 1, 1) := dk_4 (dk_at dksX8_takesTable_1 9 rfl rfl)
theorem dX8_takesTable_32 : decode cX8_takesTable 32 = .ok (.isub, 1) := dk_100 (dk_at dksX8_takesTable_1 10 rfl rfl)
theorem dX8_takesTable_33 : decode cX8_takesTable 33 = .ok (.iaload, 1) := dk_46 (dk_at dksX8_takesTable_1 11 rfl rfl)
theorem dX8_takesTable_34 : decode cX8_takesTable 34 = .ok (.iconst 1, 1) := dk_4 (dk_at dksX8_takesTable_1 12 rfl rfl)
theorem dX8_takesTable_35 : decode cX8_takesTable 35 = .ok (.iadd, 1) := dk_96 (dk_at dksX8_takesTable_1 13 rfl rfl)
theorem dX8_takesTable_36 : decode cX8_takesTable 36 = .ok (.bipush 40, 2) := dk_16 40 (dk_at dksX8_takesTable_1 14 rfl rfl)
theorem dX8_takesTable_38 : decode cX8_takesTable 38 = .ok (.invokevirtual 206, 3) := dk_182 0 206 (dk_at dksX8_takesTable_1 16 rfl rfl)
theorem dX8_takesTable_41 : decode cX8_takesTable 41 = .ok (.ifCond .ne 5, 3) := dk_154 0 5 (dk_at dksX8_takesTable_1 19 rfl rfl)
theorem dX8_takesTable_44 : decode cX8_takesTable 44 = .ok (.iconst 0, 1) := dk_3 (dk_at dksX8_takesTable_1 22 rfl rfl)
theorem dX8_takesTable_45 : decode cX8_takesTable 45 = .ok (.ireturn, 1) := dk_172 (dk_at dksX8_takesTable_1 23 rfl rfl)
theorem dX8_takesTable_46 : decode cX8_takesTable 46 = .ok (.aload_n 0, 1) := dk_42 (dk_at dksX8_takesTable_2 0 rfl rfl)
theorem dX8_takesTable_47 : decode cX8_takesTable 47 = .ok (.getfield 47, 3) := dk_180 0 47 (dk_at dksX8_takesTable_2 1 rfl rfl)
theorem dX8_takesTable_50 : decode cX8_takesTable 50 = .ok (.iload 4, 2) := dk_21 4 (dk_at dksX8_takesTable_2 4 rfl rfl)
theorem dX8_takesTable_52 : decode cX8_takesTable 52 = .ok (.aload_n 0, 1) := dk_42 (dk_at dksX8_takesTable_2 6 rfl rfl)
theorem dX8_takesTable_53 : decode cX8_takesTable 53 = .ok (.getfield 200, 3) := dk_180 0 200 (dk_at dksX8_takesTable_2 7 rfl rfl)
theorem dX8_takesTable_56 : decode cX8_takesTable 56 = .ok (.iastore, 1) := dk_79 (dk_at dksX8_takesTable_2 10 rfl rfl)
theorem dX8_takesTable_57 : decode cX8_takesTable 57 = .ok (.aload_n 0, 1) := dk_42 (dk_at dksX8_takesTable_2 11 rfl rfl)
theorem dX8_takesTable_58 : decode cX8_takesTable 58 = .ok (.bipush 61, 2) := dk_16 61 (dk_at dksX8_takesTable_2 12 rfl rfl)
theorem dX8_takesTable_60 : decode cX8_takesTable 60 = .ok (.invokevirtual 209, 3) := dk_182 0 209 (dk_at dksX8_takesTable_2 14 rfl rfl)
theorem dX8_takesTable_63 : decode cX8_takesTable 63 = .ok (.ifCond .eq 30, 3) := dk_153 0 30 (dk_at dksX8_takesTable_2 17 rfl rfl)
theorem dX8_takesTable_66 : decode cX8_takesTable 66 = .ok (.aload_n 0, 1) := dk_42 (dk_at dksX8_takesTable_2 20 rfl rfl)
theorem dX8_takesTable_67 : decode cX8_takesTable 67 = .ok (.iconst 0, 1) := dk_3 (dk_at dksX8_takesTable_2 21 rfl rfl)
theorem dX8_takesTable_68 : decode cX8_takesTable 68 = .ok (.iload_n 2, 1) := dk_28 (dk_at dksX8_takesTable_2 22 rfl rfl)
theorem dX8_takesTable_69 : decode cX8_takesTable 69 = .ok (.ifCond .ne 9, 3) := dk_154 0 9 (dk_at dksX8_takesTable_3 0 rfl rfl)
theorem dX8_takesTable_72 : decode cX8_takesTable 72 = .ok (.sipush 1000, 3) := dk_17 3 232 (dk_at dksX8_takesTable_3 3 rfl rfl)
theorem dX8_takesTable_75 : decode cX8_takesTable 75 = .ok (.goto 12, 3) := dk_167 0 12 (dk_at dksX8_takesTable_3 6 rfl rfl)
theorem dX8_takesTable_78 : decode cX8_takesTable 78 = .ok (.aload_n 0, 1) := dk_42 (dk_at dksX8_takesTable_3 9 rfl rfl)
theorem dX8_takesTable_79 : decode cX8_takesTable 79 = .ok (.getfield 50, 3) := dk_180 0 50 (dk_at dksX8_takesTable_3 10 rfl rfl)
theorem dX8_takesTable_82 : decode cX8_takesTable 82 = .ok (.iload 4, 2) := dk_21 4 (dk_at dksX8_takesTable_3 13 rfl rfl)
theorem dX8_takesTable_84 : decode cX8_takesTable 84 = .ok (.iconst 1, 1) := dk_4 (dk_at dksX8_takesTable_3 15 rfl rfl)
theorem dX8_takesTable_85 : decode cX8_takesTable 85 = .ok (.isub, 1) := dk_100 (dk_at dksX8_takesTable_3 16 rfl rfl)
theorem dX8_takesTable_86 : decode cX8_takesTable 86 = .ok (.iaload, 1) := dk_46 (dk_at dksX8_takesTable_3 17 rfl rfl)
theorem dX8_takesTable_87 : decode cX8_takesTable 87 = .ok (.invokevirtual 206, 3) := dk_182 0 206 (dk_at dksX8_takesTable_3 18 rfl rfl)
theorem dX8_takesTable_90 : decode cX8_takesTable 90 = .ok (.ifCond .ne 5, 3) := dk_154 0 5 (dk_at dksX8_takesTable_3 21 rfl rfl)
theorem dX8_takesTable_93 : decode cX8_takesTable 93 = .ok (.iconst 0, 1) := dk_3 (dk_at dksX8_takesTable_4 0 rfl rfl)
theorem dX8_takesTable_94 : decode cX8_takesTable 94 = .ok (.ireturn, 1) := dk_172 (dk_at dksX8_takesTable_4 1 rfl rfl)
theorem dX8_takesTable_95 : decode cX8_takesTable 95 = .ok (.aload_n 0, 1) := dk_42 (dk_at dksX8_takesTable_4 2 rfl rfl)
theorem dX8_takesTable_96 : decode cX8_takesTable 96 = .ok (.getfield 50, 3) := dk_180 0 50 (dk_at dksX8_takesTable_4 3 rfl rfl)
theorem dX8_takesTable_99 : decode cX8_takesTable 99 = .ok (.iload 4, 2) := dk_21 4 (dk_at dksX8_takesTable_4 6 rfl rfl)
theorem dX8_takesTable_101 : decode cX8_takesTable 101 = .ok (.aload_n 0, 1) := dk_42 (dk_at dksX8_takesTable_4 8 rfl rfl)
theorem dX8_takesTable_102 : decode cX8_takesTable 102 = .ok (.getfield 200, 3) := dk_180 0 200 (dk_at dksX8_takesTable_4 9 rfl rfl)
theorem dX8_takesTable_105 : decode cX8_takesTable 105 = .ok (.iastore, 1) := dk_79 (dk_at dksX8_takesTable_4 12 rfl rfl)
theorem dX8_takesTable_106 : decode cX8_takesTable 106 = .ok (.iinc 2 1, 3) := dk_132 2 1 (dk_at dksX8_takesTable_4 13 rfl rfl)
theorem dX8_takesTable_109 : decode cX8_takesTable 109 = .ok (.iload_n 2, 1) := dk_28 (dk_at dksX8_takesTable_4 16 rfl rfl)
theorem dX8_takesTable_110 : decode cX8_takesTable 110 = .ok (.bipush 6, 2) := dk_16 6 (dk_at dksX8_takesTable_4 17 rfl rfl)
theorem dX8_takesTable_112 : decode cX8_takesTable 112 = .ok (.if_icmp .ge 16, 3) := dk_162 0 16 (dk_at dksX8_takesTable_4 19 rfl rfl)
theorem dX8_takesTable_115 : decode cX8_takesTable 115 = .ok (.aload_n 0, 1) := dk_42 (dk_at dksX8_takesTable_4 22 rfl rfl)
theorem dX8_takesTable_116 : decode cX8_takesTable 116 = .ok (.bipush 44, 2) := dk_16 44 (dk_at dksX8_takesTable_5 0 rfl rfl)
theorem dX8_takesTable_118 : decode cX8_takesTable 118 = .ok (.invokevirtual 209, 3) := dk_182 0 209 (dk_at dksX8_takesTable_5 2 rfl rfl)
theorem dX8_takesTable_121 : decode cX8_takesTable 121 = .ok (.ifCond .eq 7, 3) := dk_153 0 7 (dk_at dksX8_takesTable_5 5 rfl rfl)
theorem dX8_takesTable_124 : decode cX8_takesTable 124 = .ok (.iconst 1, 1) := dk_4 (dk_at dksX8_takesTable_5 8 rfl rfl)
theorem dX8_takesTable_125 : decode cX8_takesTable 125 = .ok (.goto 4, 3) := dk_167 0 4 (dk_at dksX8_takesTable_5 9 rfl rfl)
theorem dX8_takesTable_128 : decode cX8_takesTable 128 = .ok (.iconst 0, 1) := dk_3 (dk_at dksX8_takesTable_5 12 rfl rfl)
theorem dX8_takesTable_129 : decode cX8_takesTable 129 = .ok (.istore_n 3, 1) := dk_62 (dk_at dksX8_takesTable_5 13 rfl rfl)
theorem dX8_takesTable_130 : decode cX8_takesTable 130 = .ok (.goto (-126), 3) := dk_167 255 130 (dk_at dksX8_takesTable_5 14 rfl rfl)
theorem dX8_takesTable_133 : decode cX8_takesTable 133 = .ok (.aload_n 0, 1) := dk_42 (dk_at dksX8_takesTable_5 17 rfl rfl)
theorem dX8_takesTable_134 : decode cX8_takesTable 134 = .ok (.getfield 44, 3) := dk_180 0 44 (dk_at dksX8_takesTable_5 18 rfl rfl)
theorem dX8_takesTable_137 : decode cX8_takesTable 137 = .ok (.iload_n 1, 1) := dk_27 (dk_at dksX8_takesTable_5 21 rfl rfl)
theorem dX8_takesTable_138 : decode cX8_takesTable 138 = .ok (.iload_n 2, 1) := dk_28 (dk_at dksX8_takesTable_5 22 rfl rfl)
theorem dX8_takesTable_139 : decode cX8_takesTable 139 = .ok (.iastore, 1) := dk_79 (dk_at dksX8_takesTable_5 23 rfl rfl)
theorem dX8_takesTable_140 : decode cX8_takesTable 140 = .ok (.iconst 1, 1) := dk_4 (dk_at dksX8_takesTable_6 0 rfl rfl)
theorem dX8_takesTable_141 : decode cX8_takesTable 141 = .ok (.ireturn, 1) := dk_172 (dk_at dksX8_takesTable_6 1 rfl rfl)
abbrev cX8_takesPlan : ByteArray := prog_21_method_40_code
def yX8_takesPlan : MethodName := ⟨RX8, "takesPlan", "(I)Z"⟩
def dkwX8_takesPlan_4 : List UInt8 := [6, 27, 104, 5, 96, 42, 180, 0, 200, 79, 4, 172]
abbrev dktX8_takesPlan_4 : List UInt8 := dkwX8_takesPlan_4 ++ []
def dkwX8_takesPlan_3 : List UInt8 := [16, 43, 182, 0, 209, 153, 0, 13, 42, 3, 16, 9, 182, 0, 206, 154, 0, 5, 3, 172, 42, 180, 0, 53]
abbrev dktX8_takesPlan_3 : List UInt8 := dkwX8_takesPlan_3 ++ dktX8_takesPlan_4
def dkwX8_takesPlan_2 : List UInt8 := [182, 0, 206, 154, 0, 5, 3, 172, 42, 180, 0, 53, 6, 27, 104, 4, 96, 42, 180, 0, 200, 79, 42]
abbrev dktX8_takesPlan_2 : List UInt8 := dkwX8_takesPlan_2 ++ dktX8_takesPlan_3
def dkwX8_takesPlan_1 : List UInt8 := [180, 0, 53, 6, 27, 104, 42, 180, 0, 200, 79, 42, 16, 43, 182, 0, 209, 153, 0, 13, 42, 4, 16, 9]
abbrev dktX8_takesPlan_1 : List UInt8 := dkwX8_takesPlan_1 ++ dktX8_takesPlan_2
def dkwX8_takesPlan_0 : List UInt8 := [42, 16, 47, 182, 0, 209, 153, 0, 13, 42, 4, 16, 40, 182, 0, 206, 154, 0, 5, 3, 172, 42]
abbrev dktX8_takesPlan_0 : List UInt8 := dkwX8_takesPlan_0 ++ dktX8_takesPlan_1
theorem dksX8_takesPlan_0 : cX8_takesPlan.data.toList.drop 0 = dktX8_takesPlan_0 := by decide +kernel
theorem dksX8_takesPlan_1 : cX8_takesPlan.data.toList.drop 22 = dktX8_takesPlan_1 := dk_seg dksX8_takesPlan_0 22 rfl rfl
theorem dksX8_takesPlan_2 : cX8_takesPlan.data.toList.drop 46 = dktX8_takesPlan_2 := dk_seg dksX8_takesPlan_1 24 rfl rfl
theorem dksX8_takesPlan_3 : cX8_takesPlan.data.toList.drop 69 = dktX8_takesPlan_3 := dk_seg dksX8_takesPlan_2 23 rfl rfl
theorem dksX8_takesPlan_4 : cX8_takesPlan.data.toList.drop 93 = dktX8_takesPlan_4 := dk_seg dksX8_takesPlan_3 24 rfl rfl
theorem dX8_takesPlan_0 : decode cX8_takesPlan 0 = .ok (.aload_n 0, 1) := dk_42 (dk_at dksX8_takesPlan_0 0 rfl rfl)
theorem dX8_takesPlan_1 : decode cX8_takesPlan 1 = .ok (.bipush 47, 2) := dk_16 47 (dk_at dksX8_takesPlan_0 1 rfl rfl)
theorem dX8_takesPlan_3 : decode cX8_takesPlan 3 = .ok (.invokevirtual 209, 3) := dk_182 0 209 (dk_at dksX8_takesPlan_0 3 rfl rfl)
theorem dX8_takesPlan_6 : decode cX8_takesPlan 6 = .ok (.ifCond .eq 13, 3) := dk_153 0 13 (dk_at dksX8_takesPlan_0 6 rfl rfl)
theorem dX8_takesPlan_9 : decode cX8_takesPlan 9 = .ok (.aload_n 0, 1) := dk_42 (dk_at dksX8_takesPlan_0 9 rfl rfl)
theorem dX8_takesPlan_10 : decode cX8_takesPlan 10 = .ok (.iconst 1, 1) := dk_4 (dk_at dksX8_takesPlan_0 10 rfl rfl)
theorem dX8_takesPlan_11 : decode cX8_takesPlan 11 = .ok (.bipush 40, 2) := dk_16 40 (dk_at dksX8_takesPlan_0 11 rfl rfl)
theorem dX8_takesPlan_13 : decode cX8_takesPlan 13 = .ok (.invokevirtual 206, 3) := dk_182 0 206 (dk_at dksX8_takesPlan_0 13 rfl rfl)
theorem dX8_takesPlan_16 : decode cX8_takesPlan 16 = .ok (.ifCond .ne 5, 3) := dk_154 0 5 (dk_at dksX8_takesPlan_0 16 rfl rfl)
theorem dX8_takesPlan_19 : decode cX8_takesPlan 19 = .ok (.iconst 0, 1) := dk_3 (dk_at dksX8_takesPlan_0 19 rfl rfl)
theorem dX8_takesPlan_20 : decode cX8_takesPlan 20 = .ok (.ireturn, 1) := dk_172 (dk_at dksX8_takesPlan_0 20 rfl rfl)
theorem dX8_takesPlan_21 : decode cX8_takesPlan 21 = .ok (.aload_n 0, 1) := dk_42 (dk_at dksX8_takesPlan_0 21 rfl rfl)
theorem dX8_takesPlan_22 : decode cX8_takesPlan 22 = .ok (.getfield 53, 3) := dk_180 0 53 (dk_at dksX8_takesPlan_1 0 rfl rfl)
theorem dX8_takesPlan_25 : decode cX8_takesPlan 25 = .ok (.iconst 3, 1) := dk_6 (dk_at dksX8_takesPlan_1 3 rfl rfl)
theorem dX8_takesPlan_26 : decode cX8_takesPlan 26 = .ok (.iload_n 1, 1) := dk_27 (dk_at dksX8_takesPlan_1 4 rfl rfl)
theorem dX8_takesPlan_27 : decode cX8_takesPlan 27 = .ok (.imul, 1) := dk_104 (dk_at dksX8_takesPlan_1 5 rfl rfl)
theorem dX8_takesPlan_28 : decode cX8_takesPlan 28 = .ok (.aload_n 0, 1) := dk_42 (dk_at dksX8_takesPlan_1 6 rfl rfl)
theorem dX8_takesPlan_29 : decode cX8_takesPlan 29 = .ok (.getfield 200, 3) := dk_180 0 200 (dk_at dksX8_takesPlan_1 7 rfl rfl)
theorem dX8_takesPlan_32 : decode cX8_takesPlan 32 = .ok (.iastore, 1) := dk_79 (dk_at dksX8_takesPlan_1 10 rfl rfl)
theorem dX8_takesPlan_33 : decode cX8_takesPlan 33 = .ok (.aload_n 0, 1) := dk_42 (dk_at dksX8_takesPlan_1 11 rfl rfl)
theorem dX8_takesPlan_34 : decode cX8_takesPlan 34 = .ok (.bipush 43, 2) := dk_16 43 (dk_at dksX8_takesPlan_1 12 rfl rfl)
theorem dX8_takesPlan_36 : decode cX8_takesPlan 36 = .ok (.invokevirtual 209, 3) := dk_182 0 209 (dk_at dksX8_takesPlan_1 14 rfl rfl)
theorem dX8_takesPlan_39 : decode cX8_takesPlan 39 = .ok (.ifCond .eq 13, 3) := dk_153 0 13 (dk_at dksX8_takesPlan_1 17 rfl rfl)
theorem dX8_takesPlan_42 : decode cX8_takesPlan 42 = .ok (.aload_n 0, 1) := dk_42 (dk_at dksX8_takesPlan_1 20 rfl rfl)
theorem dX8_takesPlan_43 : decode cX8_takesPlan 43 = .ok (.iconst 1, 1) := dk_4 (dk_at dksX8_takesPlan_1 21 rfl rfl)
theorem dX8_takesPlan_44 : decode cX8_takesPlan 44 = .ok (.bipush 9, 2) := dk_16 9 (dk_at dksX8_takesPlan_1 22 rfl rfl)
theorem dX8_takesPlan_46 : decode cX8_takesPlan 46 = .ok (.invokevirtual 206, 3) := dk_182 0 206 (dk_at dksX8_takesPlan_2 0 rfl rfl)
theorem dX8_takesPlan_49 : decode cX8_takesPlan 49 = .ok (.ifCond .ne 5, 3) := dk_154 0 5 (dk_at dksX8_takesPlan_2 3 rfl rfl)
theorem dX8_takesPlan_52 : decode cX8_takesPlan 52 = .ok (.iconst 0, 1) := dk_3 (dk_at dksX8_takesPlan_2 6 rfl rfl)
theorem dX8_takesPlan_53 : decode cX8_takesPlan 53 = .ok (.ireturn, 1) := dk_172 (dk_at dksX8_takesPlan_2 7 rfl rfl)
theorem dX8_takesPlan_54 : decode cX8_takesPlan 54 = .ok (.aload_n 0, 1) := dk_42 (dk_at dksX8_takesPlan_2 8 rfl rfl)
theorem dX8_takesPlan_55 : decode cX8_takesPlan 55 = .ok (.getfield 53, 3) := dk_180 0 53 (dk_at dksX8_takesPlan_2 9 rfl rfl)
theorem dX8_takesPlan_58 : decode cX8_takesPlan 58 = .ok (.iconst 3, 1) := dk_6 (dk_at dksX8_takesPlan_2 12 rfl rfl)
theorem dX8_takesPlan_59 : decode cX8_takesPlan 59 = .ok (.iload_n 1, 1) := dk_27 (dk_at dksX8_takesPlan_2 13 rfl rfl)
theorem dX8_takesPlan_60 : decode cX8_takesPlan 60 = .ok (.imul, 1) := dk_104 (dk_at dksX8_takesPlan_2 14 rfl rfl)
theorem dX8_takesPlan_61 : decode cX8_takesPlan 61 = .ok (.iconst 1, 1) := dk_4 (dk_at dksX8_takesPlan_2 15 rfl rfl)
theorem dX8_takesPlan_62 : decode cX8_takesPlan 62 = .ok (.iadd, 1) := dk_96 (dk_at dksX8_takesPlan_2 16 rfl rfl)
theorem dX8_takesPlan_63 : decode cX8_takesPlan 63 = .ok (.aload_n 0, 1) := dk_42 (dk_at dksX8_takesPlan_2 17 rfl rfl)
theorem dX8_takesPlan_64 : decode cX8_takesPlan 64 = .ok (.getfield 200, 3) := dk_180 0 200 (dk_at dksX8_takesPlan_2 18 rfl rfl)
theorem dX8_takesPlan_67 : decode cX8_takesPlan 67 = .ok (.iastore, 1) := dk_79 (dk_at dksX8_takesPlan_2 21 rfl rfl)
theorem dX8_takesPlan_68 : decode cX8_takesPlan 68 = .ok (.aload_n 0, 1) := dk_42 (dk_at dksX8_takesPlan_2 22 rfl rfl)
theorem dX8_takesPlan_69 : decode cX8_takesPlan 69 = .ok (.bipush 43, 2) := dk_16 43 (dk_at dksX8_takesPlan_3 0 rfl rfl)
theorem dX8_takesPlan_71 : decode cX8_takesPlan 71 = .ok (.invokevirtual 209, 3) := dk_182 0 209 (dk_at dksX8_takesPlan_3 2 rfl rfl)
theorem dX8_takesPlan_74 : decode cX8_takesPlan 74 = .ok (.ifCond .eq 13, 3) := dk_153 0 13 (dk_at dksX8_takesPlan_3 5 rfl rfl)
theorem dX8_takesPlan_77 : decode cX8_takesPlan 77 = .ok (.aload_n 0, 1) := dk_42 (dk_at dksX8_takesPlan_3 8 rfl rfl)
theorem dX8_takesPlan_78 : decode cX8_takesPlan 78 = .ok (.iconst 0, 1) := dk_3 (dk_at dksX8_takesPlan_3 9 rfl rfl)
theorem dX8_takesPlan_79 : decode cX8_takesPlan 79 = .ok (.bipush 9, 2) := dk_16 9 (dk_at dksX8_takesPlan_3 10 rfl rfl)
theorem dX8_takesPlan_81 : decode cX8_takesPlan 81 = .ok (.invokevirtual 206, 3) := dk_182 0 206 (dk_at dksX8_takesPlan_3 12 rfl rfl)
theorem dX8_takesPlan_84 : decode cX8_takesPlan 84 = .ok (.ifCond .ne 5, 3) := dk_154 0 5 (dk_at dksX8_takesPlan_3 15 rfl rfl)
theorem dX8_takesPlan_87 : decode cX8_takesPlan 87 = .ok (.iconst 0, 1) := dk_3 (dk_at dksX8_takesPlan_3 18 rfl rfl)
theorem dX8_takesPlan_88 : decode cX8_takesPlan 88 = .ok (.ireturn, 1) := dk_172 (dk_at dksX8_takesPlan_3 19 rfl rfl)
theorem dX8_takesPlan_89 : decode cX8_takesPlan 89 = .ok (.aload_n 0, 1) := dk_42 (dk_at dksX8_takesPlan_3 20 rfl rfl)
theorem dX8_takesPlan_90 : decode cX8_takesPlan 90 = .ok (.getfield 53, 3) := dk_180 0 53 (dk_at dksX8_takesPlan_3 21 rfl rfl)
theorem dX8_takesPlan_93 : decode cX8_takesPlan 93 = .ok (.iconst 3, 1) := dk_6 (dk_at dksX8_takesPlan_4 0 rfl rfl)
theorem dX8_takesPlan_94 : decode cX8_takesPlan 94 = .ok (.iload_n 1, 1) := dk_27 (dk_at dksX8_takesPlan_4 1 rfl rfl)
theorem dX8_takesPlan_95 : decode cX8_takesPlan 95 = .ok (.imul, 1) := dk_104 (dk_at dksX8_takesPlan_4 2 rfl rfl)
theorem dX8_takesPlan_96 : decode cX8_takesPlan 96 = .ok (.iconst 2, 1) := dk_5 (dk_at dksX8_takesPlan_4 3 rfl rfl)
theorem dX8_takesPlan_97 : decode cX8_takesPlan 97 = .ok (.iadd, 1) := dk_96 (dk_at dksX8_takesPlan_4 4 rfl rfl)
theorem dX8_takesPlan_98 : decode cX8_takesPlan 98 = .ok (.aload_n 0, 1) := dk_42 (dk_at dksX8_takesPlan_4 5 rfl rfl)
theorem dX8_takesPlan_99 : decode cX8_takesPlan 99 = .ok (.getfield 200, 3) := dk_180 0 200 (dk_at dksX8_takesPlan_4 6 rfl rfl)
theorem dX8_takesPlan_102 : decode cX8_takesPlan 102 = .ok (.iastore, 1) := dk_79 (dk_at dksX8_takesPlan_4 9 rfl rfl)
theorem dX8_takesPlan_103 : decode cX8_takesPlan 103 = .ok (.iconst 1, 1) := dk_4 (dk_at dksX8_takesPlan_4 10 rfl rfl)
theorem dX8_takesPlan_104 : decode cX8_takesPlan 104 = .ok (.ireturn, 1) := dk_172 (dk_at dksX8_takesPlan_4 11 rfl rfl)
abbrev cX8_meetBegins : ByteArray := prog_21_method_18_code
def yX8_meetBegins : MethodName := ⟨RX8, "meetBegins", "()V"⟩
def dkwX8_meetBegins_1 : List UInt8 := [42, 3, 181, 0, 131, 42, 3, 181, 0, 134, 42, 182, 0, 137, 177]
abbrev dktX8_meetBegins_1 : List UInt8 := dkwX8_meetBegins_1 ++ []
def dkwX8_meetBegins_0 : List UInt8 := [3, 60, 27, 42, 180, 0, 32, 190, 162, 0, 16, 42, 180, 0, 32, 27, 3, 79, 132, 1, 1, 167, 255, 237]
abbrev dktX8_meetBegins_0 : List UInt8 := dkwX8_meetBegins_0 ++ dktX8_meetBegins_1
theorem dksX8_meetBegins_0 : cX8_meetBegins.data.toList.drop 0 = dktX8_meetBegins_0 := by decide +kernel
theorem dksX8_meetBegins_1 : cX8_meetBegins.data.toList.drop 24 = dktX8_meetBegins_1 := dk_seg dksX8_meetBegins_0 24 rfl rfl
theorem dX8_meetBegins_0 : decode cX8_meetBegins 0 = .ok (.iconst 0, 1) := dk_3 (dk_at dksX8_meetBegins_0 0 rfl rfl)
theorem dX8_meetBegins_1 : decode cX8_meetBegins 1 = .ok (.istore_n 1, 1) := dk_60 (dk_at dksX8_meetBegins_0 1 rfl rfl)
theorem dX8_meetBegins_2 : decode cX8_meetBegins 2 = .ok (.iload_n 1, 1) := dk_27 (dk_at dksX8_meetBegins_0 2 rfl rfl)
theorem dX8_meetBegins_3 : decode cX8_meetBegins 3 = .ok (.aload_n 0, 1) := dk_42 (dk_at dksX8_meetBegins_0 3 rfl rfl)
theorem dX8_meetBegins_4 : decode cX8_meetBegins 4 = .ok (.getfield 32, 3) := dk_180 0 32 (dk_at dksX8_meetBegins_0 4 rfl rfl)
theorem dX8_meetBegins_7 : decode cX8_meetBegins 7 = .ok (.arraylength, 1) := dk_190 (dk_at dksX8_meetBegins_0 7 rfl rfl)
theorem dX8_meetBegins_8 : decode cX8_meetBegins 8 = .ok (.if_icmp .ge 16, 3) := dk_162 0 16 (dk_at dksX8_meetBegins_0 8 rfl rfl)
theorem dX8_meetBegins_11 : decode cX8_meetBegins 11 = .ok (.aload_n 0, 1) := dk_42 (dk_at dksX8_meetBegins_0 11 rfl rfl)
theorem dX8_meetBegins_12 : decode cX8_meetBegins 12 = .ok (.getfield 32, 3) := dk_180 0 32 (dk_at dksX8_meetBegins_0 12 rfl rfl)
theorem dX8_meetBegins_15 : decode cX8_meetBegins 15 = .ok (.iload_n 1, 1) := dk_27 (dk_at dksX8_meetBegins_0 15 rfl rfl)
theorem dX8_meetBegins_16 : decode cX8_meetBegins 16 = .ok (.iconst 0, 1) := dk_3 (dk_at dksX8_meetBegins_0 16 rfl rfl)
theorem dX8_meetBegins_17 : decode cX8_meetBegins 17 = .ok (.iastore, 1) := dk_79 (dk_at dksX8_meetBegins_0 17 rfl rfl)
theorem dX8_meetBegins_18 : decode cX8_meetBegins 18 = .ok (.iinc 1 1, 3) := dk_132 1 1 (dk_at dksX8_meetBegins_0 18 rfl rfl)
theorem dX8_meetBegins_21 : decode cX8_meetBegins 21 = .ok (.goto (-19), 3) := dk_167 255 237 (dk_at dksX8_meetBegins_0 21 rfl rfl)
theorem dX8_meetBegins_24 : decode cX8_meetBegins 24 = .ok (.aload_n 0, 1) := dk_42 (dk_at dksX8_meetBegins_1 0 rfl rfl)
theorem dX8_meetBegins_25 : decode cX8_meetBegins 25 = .ok (.iconst 0, 1) := dk_3 (dk_at dksX8_meetBegins_1 1 rfl rfl)
theorem dX8_meetBegins_26 : decode cX8_meetBegins 26 = .ok (.putfield 131, 3) := dk_181 0 131 (dk_at dksX8_meetBegins_1 2 rfl rfl)
theorem dX8_meetBegins_29 : decode cX8_meetBegins 29 = .ok (.aload_n 0, 1) := dk_42 (dk_at dksX8_meetBegins_1 5 rfl rfl)
theorem dX8_meetBegins_30 : decode cX8_meetBegins 30 = .ok (.iconst 0, 1) := dk_3 (dk_at dksX8_meetBegins_1 6 rfl rfl)
theorem dX8_meetBegins_31 : decode cX8_meetBegins 31 = .ok (.putfield 134, 3) := dk_181 0 134 (dk_at dksX8_meetBegins_1 7 rfl rfl)
theorem dX8_meetBegins_34 : decode cX8_meetBegins 34 = .ok (.aload_n 0, 1) := dk_42 (dk_at dksX8_meetBegins_1 10 rfl rfl)
theorem dX8_meetBegins_35 : decode cX8_meetBegins 35 = .ok (.invokevirtual 137, 3) := dk_182 0 137 (dk_at dksX8_meetBegins_1 11 rfl rfl)
theorem dX8_meetBegins_38 : decode cX8_meetBegins 38 = .ok (.return_, 1) := dk_177 (dk_at dksX8_meetBegins_1 14 rfl rfl)
abbrev cX8_liftBegins : ByteArray := prog_21_method_17_code
def yX8_liftBegins : MethodName := ⟨RX8, "liftBegins", "()V"⟩
def dkwX8_liftBegins_3 : List UInt8 := [182, 0, 109, 132, 1, 1, 167, 255, 187, 42, 182, 0, 128, 177]
abbrev dktX8_liftBegins_3 : List UInt8 := dkwX8_liftBegins_3 ++ []
def dkwX8_liftBegins_2 : List UInt8 := [182, 0, 125, 182, 0, 109, 42, 27, 5, 3, 182, 0, 109, 42, 27, 6, 3, 182, 0, 109, 42, 27, 7, 3]
abbrev dktX8_liftBegins_2 : List UInt8 := dkwX8_liftBegins_2 ++ dktX8_liftBegins_3
def dkwX8_liftBegins_1 : List UInt8 := [154, 0, 11, 42, 27, 182, 0, 121, 153, 0, 7, 3, 167, 0, 15, 42, 27, 42, 180, 0, 32, 3, 46, 3]
abbrev dktX8_liftBegins_1 : List UInt8 := dkwX8_liftBegins_1 ++ dktX8_liftBegins_2
def dkwX8_liftBegins_0 : List UInt8 := [42, 180, 0, 32, 4, 3, 79, 3, 60, 27, 42, 180, 0, 84, 162, 0, 67, 42, 27, 3, 42, 182, 0, 113]
abbrev dktX8_liftBegins_0 : List UInt8 := dkwX8_liftBegins_0 ++ dktX8_liftBegins_1
theorem dksX8_liftBegins_0 : cX8_liftBegins.data.toList.drop 0 = dktX8_liftBegins_0 := by decide +kernel
theorem dksX8_liftBegins_1 : cX8_liftBegins.data.toList.drop 24 = dktX8_liftBegins_1 := dk_seg dksX8_liftBegins_0 24 rfl rfl
theorem dksX8_liftBegins_2 : cX8_liftBegins.data.toList.drop 48 = dktX8_liftBegins_2 := dk_seg dksX8_liftBegins_1 24 rfl rfl
theorem dksX8_liftBegins_3 : cX8_liftBegins.data.toList.drop 72 = dktX8_liftBegins_3 := dk_seg dksX8_liftBegins_2 24 rfl rfl
theorem dX8_liftBegins_0 : decode cX8_liftBegins 0 = .ok (.aload_n 0, 1) := dk_42 (dk_at dksX8_liftBegins_0 0 rfl rfl)
theorem dX8_liftBegins_1 : decode cX8_liftBegins 1 = .ok (.getfield 32, 3) := dk_180 0 32 (dk_at dksX8_liftBegins_0 1 rfl rfl)
theorem dX8_liftBegins_4 : decode cX8_liftBegins 4 = .ok (.iconst 1, 1) := dk_4 (dk_at dksX8_liftBegins_0 4 rfl rfl)
theorem dX8_liftBegins_5 : decode cX8_liftBegins 5 = .ok (.iconst 0, 1) := dk_3 (dk_at dksX8_liftBegins_0 5 rfl rfl)
theorem dX8_liftBegins_6 : decode cX8_liftBegins 6 = .ok (.iastore, 1) := dk_79 (dk_at dksX8_liftBegins_0 6 rfl rfl)
theorem dX8_liftBegins_7 : decode cX8_liftBegins 7 = .ok (.iconst 0, 1) := dk_3 (dk_at dksX8_liftBegins_0 7 rfl rfl)
theorem dX8_liftBegins_8 : decode cX8_liftBegins 8 = .ok (.istore_n 1, 1) := dk_60 (dk_at dksX8_liftBegins_0 8 rfl rfl)
theorem dX8_liftBegins_9 : decode cX8_liftBegins 9 = .ok (.iload_n 1, 1) := dk_27 (dk_at dksX8_liftBegins_0 9 rfl rfl)
theorem dX8_liftBegins_10 : decode cX8_liftBegins 10 = .ok (.aload_n 0, 1) := dk_42 (dk_at dksX8_liftBegins_0 10 rfl rfl)
theorem dX8_liftBegins_11 : decode cX8_liftBegins 11 = .ok (.getfield 84, 3) := dk_180 0 84 (dk_at dksX8_liftBegins_0 11 rfl rfl)
theorem dX8_liftBegins_14 : decode cX8_liftBegins 14 = .ok (.if_icmp .ge 67, 3) := dk_162 0 67 (dk_at dksX8_liftBegins_0 14 rfl rfl)
theorem dX8_liftBegins_17 : decode cX8_liftBegins 17 = .ok (.aload_n 0, 1) := dk_42 (dk_at dksX8_liftBegins_0 17 rfl rfl)
theorem dX8_liftBegins_18 : decode cX8_liftBegins 18 = .ok (.iload_n 1, 1) := dk_27 (dk_at dksX8_liftBegins_0 18 rfl rfl)
theorem dX8_liftBegins_19 : decode cX8_liftBegins 19 = .ok (.iconst 0, 1) := dk_3 (dk_at dksX8_liftBegins_0 19 rfl rfl)
theorem dX8_liftBegins_20 : decode cX8_liftBegins 20 = .ok (.aload_n 0, 1) := dk_42 (dk_at dksX8_liftBegins_0 20 rfl rfl)
theorem dX8_liftBegins_21 : decode cX8_liftBegins 21 = .ok (.invokevirtual 113, 3) := dk_182 0 113 (dk_at dksX8_liftBegins_0 21 rfl rfl)
theorem dX8_liftBegins_24 : decode cX8_liftBegins 24 = .ok (.ifCond .ne 11, 3) := dk_154 0 11 (dk_at dksX8_liftBegins_1 0 rfl rfl)
theorem dX8_liftBegins_27 : decode cX8_liftBegins 27 = .ok (.aload_n 0, 1) := dk_42 (dk_at dksX8_liftBegins_1 3 rfl rfl)
theorem dX8_liftBegins_28 : decode cX8_liftBegins 28 = .ok (.iload_n 1, 1) := dk_27 (dk_at dksX8_liftBegins_1 4 rfl rfl)
theorem dX8_liftBegins_29 : decode cX8_liftBegins 29 = .ok (.invokevirtual 121, 3) := dk_182 0 121 (dk_at dksX8_liftBegins_1 5 rfl rfl)
theorem dX8_liftBegins_32 : decode cX8_liftBegins 32 = .ok (.ifCond .eq 7, 3) := dk_153 0 7 (dk_at dksX8_liftBegins_1 8 rfl rfl)
theorem dX8_liftBegins_35 : decode cX8_liftBegins 35 = .ok (.iconst 0, 1) := dk_3 (dk_at dksX8_liftBegins_1 11 rfl rfl)
theorem dX8_liftBegins_36 : decode cX8_liftBegins 36 = .ok (.goto 15, 3) := dk_167 0 15 (dk_at dksX8_liftBegins_1 12 rfl rfl)
theorem dX8_liftBegins_39 : decode cX8_liftBegins 39 = .ok (.aload_n 0, 1) := dk_42 (dk_at dksX8_liftBegins_1 15 rfl rfl)
theorem dX8_liftBegins_40 : decode cX8_liftBegins 40 = .ok (.iload_n 1, 1) := dk_27 (dk_at dksX8_liftBegins_1 16 rfl rfl)
theorem dX8_liftBegins_41 : decode cX8_liftBegins 41 = .ok (.aload_n 0, 1) := dk_42 (dk_at dksX8_liftBegins_1 17 rfl rfl)
theorem dX8_liftBegins_42 : decode cX8_liftBegins 42 = .ok (.getfield 32, 3) := dk_180 0 32 (dk_at dksX8_liftBegins_1 18 rfl rfl)
theorem dX8_liftBegins_45 : decode cX8_liftBegins 45 = .ok (.iconst 0, 1) := dk_3 (dk_at dksX8_liftBegins_1 21 rfl rfl)
theorem dX8_liftBegins_46 : decode cX8_liftBegins 46 = .ok (.iaload, 1) := dk_46 (dk_at dksX8_liftBegins_1 22 rfl rfl)
theorem dX8_liftBegins_47 : decode cX8_liftBegins 47 = .ok (.iconst 0, 1) := dk_3 (dk_at dksX8_liftBegins_1 23 rfl rfl)
theorem dX8_liftBegins_48 : decode cX8_liftBegins 48 = .ok (.invokevirtual 125, 3) := dk_182 0 125 (dk_at dksX8_liftBegins_2 0 rfl rfl)
theorem dX8_liftBegins_51 : decode cX8_liftBegins 51 = .ok (.invokevirtual 109, 3) := dk_182 0 109 (dk_at dksX8_liftBegins_2 3 rfl rfl)
theorem dX8_liftBegins_54 : decode cX8_liftBegins 54 = .ok (.aload_n 0, 1) := dk_42 (dk_at dksX8_liftBegins_2 6 rfl rfl)
theorem dX8_liftBegins_55 : decode cX8_liftBegins 55 = .ok (.iload_n 1, 1) := dk_27 (dk_at dksX8_liftBegins_2 7 rfl rfl)
theorem dX8_liftBegins_56 : decode cX8_liftBegins 56 = .ok (.iconst 2, 1) := dk_5 (dk_at dksX8_liftBegins_2 8 rfl rfl)
theorem dX8_liftBegins_57 : decode cX8_liftBegins 57 = .ok (.iconst 0, 1) := dk_3 (dk_at dksX8_liftBegins_2 9 rfl rfl)
theorem dX8_liftBegins_58 : decode cX8_liftBegins 58 = .ok (.invokevirtual 109, 3) := dk_182 0 109 (dk_at dksX8_liftBegins_2 10 rfl rfl)
theorem dX8_liftBegins_61 : decode cX8_liftBegins 61 = .ok (.aload_n 0, 1) := dk_42 (dk_at dksX8_liftBegins_2 13 rfl rfl)
theorem dX8_liftBegins_62 : decode cX8_liftBegins 62 = .ok (.iload_n 1, 1) := dk_27 (dk_at dksX8_liftBegins_2 14 rfl rfl)
theorem dX8_liftBegins_63 : decode cX8_liftBegins 63 = .ok (.iconst 3, 1) := dk_6 (dk_at dksX8_liftBegins_2 15 rfl rfl)
theorem dX8_liftBegins_64 : decode cX8_liftBegins 64 = .ok (.iconst 0, 1) := dk_3 (dk_at dksX8_liftBegins_2 16 rfl rfl)
theorem dX8_liftBegins_65 : decode cX8_liftBegins 65 = .ok (.invokevirtual 109, 3) := dk_182 0 109 (dk_at dksX8_liftBegins_2 17 rfl rfl)
theorem dX8_liftBegins_68 : decode cX8_liftBegins 68 = .ok (.aload_n 0, 1) := dk_42 (dk_at dksX8_liftBegins_2 20 rfl rfl)
theorem dX8_liftBegins_69 : decode cX8_liftBegins 69 = .ok (.iload_n 1, 1) := dk_27 (dk_at dksX8_liftBegins_2 21 rfl rfl)
theorem dX8_liftBegins_70 : decode cX8_liftBegins 70 = .ok (.iconst 4, 1) := dk_7 (dk_at dksX8_liftBegins_2 22 rfl rfl)
theorem dX8_liftBegins_71 : decode cX8_liftBegins 71 = .ok (.iconst 0, 1) := dk_3 (dk_at dksX8_liftBegins_2 23 rfl rfl)
theorem dX8_liftBegins_72 : decode cX8_liftBegins 72 = .ok (.invokevirtual 109, 3) := dk_182 0 109 (dk_at dksX8_liftBegins_3 0 rfl rfl)
theorem dX8_liftBegins_75 : decode cX8_liftBegins 75 = .ok (.iinc 1 1, 3) := dk_132 1 1 (dk_at dksX8_liftBegins_3 3 rfl rfl)
theorem dX8_liftBegins_78 : decode cX8_liftBegins 78 = .ok (.goto (-69), 3) := dk_167 255 187 (dk_at dksX8_liftBegins_3 6 rfl rfl)
theorem dX8_liftBegins_81 : decode cX8_liftBegins 81 = .ok (.aload_n 0, 1) := dk_42 (dk_at dksX8_liftBegins_3 9 rfl rfl)
theorem dX8_liftBegins_82 : decode cX8_liftBegins 82 = .ok (.invokevirtual 128, 3) := dk_182 0 128 (dk_at dksX8_liftBegins_3 10 rfl rfl)
theorem dX8_liftBegins_85 : decode cX8_liftBegins 85 = .ok (.return_, 1) := dk_177 (dk_at dksX8_liftBegins_3 13 rfl rfl)
abbrev cX8_isOver : ByteArray := prog_21_method_13_code
def yX8_isOver : MethodName := ⟨RX8, "isOver", "()Z"⟩
def dkwX8_isOver_0 : List UInt8 := [42, 180, 0, 32, 3, 46, 6, 160, 0, 7, 4, 167, 0, 4, 3, 172]
abbrev dktX8_isOver_0 : List UInt8 := dkwX8_isOver_0 ++ []
theorem dksX8_isOver_0 : cX8_isOver.data.toList.drop 0 = dktX8_isOver_0 := by decide +kernel
theorem dX8_isOver_0 : decode cX8_isOver 0 = .ok (.aload_n 0, 1) := dk_42 (dk_at dksX8_isOver_0 0 rfl rfl)
theorem dX8_isOver_1 : decode cX8_isOver 1 = .ok (.getfield 32, 3) := dk_180 0 32 (dk_at dksX8_isOver_0 1 rfl rfl)
theorem dX8_isOver_4 : decode cX8_isOver 4 = .ok (.iconst 0, 1) := dk_3 (dk_at dksX8_isOver_0 4 rfl rfl)
theorem dX8_isOver_5 : decode cX8_isOver 5 = .ok (.iaload, 1) := dk_46 (dk_at dksX8_isOver_0 5 rfl rfl)
theorem dX8_isOver_6 : decode cX8_isOver 6 = .ok (.iconst 3, 1) := dk_6 (dk_at dksX8_isOver_0 6 rfl rfl)
theorem dX8_isOver_7 : decode cX8_isOver 7 = .ok (.if_icmp .ne 7, 3) := dk_160 0 7 (dk_at dksX8_isOver_0 7 rfl rfl)
theorem dX8_isOver_10 : decode cX8_isOver 10 = .ok (.iconst 1, 1) := dk_4 (dk_at dksX8_isOver_0 10 rfl rfl)
theorem dX8_isOver_11 : decode cX8_isOver 11 = .ok (.goto 4, 3) := dk_167 0 4 (dk_at dksX8_isOver_0 11 rfl rfl)
theorem dX8_isOver_14 : decode cX8_isOver 14 = .ok (.iconst 0, 1) := dk_3 (dk_at dksX8_isOver_0 14 rfl rfl)
theorem dX8_isOver_15 : decode cX8_isOver 15 = .ok (.ireturn, 1) := dk_172 (dk_at dksX8_isOver_0 15 rfl rfl)
abbrev cX8_isOut : ByteArray := prog_21_method_14_code
def yX8_isOut : MethodName := ⟨RX8, "isOut", "(I)Z"⟩
def dkwX8_isOut_0 : List UInt8 := [42, 27, 16, 6, 182, 0, 106, 4, 160, 0, 7, 4, 167, 0, 4, 3, 172]
abbrev dktX8_isOut_0 : List UInt8 := dkwX8_isOut_0 ++ []
theorem dksX8_isOut_0 : cX8_isOut.data.toList.drop 0 = dktX8_isOut_0 := by decide +kernel
theorem dX8_isOut_0 : decode cX8_isOut 0 = .ok (.aload_n 0, 1) := dk_42 (dk_at dksX8_isOut_0 0 rfl rfl)
theorem dX8_isOut_1 : decode cX8_isOut 1 = .ok (.iload_n 1, 1) := dk_27 (dk_at dksX8_isOut_0 1 rfl rfl)
theorem dX8_isOut_2 : decode cX8_isOut 2 = .ok (.bipush 6, 2) := dk_16 6 (dk_at dksX8_isOut_0 2 rfl rfl)
theorem dX8_isOut_4 : decode cX8_isOut 4 = .ok (.invokevirtual 106, 3) := dk_182 0 106 (dk_at dksX8_isOut_0 4 rfl rfl)
theorem dX8_isOut_7 : decode cX8_isOut 7 = .ok (.iconst 1, 1) := dk_4 (dk_at dksX8_isOut_0 7 rfl rfl)
theorem dX8_isOut_8 : decode cX8_isOut 8 = .ok (.if_icmp .ne 7, 3) := dk_160 0 7 (dk_at dksX8_isOut_0 8 rfl rfl)
theorem dX8_isOut_11 : decode cX8_isOut 11 = .ok (.iconst 1, 1) := dk_4 (dk_at dksX8_isOut_0 11 rfl rfl)
theorem dX8_isOut_12 : decode cX8_isOut 12 = .ok (.goto 4, 3) := dk_167 0 4 (dk_at dksX8_isOut_0 12 rfl rfl)
theorem dX8_isOut_15 : decode cX8_isOut 15 = .ok (.iconst 0, 1) := dk_3 (dk_at dksX8_isOut_0 15 rfl rfl)
theorem dX8_isOut_16 : decode cX8_isOut 16 = .ok (.ireturn, 1) := dk_172 (dk_at dksX8_isOut_0 16 rfl rfl)
abbrev cX8_of : ByteArray := prog_21_method_11_code
def yX8_of : MethodName := ⟨RX8, "of", "(II)I"⟩
def dkwX8_of_0 : List UInt8 := [42, 180, 0, 32, 6, 16, 10, 27, 104, 96, 28, 96, 46, 172]
abbrev dktX8_of_0 : List UInt8 := dkwX8_of_0 ++ []
theorem dksX8_of_0 : cX8_of.data.toList.drop 0 = dktX8_of_0 := by decide +kernel
theorem dX8_of_0 : decode cX8_of 0 = .ok (.aload_n 0, 1) := dk_42 (dk_at dksX8_of_0 0 rfl rfl)
theorem dX8_of_1 : decode cX8_of 1 = .ok (.getfield 32, 3) := dk_180 0 32 (dk_at dksX8_of_0 1 rfl rfl)
theorem dX8_of_4 : decode cX8_of 4 = .ok (.iconst 3, 1) := dk_6 (dk_at dksX8_of_0 4 rfl rfl)
theorem dX8_of_5 : decode cX8_of 5 = .ok (.bipush 10, 2) := dk_16 10 (dk_at dksX8_of_0 5 rfl rfl)
theorem dX8_of_7 : decode cX8_of 7 = .ok (.iload_n 1, 1) := dk_27 (dk_at dksX8_of_0 7 rfl rfl)
theorem dX8_of_8 : decode cX8_of 8 = .ok (.imul, 1) := dk_104 (dk_at dksX8_of_0 8 rfl rfl)
theorem dX8_of_9 : decode cX8_of 9 = .ok (.iadd, 1) := dk_96 (dk_at dksX8_of_0 9 rfl rfl)
theorem dX8_of_10 : decode cX8_of 10 = .ok (.iload_n 2, 1) := dk_28 (dk_at dksX8_of_0 10 rfl rfl)
theorem dX8_of_11 : decode cX8_of 11 = .ok (.iadd, 1) := dk_96 (dk_at dksX8_of_0 11 rfl rfl)
theorem dX8_of_12 : decode cX8_of 12 = .ok (.iaload, 1) := dk_46 (dk_at dksX8_of_0 12 rfl rfl)
theorem dX8_of_13 : decode cX8_of 13 = .ok (.ireturn, 1) := dk_172 (dk_at dksX8_of_0 13 rfl rfl)
abbrev cX8_planOf : ByteArray := prog_21_method_8_code
def yX8_planOf : MethodName := ⟨RX8, "planOf", "(III)I"⟩
def dkwX8_planOf_0 : List UInt8 := [42, 180, 0, 29, 6, 6, 27, 104, 28, 96, 104, 29, 96, 46, 172]
abbrev dktX8_planOf_0 : List UInt8 := dkwX8_planOf_0 ++ []
theorem dksX8_planOf_0 : cX8_planOf.data.toList.drop 0 = dktX8_planOf_0 := by decide +kernel
theorem dX8_planOf_0 : decode cX8_planOf 0 = .ok (.aload_n 0, 1) := dk_42 (dk_at dksX8_planOf_0 0 rfl rfl)
theorem dX8_planOf_1 : decode cX8_planOf 1 = .ok (.getfield 29, 3) := dk_180 0 29 (dk_at dksX8_planOf_0 1 rfl rfl)
theorem dX8_planOf_4 : decode cX8_planOf 4 = .ok (.iconst 3, 1) := dk_6 (dk_at dksX8_planOf_0 4 rfl rfl)
theorem dX8_planOf_5 : decode cX8_planOf 5 = .ok (.iconst 3, 1) := dk_6 (dk_at dksX8_planOf_0 5 rfl rfl)
theorem dX8_planOf_6 : decode cX8_planOf 6 = .ok (.iload_n 1, 1) := dk_27 (dk_at dksX8_planOf_0 6 rfl rfl)
theorem dX8_planOf_7 : decode cX8_planOf 7 = .ok (.imul, 1) := dk_104 (dk_at dksX8_planOf_0 7 rfl rfl)
theorem dX8_planOf_8 : decode cX8_planOf 8 = .ok (.iload_n 2, 1) := dk_28 (dk_at dksX8_planOf_0 8 rfl rfl)
theorem dX8_planOf_9 : decode cX8_planOf 9 = .ok (.iadd, 1) := dk_96 (dk_at dksX8_planOf_0 9 rfl rfl)
theorem dX8_planOf_10 : decode cX8_planOf 10 = .ok (.imul, 1) := dk_104 (dk_at dksX8_planOf_0 10 rfl rfl)
theorem dX8_planOf_11 : decode cX8_planOf 11 = .ok (.iload_n 3, 1) := dk_29 (dk_at dksX8_planOf_0 11 rfl rfl)
theorem dX8_planOf_12 : decode cX8_planOf 12 = .ok (.iadd, 1) := dk_96 (dk_at dksX8_planOf_0 12 rfl rfl)
theorem dX8_planOf_13 : decode cX8_planOf 13 = .ok (.iaload, 1) := dk_46 (dk_at dksX8_planOf_0 13 rfl rfl)
theorem dX8_planOf_14 : decode cX8_planOf 14 = .ok (.ireturn, 1) := dk_172 (dk_at dksX8_planOf_0 14 rfl rfl)
abbrev cX8_sets : ByteArray := prog_21_method_12_code
def yX8_sets : MethodName := ⟨RX8, "sets", "(III)V"⟩
def dkwX8_sets_0 : List UInt8 := [42, 180, 0, 32, 6, 16, 10, 27, 104, 96, 28, 96, 29, 79, 177]
abbrev dktX8_sets_0 : List UInt8 := dkwX8_sets_0 ++ []
theorem dksX8_sets_0 : cX8_sets.data.toList.drop 0 = dktX8_sets_0 := by decide +kernel
theorem dX8_sets_0 : decode cX8_sets 0 = .ok (.aload_n 0, 1) := dk_42 (dk_at dksX8_sets_0 0 rfl rfl)
theorem dX8_sets_1 : decode cX8_sets 1 = .ok (.getfield 32, 3) := dk_180 0 32 (dk_at dksX8_sets_0 1 rfl rfl)
theorem dX8_sets_4 : decode cX8_sets 4 = .ok (.iconst 3, 1) := dk_6 (dk_at dksX8_sets_0 4 rfl rfl)
theorem dX8_sets_5 : decode cX8_sets 5 = .ok (.bipush 10, 2) := dk_16 10 (dk_at dksX8_sets_0 5 rfl rfl)
theorem dX8_sets_7 : decode cX8_sets 7 = .ok (.iload_n 1, 1) := dk_27 (dk_at dksX8_sets_0 7 rfl rfl)
theorem dX8_sets_8 : decode cX8_sets 8 = .ok (.imul, 1) := dk_104 (dk_at dksX8_sets_0 8 rfl rfl)
theorem dX8_sets_9 : decode cX8_sets 9 = .ok (.iadd, 1) := dk_96 (dk_at dksX8_sets_0 9 rfl rfl)
theorem dX8_sets_10 : decode cX8_sets 10 = .ok (.iload_n 2, 1) := dk_28 (dk_at dksX8_sets_0 10 rfl rfl)
theorem dX8_sets_11 : decode cX8_sets 11 = .ok (.iadd, 1) := dk_96 (dk_at dksX8_sets_0 11 rfl rfl)
theorem dX8_sets_12 : decode cX8_sets 12 = .ok (.iload_n 3, 1) := dk_29 (dk_at dksX8_sets_0 12 rfl rfl)
theorem dX8_sets_13 : decode cX8_sets 13 = .ok (.iastore, 1) := dk_79 (dk_at dksX8_sets_0 13 rfl rfl)
theorem dX8_sets_14 : decode cX8_sets 14 = .ok (.return_, 1) := dk_177 (dk_at dksX8_sets_0 14 rfl rfl)
abbrev cX8_roundBegins : ByteArray := prog_21_method_16_code
def yX8_roundBegins : MethodName := ⟨RX8, "roundBegins", "()V"⟩
def dkwX8_roundBegins_2 : List UInt8 := [167, 255, 217, 177]
abbrev dktX8_roundBegins_2 : List UInt8 := dkwX8_roundBegins_2 ++ []
def dkwX8_roundBegins_1 : List UInt8 := [42, 27, 8, 42, 182, 0, 113, 153, 0, 7, 3, 167, 0, 7, 42, 182, 0, 117, 182, 0, 109, 132, 1, 1]
abbrev dktX8_roundBegins_1 : List UInt8 := dkwX8_roundBegins_1 ++ dktX8_roundBegins_2
def dkwX8_roundBegins_0 : List UInt8 := [42, 180, 0, 32, 5, 3, 79, 3, 60, 27, 42, 180, 0, 84, 162, 0, 37, 42, 27, 4, 3, 182, 0, 109]
abbrev dktX8_roundBegins_0 : List UInt8 := dkwX8_roundBegins_0 ++ dktX8_roundBegins_1
theorem dksX8_roundBegins_0 : cX8_roundBegins.data.toList.drop 0 = dktX8_roundBegins_0 := by decide +kernel
theorem dksX8_roundBegins_1 : cX8_roundBegins.data.toList.drop 24 = dktX8_roundBegins_1 := dk_seg dksX8_roundBegins_0 24 rfl rfl
theorem dksX8_roundBegins_2 : cX8_roundBegins.data.toList.drop 48 = dktX8_roundBegins_2 := dk_seg dksX8_roundBegins_1 24 rfl rfl
theorem dX8_roundBegins_0 : decode cX8_roundBegins 0 = .ok (.aload_n 0, 1) := dk_42 (dk_at dksX8_roundBegins_0 0 rfl rfl)
theorem dX8_roundBegins_1 : decode cX8_roundBegins 1 = .ok (.getfield 32, 3) := dk_180 0 32 (dk_at dksX8_roundBegins_0 1 rfl rfl)
theorem dX8_roundBegins_4 : decode cX8_roundBegins 4 = .ok (.iconst 2, 1) := dk_5 (dk_at dksX8_roundBegins_0 4 rfl rfl)
theorem dX8_roundBegins_5 : decode cX8_roundBegins 5 = .ok (.iconst 0, 1) := dk_3 (dk_at dksX8_roundBegins_0 5 rfl rfl)
theorem dX8_roundBegins_6 : decode cX8_roundBegins 6 = .ok (.iastore, 1) := dk_79 (dk_at dksX8_roundBegins_0 6 rfl rfl)
theorem dX8_roundBegins_7 : decode cX8_roundBegins 7 = .ok (.iconst 0, 1) := dk_3 (dk_at dksX8_roundBegins_0 7 rfl rfl)
theorem dX8_roundBegins_8 : decode cX8_roundBegins 8 = .ok (.istore_n 1, 1) := dk_60 (dk_at dksX8_roundBegins_0 8 rfl rfl)
theorem dX8_roundBegins_9 : decode cX8_roundBegins 9 = .ok (.iload_n 1, 1) := dk_27 (dk_at dksX8_roundBegins_0 9 rfl rfl)
theorem dX8_roundBegins_10 : decode cX8_roundBegins 10 = .ok (.aload_n 0, 1) := dk_42 (dk_at dksX8_roundBegins_0 10 rfl rfl)
theorem dX8_roundBegins_11 : decode cX8_roundBegins 11 = .ok (.getfield 84, 3) := dk_180 0 84 (dk_at dksX8_roundBegins_0 11 rfl rfl)
theorem dX8_roundBegins_14 : decode cX8_roundBegins 14 = .ok (.if_icmp .ge 37, 3) := dk_162 0 37 (dk_at dksX8_roundBegins_0 14 rfl rfl)
theorem dX8_roundBegins_17 : decode cX8_roundBegins 17 = .ok (.aload_n 0, 1) := dk_42 (dk_at dksX8_roundBegins_0 17 rfl rfl)
theorem dX8_roundBegins_18 : decode cX8_roundBegins 18 = .ok (.iload_n 1, 1) := dk_27 (dk_at dksX8_roundBegins_0 18 rfl rfl)
theorem dX8_roundBegins_19 : decode cX8_roundBegins 19 = .ok (.iconst 1, 1) := dk_4 (dk_at dksX8_roundBegins_0 19 rfl rfl)
theorem dX8_roundBegins_20 : decode cX8_roundBegins 20 = .ok (.iconst 0, 1) := dk_3 (dk_at dksX8_roundBegins_0 20 rfl rfl)
theorem dX8_roundBegins_21 : decode cX8_roundBegins 21 = .ok (.invokevirtual 109, 3) := dk_182 0 109 (dk_at dksX8_roundBegins_0 21 rfl rfl)
theorem dX8_roundBegins_24 : decode cX8_roundBegins 24 = .ok (.aload_n 0, 1) := dk_42 (dk_at dksX8_roundBegins_1 0 rfl rfl)
theorem dX8_roundBegins_25 : decode cX8_roundBegins 25 = .ok (.iload_n 1, 1) := dk_27 (dk_at dksX8_roundBegins_1 1 rfl rfl)
theorem dX8_roundBegins_26 : decode cX8_roundBegins 26 = .ok (.iconst 5, 1) := dk_8 (dk_at dksX8_roundBegins_1 2 rfl rfl)
theorem dX8_roundBegins_27 : decode cX8_roundBegins 27 = .ok (.aload_n 0, 1) := dk_42 (dk_at dksX8_roundBegins_1 3 rfl rfl)
theorem dX8_roundBegins_28 : decode cX8_roundBegins 28 = .ok (.invokevirtual 113, 3) := dk_182 0 113 (dk_at dksX8_roundBegins_1 4 rfl rfl)
theorem dX8_roundBegins_31 : decode cX8_roundBegins 31 = .ok (.ifCond .eq 7, 3) := dk_153 0 7 (dk_at dksX8_roundBegins_1 7 rfl rfl)
theorem dX8_roundBegins_34 : decode cX8_roundBegins 34 = .ok (.iconst 0, 1) := dk_3 (dk_at dksX8_roundBegins_1 10 rfl rfl)
theorem dX8_roundBegins_35 : decode cX8_roundBegins 35 = .ok (.goto 7, 3) := dk_167 0 7 (dk_at dksX8_roundBegins_1 11 rfl rfl)
theorem dX8_roundBegins_38 : decode cX8_roundBegins 38 = .ok (.aload_n 0, 1) := dk_42 (dk_at dksX8_roundBegins_1 14 rfl rfl)
theorem dX8_roundBegins_39 : decode cX8_roundBegins 39 = .ok (.invokevirtual 117, 3) := dk_182 0 117 (dk_at dksX8_roundBegins_1 15 rfl rfl)
theorem dX8_roundBegins_42 : decode cX8_roundBegins 42 = .ok (.invokevirtual 109, 3) := dk_182 0 109 (dk_at dksX8_roundBegins_1 18 rfl rfl)
theorem dX8_roundBegins_45 : decode cX8_roundBegins 45 = .ok (.iinc 1 1, 3) := dk_132 1 1 (dk_at dksX8_roundBegins_1 21 rfl rfl)
theorem dX8_roundBegins_48 : decode cX8_roundBegins 48 = .ok (.goto (-39), 3) := dk_167 255 217 (dk_at dksX8_roundBegins_2 0 rfl rfl)
theorem dX8_roundBegins_51 : decode cX8_roundBegins 51 = .ok (.return_, 1) := dk_177 (dk_at dksX8_roundBegins_2 3 rfl rfl)
abbrev cX8_changesAtFirst : ByteArray := prog_21_method_15_code
def yX8_changesAtFirst : MethodName := ⟨RX8, "changesAtFirst", "()I"⟩
def dkwX8_changesAtFirst_1 : List UInt8 := [180, 0, 32, 3, 46, 5, 160, 0, 7, 5, 167, 0, 4, 3, 172]
abbrev dktX8_changesAtFirst_1 : List UInt8 := dkwX8_changesAtFirst_1 ++ []
def dkwX8_changesAtFirst_0 : List UInt8 := [42, 180, 0, 32, 4, 46, 154, 0, 7, 4, 167, 0, 28, 42, 180, 0, 32, 4, 46, 5, 160, 0, 17, 42]
abbrev dktX8_changesAtFirst_0 : List UInt8 := dkwX8_changesAtFirst_0 ++ dktX8_changesAtFirst_1
theorem dksX8_changesAtFirst_0 : cX8_changesAtFirst.data.toList.drop 0 = dktX8_changesAtFirst_0 := by decide +kernel
theorem dksX8_changesAtFirst_1 : cX8_changesAtFirst.data.toList.drop 24 = dktX8_changesAtFirst_1 := dk_seg dksX8_changesAtFirst_0 24 rfl rfl
theorem dX8_changesAtFirst_0 : decode cX8_changesAtFirst 0 = .ok (.aload_n 0, 1) := dk_42 (dk_at dksX8_changesAtFirst_0 0 rfl rfl)
theorem dX8_changesAtFirst_1 : decode cX8_changesAtFirst 1 = .ok (.getfield 32, 3) := dk_180 0 32 (dk_at dksX8_changesAtFirst_0 1 rfl rfl)
theorem dX8_changesAtFirst_4 : decode cX8_changesAtFirst 4 = .ok (.iconst 1, 1) := dk_4 (dk_at dksX8_changesAtFirst_0 4 rfl rfl)
theorem dX8_changesAtFirst_5 : decode cX8_changesAtFirst 5 = .ok (.iaload, 1) := dk_46 (dk_at dksX8_changesAtFirst_0 5 rfl rfl)
theorem dX8_changesAtFirst_6 : decode cX8_changesAtFirst 6 = .ok (.ifCond .ne 7, 3) := dk_154 0 7 (dk_at dksX8_changesAtFirst_0 6 rfl rfl)
theorem dX8_changesAtFirst_9 : decode cX8_changesAtFirst 9 = .ok (.iconst 1, 1) := dk_4 (dk_at dksX8_changesAtFirst_0 9 rfl rfl)
theorem dX8_changesAtFirst_10 : decode cX8_changesAtFirst 10 = .ok (.goto 28, 3) := dk_167 0 28 (dk_at dksX8_changesAtFirst_0 10 rfl rfl)
theorem dX8_changesAtFirst_13 : decode cX8_changesAtFirst 13 = .ok (.aload_n 0, 1) := dk_42 (dk_at dksX8_changesAtFirst_0 13 rfl rfl)
theorem dX8_changesAtFirst_14 : decode cX8_changesAtFirst 14 = .ok (.getfield 32, 3) := dk_180 0 32 (dk_at dksX8_changesAtFirst_0 14 rfl rfl)
theorem dX8_changesAtFirst_17 : decode cX8_changesAtFirst 17 = .ok (.iconst 1, 1) := dk_4 (dk_at dksX8_changesAtFirst_0 17 rfl rfl)
theorem dX8_changesAtFirst_18 : decode cX8_changesAtFirst 18 = .ok (.iaload, 1) := dk_46 (dk_at dksX8_changesAtFirst_0 18 rfl rfl)
theorem dX8_changesAtFirst_19 : decode cX8_changesAtFirst 19 = .ok (.iconst 2, 1) := dk_5 (dk_at dksX8_changesAtFirst_0 19 rfl rfl)
theorem dX8_changesAtFirst_20 : decode cX8_changesAtFirst 20 = .ok (.if_icmp .ne 17, 3) := dk_160 0 17 (dk_at dksX8_changesAtFirst_0 20 rfl rfl)
theorem dX8_changesAtFirst_23 : decode cX8_changesAtFirst 23 = .ok (.aload_n 0, 1) := dk_42 (dk_at dksX8_changesAtFirst_0 23 rfl rfl)
theorem dX8_changesAtFirst_24 : decode cX8_changesAtFirst 24 = .ok (.getfield 32, 3) := dk_180 0 32 (dk_at dksX8_changesAtFirst_1 0 rfl rfl)
theorem dX8_changesAtFirst_27 : decode cX8_changesAtFirst 27 = .ok (.iconst 0, 1) := dk_3 (dk_at dksX8_changesAtFirst_1 3 rfl rfl)
theorem dX8_changesAtFirst_28 : decode cX8_changesAtFirst 28 = .ok (.iaload, 1) := dk_46 (dk_at dksX8_changesAtFirst_1 4 rfl rfl)
theorem dX8_changesAtFirst_29 : decode cX8_changesAtFirst 29 = .ok (.iconst 2, 1) := dk_5 (dk_at dksX8_changesAtFirst_1 5 rfl rfl)
theorem dX8_changesAtFirst_30 : decode cX8_changesAtFirst 30 = .ok (.if_icmp .ne 7, 3) := dk_160 0 7 (dk_at dksX8_changesAtFirst_1 6 rfl rfl)
theorem dX8_changesAtFirst_33 : decode cX8_changesAtFirst 33 = .ok (.iconst 2, 1) := dk_5 (dk_at dksX8_changesAtFirst_1 9 rfl rfl)
theorem dX8_changesAtFirst_34 : decode cX8_changesAtFirst 34 = .ok (.goto 4, 3) := dk_167 0 4 (dk_at dksX8_changesAtFirst_1 10 rfl rfl)
theorem dX8_changesAtFirst_37 : decode cX8_changesAtFirst 37 = .ok (.iconst 0, 1) := dk_3 (dk_at dksX8_changesAtFirst_1 13 rfl rfl)
theorem dX8_changesAtFirst_38 : decode cX8_changesAtFirst 38 = .ok (.ireturn, 1) := dk_172 (dk_at dksX8_changesAtFirst_1 14 rfl rfl)
abbrev cX8_leaves : ByteArray := prog_21_method_43_code
def yX8_leaves : MethodName := ⟨RX8, "leaves", "()I"⟩
def dkwX8_leaves_1 : List UInt8 := [181, 0, 84, 42, 182, 0, 230, 42, 180, 0, 84, 172]
abbrev dktX8_leaves_1 : List UInt8 := dkwX8_leaves_1 ++ []
def dkwX8_leaves_0 : List UInt8 := [42, 3, 181, 0, 77, 42, 180, 0, 84, 154, 0, 6, 16, 254, 172, 42, 89, 180, 0, 84, 4, 100]
abbrev dktX8_leaves_0 : List UInt8 := dkwX8_leaves_0 ++ dktX8_leaves_1
theorem dksX8_leaves_0 : cX8_leaves.data.toList.drop 0 = dktX8_leaves_0 := by decide +kernel
theorem dksX8_leaves_1 : cX8_leaves.data.toList.drop 22 = dktX8_leaves_1 := dk_seg dksX8_leaves_0 22 rfl rfl
theorem dX8_leaves_0 : decode cX8_leaves 0 = .ok (.aload_n 0, 1) := dk_42 (dk_at dksX8_leaves_0 0 rfl rfl)
theorem dX8_leaves_1 : decode cX8_leaves 1 = .ok (.iconst 0, 1) := dk_3 (dk_at dksX8_leaves_0 1 rfl rfl)
theorem dX8_leaves_2 : decode cX8_leaves 2 = .ok (.putfield 77, 3) := dk_181 0 77 (dk_at dksX8_leaves_0 2 rfl rfl)
theorem dX8_leaves_5 : decode cX8_leaves 5 = .ok (.aload_n 0, 1) := dk_42 (dk_at dksX8_leaves_0 5 rfl rfl)
theorem dX8_leaves_6 : decode cX8_leaves 6 = .ok (.getfield 84, 3) := dk_180 0 84 (dk_at dksX8_leaves_0 6 rfl rfl)
theorem dX8_leaves_9 : decode cX8_leaves 9 = .ok (.ifCond .ne 6, 3) := dk_154 0 6 (dk_at dksX8_leaves_0 9 rfl rfl)
theorem dX8_leaves_12 : decode cX8_leaves 12 = .ok (.bipush (-2), 2) := dk_16 254 (dk_at dksX8_leaves_0 12 rfl rfl)
theorem dX8_leaves_14 : decode cX8_leaves 14 = .ok (.ireturn, 1) := dk_172 (dk_at dksX8_leaves_0 14 rfl rfl)
theorem dX8_leaves_15 : decode cX8_leaves 15 = .ok (.aload_n 0, 1) := dk_42 (dk_at dksX8_leaves_0 15 rfl rfl)
theorem dX8_leaves_16 : decode cX8_leaves 16 = .ok (.dup, 1) := dk_89 (dk_at dksX8_leaves_0 16 rfl rfl)
theorem dX8_leaves_17 : decode cX8_leaves 17 = .ok (.getfield 84, 3) := dk_180 0 84 (dk_at dksX8_leaves_0 17 rfl rfl)
theorem dX8_leaves_20 : decode cX8_leaves 20 = .ok (.iconst 1, 1) := dk_4 (dk_at dksX8_leaves_0 20 rfl rfl)
theorem dX8_leaves_21 : decode cX8_leaves 21 = .ok (.isub, 1) := dk_100 (dk_at dksX8_leaves_0 21 rfl rfl)
theorem dX8_leaves_22 : decode cX8_leaves 22 = .ok (.putfield 84, 3) := dk_181 0 84 (dk_at dksX8_leaves_1 0 rfl rfl)
theorem dX8_leaves_25 : decode cX8_leaves 25 = .ok (.aload_n 0, 1) := dk_42 (dk_at dksX8_leaves_1 3 rfl rfl)
theorem dX8_leaves_26 : decode cX8_leaves 26 = .ok (.invokevirtual 230, 3) := dk_182 0 230 (dk_at dksX8_leaves_1 4 rfl rfl)
theorem dX8_leaves_29 : decode cX8_leaves 29 = .ok (.aload_n 0, 1) := dk_42 (dk_at dksX8_leaves_1 7 rfl rfl)
theorem dX8_leaves_30 : decode cX8_leaves 30 = .ok (.getfield 84, 3) := dk_180 0 84 (dk_at dksX8_leaves_1 8 rfl rfl)
theorem dX8_leaves_33 : decode cX8_leaves 33 = .ok (.ireturn, 1) := dk_172 (dk_at dksX8_leaves_1 11 rfl rfl)
abbrev cX8_plans : ByteArray := prog_21_method_44_code
def yX8_plans : MethodName := ⟨RX8, "plans", "(IIII)I"⟩
def dkwX8_plans_4 : List UInt8 := [182, 0, 230, 21, 5, 172]
abbrev dktX8_plans_4 : List UInt8 := dkwX8_plans_4 ++ []
def dkwX8_plans_3 : List UInt8 := [182, 0, 125, 54, 5, 42, 180, 0, 29, 6, 6, 27, 104, 28, 96, 104, 29, 96, 21, 4, 79, 42]
abbrev dktX8_plans_3 : List UInt8 := dkwX8_plans_3 ++ dktX8_plans_4
def dkwX8_plans_2 : List UInt8 := [154, 0, 9, 20, 0, 239, 167, 0, 6, 20, 0, 241, 184, 0, 87, 154, 0, 5, 2, 172, 42, 27, 28, 29]
abbrev dktX8_plans_2 : List UInt8 := dkwX8_plans_2 ++ dktX8_plans_3
def dkwX8_plans_1 : List UInt8 := [20, 0, 91, 184, 0, 87, 153, 0, 35, 21, 4, 133, 29, 5, 160, 0, 7, 9, 167, 0, 4, 10, 29]
abbrev dktX8_plans_1 : List UInt8 := dkwX8_plans_1 ++ dktX8_plans_2
def dkwX8_plans_0 : List UInt8 := [42, 3, 181, 0, 77, 42, 27, 182, 0, 233, 153, 0, 54, 28, 184, 0, 236, 153, 0, 47, 29, 133, 9]
abbrev dktX8_plans_0 : List UInt8 := dkwX8_plans_0 ++ dktX8_plans_1
theorem dksX8_plans_0 : cX8_plans.data.toList.drop 0 = dktX8_plans_0 := by decide +kernel
theorem dksX8_plans_1 : cX8_plans.data.toList.drop 23 = dktX8_plans_1 := dk_seg dksX8_plans_0 23 rfl rfl
theorem dksX8_plans_2 : cX8_plans.data.toList.drop 46 = dktX8_plans_2 := dk_seg dksX8_plans_1 23 rfl rfl
theorem dksX8_plans_3 : cX8_plans.data.toList.drop 70 = dktX8_plans_3 := dk_seg dksX8_plans_2 24 rfl rfl
theorem dksX8_plans_4 : cX8_plans.data.toList.drop 92 = dktX8_plans_4 := dk_seg dksX8_plans_3 22 rfl rfl
theorem dX8_plans_0 : decode cX8_plans 0 = .ok (.aload_n 0, 1) := dk_42 (dk_at dksX8_plans_0 0 rfl rfl)
theorem dX8_plans_1 : decode cX8_plans 1 = .ok (.iconst 0, 1) := dk_3 (dk_at dksX8_plans_0 1 rfl rfl)
theorem dX8_plans_2 : decode cX8_plans 2 = .ok (.putfield 77, 3) := dk_181 0 77 (dk_at dksX8_plans_0 2 rfl rfl)
theorem dX8_plans_5 : decode cX8_plans 5 = .ok (.aload_n 0, 1) := dk_42 (dk_at dksX8_plans_0 5 rfl rfl)
theorem dX8_plans_6 : decode cX8_plans 6 = .ok (.iload_n 1, 1) := dk_27 (dk_at dksX8_plans_0 6 rfl rfl)
theorem dX8_plans_7 : decode cX8_plans 7 = .ok (.invokevirtual 233, 3) := dk_182 0 233 (dk_at dksX8_plans_0 7 rfl rfl)
theorem dX8_plans_10 : decode cX8_plans 10 = .ok (.ifCond .eq 54, 3) := dk_153 0 54 (dk_at dksX8_plans_0 10 rfl rfl)
theorem dX8_plans_13 : decode cX8_plans 13 = .ok (.iload_n 2, 1) := dk_28 (dk_at dksX8_plans_0 13 rfl rfl)
theorem dX8_plans_14 : decode cX8_plans 14 = .ok (.invokestatic 236, 3) := dk_184 0 236 (dk_at dksX8_plans_0 14 rfl rfl)
theorem dX8_plans_17 : decode cX8_plans 17 = .ok (.ifCond .eq 47, 3) := dk_153 0 47 (dk_at dksX8_plans_0 17 rfl rfl)
theorem dX8_plans_20 : decode cX8_plans 20 = .ok (.iload_n 3, 1) := dk_29 (dk_at dksX8_plans_0 20 rfl rfl)
theorem dX8_plans_21 : decode cX8_plans 21 = .ok (.i2l, 1) := dk_133 (dk_at dksX8_plans_0 21 rfl rfl)
theorem dX8_plans_22 : decode cX8_plans 22 = .ok (.lconst 0, 1) := dk_9 (dk_at dksX8_plans_0 22 rfl rfl)
theorem dX8_plans_23 : decode cX8_plans 23 = .ok (.ldc2_w 91, 3) := dk_20 0 91 (dk_at dksX8_plans_1 0 rfl rfl)
theorem dX8_plans_26 : decode cX8_plans 26 = .ok (.invokestatic 87, 3) := dk_184 0 87 (dk_at dksX8_plans_1 3 rfl rfl)
theorem dX8_plans_29 : decode cX8_plans 29 = .ok (.ifCond .eq 35, 3) := dk_153 0 35 (dk_at dksX8_plans_1 6 rfl rfl)
theorem dX8_plans_32 : decode cX8_plans 32 = .ok (.iload 4, 2) := dk_21 4 (dk_at dksX8_plans_1 9 rfl rfl)
theorem dX8_plans_34 : decode cX8_plans 34 = .ok (.i2l, 1) := dk_133 (dk_at dksX8_plans_1 11 rfl rfl)
theorem dX8_plans_35 : decode cX8_plans 35 = .ok (.iload_n 3, 1) := dk_29 (dk_at dksX8_plans_1 12 rfl rfl)
theorem dX8_plans_36 : decode cX8_plans 36 = .ok (.iconst 2, 1) := dk_5 (dk_at dksX8_plans_1 13 rfl rfl)
theorem dX8_plans_37 : decode cX8_plans 37 = .ok (.if_icmp .ne 7, 3) := dk_160 0 7 (dk_at dksX8_plans_1 14 rfl rfl)
theorem dX8_plans_40 : decode cX8_plans 40 = .ok (.lconst 0, 1) := dk_9 (dk_at dksX8_plans_1 17 rfl rfl)
theorem dX8_plans_41 : decode cX8_plans 41 = .ok (.goto 4, 3) := dk_167 0 4 (dk_at dksX8_plans_1 18 rfl rfl)
theorem dX8_plans_44 : decode cX8_plans 44 = .ok (.lconst 1, 1) := dk_10 (dk_at dksX8_plans_1 21 rfl rfl)
theorem dX8_plans_45 : decode cX8_plans 45 = .ok (.iload_n 3, 1) := dk_29 (dk_at dksX8_plans_1 22 rfl rfl)
theorem dX8_plans_46 : decode cX8_plans 46 = .ok (.ifCond .ne 9, 3) := dk_154 0 9 (dk_at dksX8_plans_2 0 rfl rfl)
theorem dX8_plans_49 : decode cX8_plans 49 = .ok (.ldc2_w 239, 3) := dk_20 0 239 (dk_at dksX8_plans_2 3 rfl rfl)
theorem dX8_plans_52 : decode cX8_plans 52 = .ok (.goto 6, 3) := dk_167 0 6 (dk_at dksX8_plans_2 6 rfl rfl)
theorem dX8_plans_55 : decode cX8_plans 55 = .ok (.ldc2_w 241, 3) := dk_20 0 241 (dk_at dksX8_plans_2 9 rfl rfl)
theorem dX8_plans_58 : decode cX8_plans 58 = .ok (.invokestatic 87, 3) := dk_184 0 87 (dk_at dksX8_plans_2 12 rfl rfl)
theorem dX8_plans_61 : decode cX8_plans 61 = .ok (.ifCond .ne 5, 3) := dk_154 0 5 (dk_at dksX8_plans_2 15 rfl rfl)
theorem dX8_plans_64 : decode cX8_plans 64 = .ok (.iconst (-1), 1) := dk_2 (dk_at dksX8_plans_2 18 rfl rfl)
theorem dX8_plans_65 : decode cX8_plans 65 = .ok (.ireturn, 1) := dk_172 (dk_at dksX8_plans_2 19 rfl rfl)
theorem dX8_plans_66 : decode cX8_plans 66 = .ok (.aload_n 0, 1) := dk_42 (dk_at dksX8_plans_2 20 rfl rfl)
theorem dX8_plans_67 : decode cX8_plans 67 = .ok (.iload_n 1, 1) := dk_27 (dk_at dksX8_plans_2 21 rfl rfl)
theorem dX8_plans_68 : decode cX8_plans 68 = .ok (.iload_n 2, 1) := dk_28 (dk_at dksX8_plans_2 22 rfl rfl)
theorem dX8_plans_69 : decode cX8_plans 69 = .ok (.iload_n 3, 1) := dk_29 (dk_at dksX8_plans_2 23 rfl rfl)
theorem dX8_plans_70 : decode cX8_plans 70 = .ok (.invokevirtual 125, 3) := dk_182 0 125 (dk_at dksX8_plans_3 0 rfl rfl)
theorem dX8_plans_73 : decode cX8_plans 73 = .ok (.istore 5, 2) := dk_54 5 (dk_at dksX8_plans_3 3 rfl rfl)
theorem dX8_plans_75 : decode cX8_plans 75 = .ok (.aload_n 0, 1) := dk_42 (dk_at dksX8_plans_3 5 rfl rfl)
theorem dX8_plans_76 : decode cX8_plans 76 = .ok (.getfield 29, 3) := dk_180 0 29 (dk_at dksX8_plans_3 6 rfl rfl)
theorem dX8_plans_79 : decode cX8_plans 79 = .ok (.iconst 3, 1) := dk_6 (dk_at dksX8_plans_3 9 rfl rfl)
theorem dX8_plans_80 : decode cX8_plans 80 = .ok (.iconst 3, 1) := dk_6 (dk_at dksX8_plans_3 10 rfl rfl)
theorem dX8_plans_81 : decode cX8_plans 81 = .ok (.iload_n 1, 1) := dk_27 (dk_at dksX8_plans_3 11 rfl rfl)
theorem dX8_plans_82 : decode cX8_plans 82 = .ok (.imul, 1) := dk_104 (dk_at dksX8_plans_3 12 rfl rfl)
theorem dX8_plans_83 : decode cX8_plans 83 = .ok (.iload_n 2, 1) := dk_28 (dk_at dksX8_plans_3 13 rfl rfl)
theorem dX8_plans_84 : decode cX8_plans 84 = .ok (.iadd, 1) := dk_96 (dk_at dksX8_plans_3 14 rfl rfl)
theorem dX8_plans_85 : decode cX8_plans 85 = .ok (.imul, 1) := dk_104 (dk_at dksX8_plans_3 15 rfl rfl)
theorem dX8_plans_86 : decode cX8_plans 86 = .ok (.iload_n 3, 1) := dk_29 (dk_at dksX8_plans_3 16 rfl rfl)
theorem dX8_plans_87 : decode cX8_plans 87 = .ok (.iadd, 1) := dk_96 (dk_at dksX8_plans_3 17 rfl rfl)
theorem dX8_plans_88 : decode cX8_plans 88 = .ok (.iload 4, 2) := dk_21 4 (dk_at dksX8_plans_3 18 rfl rfl)
theorem dX8_plans_90 : decode cX8_plans 90 = .ok (.iastore, 1) := dk_79 (dk_at dksX8_plans_3 20 rfl rfl)
theorem dX8_plans_91 : decode cX8_plans 91 = .ok (.aload_n 0, 1) := dk_42 (dk_at dksX8_plans_3 21 rfl rfl)
theorem dX8_plans_92 : decode cX8_plans 92 = .ok (.invokevirtual 230, 3) := dk_182 0 230 (dk_at dksX8_plans_4 0 rfl rfl)
theorem dX8_plans_95 : decode cX8_plans 95 = .ok (.iload 5, 2) := dk_21 5 (dk_at dksX8_plans_4 3 rfl rfl)
theorem dX8_plans_97 : decode cX8_plans 97 = .ok (.ireturn, 1) := dk_172 (dk_at dksX8_plans_4 5 rfl rfl)
abbrev cX8_isLifter : ByteArray := prog_21_method_6_code
def yX8_isLifter : MethodName := ⟨RX8, "isLifter", "(I)Z"⟩
def dkwX8_isLifter_0 : List UInt8 := [27, 133, 9, 42, 180, 0, 84, 4, 100, 133, 184, 0, 87, 172]
abbrev dktX8_isLifter_0 : List UInt8 := dkwX8_isLifter_0 ++ []
theorem dksX8_isLifter_0 : cX8_isLifter.data.toList.drop 0 = dktX8_isLifter_0 := by decide +kernel
theorem dX8_isLifter_0 : decode cX8_isLifter 0 = .ok (.iload_n 1, 1) := dk_27 (dk_at dksX8_isLifter_0 0 rfl rfl)
theorem dX8_isLifter_1 : decode cX8_isLifter 1 = .ok (.i2l, 1) := dk_133 (dk_at dksX8_isLifter_0 1 rfl rfl)
theorem dX8_isLifter_2 : decode cX8_isLifter 2 = .ok (.lconst 0, 1) := dk_9 (dk_at dksX8_isLifter_0 2 rfl rfl)
theorem dX8_isLifter_3 : decode cX8_isLifter 3 = .ok (.aload_n 0, 1) := dk_42 (dk_at dksX8_isLifter_0 3 rfl rfl)
theorem dX8_isLifter_4 : decode cX8_isLifter 4 = .ok (.getfield 84, 3) := dk_180 0 84 (dk_at dksX8_isLifter_0 4 rfl rfl)
theorem dX8_isLifter_7 : decode cX8_isLifter 7 = .ok (.iconst 1, 1) := dk_4 (dk_at dksX8_isLifter_0 7 rfl rfl)
theorem dX8_isLifter_8 : decode cX8_isLifter 8 = .ok (.isub, 1) := dk_100 (dk_at dksX8_isLifter_0 8 rfl rfl)
theorem dX8_isLifter_9 : decode cX8_isLifter 9 = .ok (.i2l, 1) := dk_133 (dk_at dksX8_isLifter_0 9 rfl rfl)
theorem dX8_isLifter_10 : decode cX8_isLifter 10 = .ok (.invokestatic 87, 3) := dk_184 0 87 (dk_at dksX8_isLifter_0 10 rfl rfl)
theorem dX8_isLifter_13 : decode cX8_isLifter 13 = .ok (.ireturn, 1) := dk_172 (dk_at dksX8_isLifter_0 13 rfl rfl)
abbrev cX8_isLift : ByteArray := prog_21_method_7_code
def yX8_isLift : MethodName := ⟨RX8, "isLift", "(I)Z"⟩
def dkwX8_isLift_0 : List UInt8 := [26, 133, 9, 20, 0, 91, 184, 0, 87, 172]
abbrev dktX8_isLift_0 : List UInt8 := dkwX8_isLift_0 ++ []
theorem dksX8_isLift_0 : cX8_isLift.data.toList.drop 0 = dktX8_isLift_0 := by decide +kernel
theorem dX8_isLift_0 : decode cX8_isLift 0 = .ok (.iload_n 0, 1) := dk_26 (dk_at dksX8_isLift_0 0 rfl rfl)
theorem dX8_isLift_1 : decode cX8_isLift 1 = .ok (.i2l, 1) := dk_133 (dk_at dksX8_isLift_0 1 rfl rfl)
theorem dX8_isLift_2 : decode cX8_isLift 2 = .ok (.lconst 0, 1) := dk_9 (dk_at dksX8_isLift_0 2 rfl rfl)
theorem dX8_isLift_3 : decode cX8_isLift 3 = .ok (.ldc2_w 91, 3) := dk_20 0 91 (dk_at dksX8_isLift_0 3 rfl rfl)
theorem dX8_isLift_6 : decode cX8_isLift 6 = .ok (.invokestatic 87, 3) := dk_184 0 87 (dk_at dksX8_isLift_0 6 rfl rfl)
theorem dX8_isLift_9 : decode cX8_isLift 9 = .ok (.ireturn, 1) := dk_172 (dk_at dksX8_isLift_0 9 rfl rfl)
abbrev cX8_tires : ByteArray := prog_21_method_45_code
def yX8_tires : MethodName := ⟨RX8, "tires", "(I)I"⟩
def dkwX8_tires_1 : List UInt8 := [42, 27, 181, 0, 97, 28, 172]
abbrev dktX8_tires_1 : List UInt8 := dkwX8_tires_1 ++ []
def dkwX8_tires_0 : List UInt8 := [42, 3, 181, 0, 77, 27, 133, 9, 20, 0, 243, 184, 0, 87, 154, 0, 5, 2, 172, 42, 180, 0, 97, 61]
abbrev dktX8_tires_0 : List UInt8 := dkwX8_tires_0 ++ dktX8_tires_1
theorem dksX8_tires_0 : cX8_tires.data.toList.drop 0 = dktX8_tires_0 := by decide +kernel
theorem dksX8_tires_1 : cX8_tires.data.toList.drop 24 = dktX8_tires_1 := dk_seg dksX8_tires_0 24 rfl rfl
theorem dX8_tires_0 : decode cX8_tires 0 = .ok (.aload_n 0, 1) := dk_42 (dk_at dksX8_tires_0 0 rfl rfl)
theorem dX8_tires_1 : decode cX8_tires 1 = .ok (.iconst 0, 1) := dk_3 (dk_at dksX8_tires_0 1 rfl rfl)
theorem dX8_tires_2 : decode cX8_tires 2 = .ok (.putfield 77, 3) := dk_181 0 77 (dk_at dksX8_tires_0 2 rfl rfl)
theorem dX8_tires_5 : decode cX8_tires 5 = .ok (.iload_n 1, 1) := dk_27 (dk_at dksX8_tires_0 5 rfl rfl)
theorem dX8_tires_6 : decode cX8_tires 6 = .ok (.i2l, 1) := dk_133 (dk_at dksX8_tires_0 6 rfl rfl)
theorem dX8_tires_7 : decode cX8_tires 7 = .ok (.lconst 0, 1) := dk_9 (dk_at dksX8_tires_0 7 rfl rfl)
theorem dX8_tires_8 : decode cX8_tires 8 = .ok (.ldc2_w 243, 3) := dk_20 0 243 (dk_at dksX8_tires_0 8 rfl rfl)
theorem dX8_tires_11 : decode cX8_tires 11 = .ok (.invokestatic 87, 3) := dk_184 0 87 (dk_at dksX8_tires_0 11 rfl rfl)
theorem dX8_tires_14 : decode cX8_tires 14 = .ok (.ifCond .ne 5, 3) := dk_154 0 5 (dk_at dksX8_tires_0 14 rfl rfl)
theorem dX8_tires_17 : decode cX8_tires 17 = .ok (.iconst (-1), 1) := dk_2 (dk_at dksX8_tires_0 17 rfl rfl)
theorem dX8_tires_18 : decode cX8_tires 18 = .ok (.ireturn, 1) := dk_172 (dk_at dksX8_tires_0 18 rfl rfl)
theorem dX8_tires_19 : decode cX8_tires 19 = .ok (.aload_n 0, 1) := dk_42 (dk_at dksX8_tires_0 19 rfl rfl)
theorem dX8_tires_20 : decode cX8_tires 20 = .ok (.getfield 97, 3) := dk_180 0 97 (dk_at dksX8_tires_0 20 rfl rfl)
theorem dX8_tires_23 : decode cX8_tires 23 = .ok (.istore_n 2, 1) := dk_61 (dk_at dksX8_tires_0 23 rfl rfl)
theorem dX8_tires_24 : decode cX8_tires 24 = .ok (.aload_n 0, 1) := dk_42 (dk_at dksX8_tires_1 0 rfl rfl)
theorem dX8_tires_25 : decode cX8_tires 25 = .ok (.iload_n 1, 1) := dk_27 (dk_at dksX8_tires_1 1 rfl rfl)
theorem dX8_tires_26 : decode cX8_tires 26 = .ok (.putfield 97, 3) := dk_181 0 97 (dk_at dksX8_tires_1 2 rfl rfl)
theorem dX8_tires_29 : decode cX8_tires 29 = .ok (.iload_n 2, 1) := dk_28 (dk_at dksX8_tires_1 5 rfl rfl)
theorem dX8_tires_30 : decode cX8_tires 30 = .ok (.ireturn, 1) := dk_172 (dk_at dksX8_tires_1 6 rfl rfl)
abbrev cX8_begins : ByteArray := prog_21_method_46_code
def yX8_begins : MethodName := ⟨RX8, "begins", "()I"⟩
def dkwX8_begins_0 : List UInt8 := [42, 3, 181, 0, 77, 42, 182, 0, 230, 42, 180, 0, 84, 172]
abbrev dktX8_begins_0 : List UInt8 := dkwX8_begins_0 ++ []
theorem dksX8_begins_0 : cX8_begins.data.toList.drop 0 = dktX8_begins_0 := by decide +kernel
theorem dX8_begins_0 : decode cX8_begins 0 = .ok (.aload_n 0, 1) := dk_42 (dk_at dksX8_begins_0 0 rfl rfl)
theorem dX8_begins_1 : decode cX8_begins 1 = .ok (.iconst 0, 1) := dk_3 (dk_at dksX8_begins_0 1 rfl rfl)
theorem dX8_begins_2 : decode cX8_begins 2 = .ok (.putfield 77, 3) := dk_181 0 77 (dk_at dksX8_begins_0 2 rfl rfl)
theorem dX8_begins_5 : decode cX8_begins 5 = .ok (.aload_n 0, 1) := dk_42 (dk_at dksX8_begins_0 5 rfl rfl)
theorem dX8_begins_6 : decode cX8_begins 6 = .ok (.invokevirtual 230, 3) := dk_182 0 230 (dk_at dksX8_begins_0 6 rfl rfl)
theorem dX8_begins_9 : decode cX8_begins 9 = .ok (.aload_n 0, 1) := dk_42 (dk_at dksX8_begins_0 9 rfl rfl)
theorem dX8_begins_10 : decode cX8_begins 10 = .ok (.getfield 84, 3) := dk_180 0 84 (dk_at dksX8_begins_0 10 rfl rfl)
theorem dX8_begins_13 : decode cX8_begins 13 = .ok (.ireturn, 1) := dk_172 (dk_at dksX8_begins_0 13 rfl rfl)
abbrev cX8_odds : ByteArray := prog_21_method_47_code
def yX8_odds : MethodName := ⟨RX8, "odds", "(IIII)I"⟩
def dkwX8_odds_2 : List UInt8 := [28, 29, 21, 4, 182, 0, 245, 167, 0, 4, 2, 172]
abbrev dktX8_odds_2 : List UInt8 := dkwX8_odds_2 ++ []
def dkwX8_odds_1 : List UInt8 := [20, 0, 239, 184, 0, 87, 153, 0, 28, 21, 4, 133, 9, 20, 0, 91, 184, 0, 87, 153, 0, 15, 42, 27]
abbrev dktX8_odds_1 : List UInt8 := dkwX8_odds_1 ++ dktX8_odds_2
def dkwX8_odds_0 : List UInt8 := [42, 3, 181, 0, 77, 42, 27, 182, 0, 233, 153, 0, 47, 28, 184, 0, 236, 153, 0, 40, 29, 133, 10]
abbrev dktX8_odds_0 : List UInt8 := dkwX8_odds_0 ++ dktX8_odds_1
theorem dksX8_odds_0 : cX8_odds.data.toList.drop 0 = dktX8_odds_0 := by decide +kernel
theorem dksX8_odds_1 : cX8_odds.data.toList.drop 23 = dktX8_odds_1 := dk_seg dksX8_odds_0 23 rfl rfl
theorem dksX8_odds_2 : cX8_odds.data.toList.drop 47 = dktX8_odds_2 := dk_seg dksX8_odds_1 24 rfl rfl
theorem dX8_odds_0 : decode cX8_odds 0 = .ok (.aload_n 0, 1) := dk_42 (dk_at dksX8_odds_0 0 rfl rfl)
theorem dX8_odds_1 : decode cX8_odds 1 = .ok (.iconst 0, 1) := dk_3 (dk_at dksX8_odds_0 1 rfl rfl)
theorem dX8_odds_2 : decode cX8_odds 2 = .ok (.putfield 77, 3) := dk_181 0 77 (dk_at dksX8_odds_0 2 rfl rfl)
theorem dX8_odds_5 : decode cX8_odds 5 = .ok (.aload_n 0, 1) := dk_42 (dk_at dksX8_odds_0 5 rfl rfl)
theorem dX8_odds_6 : decode cX8_odds 6 = .ok (.iload_n 1, 1) := dk_27 (dk_at dksX8_odds_0 6 rfl rfl)
theorem dX8_odds_7 : decode cX8_odds 7 = .ok (.invokevirtual 233, 3) := dk_182 0 233 (dk_at dksX8_odds_0 7 rfl rfl)
theorem dX8_odds_10 : decode cX8_odds 10 = .ok (.ifCond .eq 47, 3) := dk_153 0 47 (dk_at dksX8_odds_0 10 rfl rfl)
theorem dX8_odds_13 : decode cX8_odds 13 = .ok (.iload_n 2, 1) := dk_28 (dk_at dksX8_odds_0 13 rfl rfl)
theorem dX8_odds_14 : decode cX8_odds 14 = .ok (.invokestatic 236, 3) := dk_184 0 236 (dk_at dksX8_odds_0 14 rfl rfl)
theorem dX8_odds_17 : decode cX8_odds 17 = .ok (.ifCond .eq 40, 3) := dk_153 0 40 (dk_at dksX8_odds_0 17 rfl rfl)
theorem dX8_odds_20 : decode cX8_odds 20 = .ok (.iload_n 3, 1) := dk_29 (dk_at dksX8_odds_0 20 rfl rfl)
theorem dX8_odds_21 : decode cX8_odds 21 = .ok (.i2l, 1) := dk_133 (dk_at dksX8_odds_0 21 rfl rfl)
theorem dX8_odds_22 : decode cX8_odds 22 = .ok (.lconst 1, 1) := dk_10 (dk_at dksX8_odds_0 22 rfl rfl)
theorem dX8_odds_23 : decode cX8_odds 23 = .ok (.ldc2_w 239, 3) := dk_20 0 239 (dk_at dksX8_odds_1 0 rfl rfl)
theorem dX8_odds_26 : decode cX8_odds 26 = .ok (.invokestatic 87, 3) := dk_184 0 87 (dk_at dksX8_odds_1 3 rfl rfl)
theorem dX8_odds_29 : decode cX8_odds 29 = .ok (.ifCond .eq 28, 3) := dk_153 0 28 (dk_at dksX8_odds_1 6 rfl rfl)
theorem dX8_odds_32 : decode cX8_odds 32 = .ok (.iload 4, 2) := dk_21 4 (dk_at dksX8_odds_1 9 rfl rfl)
theorem dX8_odds_34 : decode cX8_odds 34 = .ok (.i2l, 1) := dk_133 (dk_at dksX8_odds_1 11 rfl rfl)
theorem dX8_odds_35 : decode cX8_odds 35 = .ok (.lconst 0, 1) := dk_9 (dk_at dksX8_odds_1 12 rfl rfl)
theorem dX8_odds_36 : decode cX8_odds 36 = .ok (.ldc2_w 91, 3) := dk_20 0 91 (dk_at dksX8_odds_1 13 rfl rfl)
theorem dX8_odds_39 : decode cX8_odds 39 = .ok (.invokestatic 87, 3) := dk_184 0 87 (dk_at dksX8_odds_1 16 rfl rfl)
theorem dX8_odds_42 : decode cX8_odds 42 = .ok (.ifCond .eq 15, 3) := dk_153 0 15 (dk_at dksX8_odds_1 19 rfl rfl)
theorem dX8_odds_45 : decode cX8_odds 45 = .ok (.aload_n 0, 1) := dk_42 (dk_at dksX8_odds_1 22 rfl rfl)
theorem dX8_odds_46 : decode cX8_odds 46 = .ok (.iload_n 1, 1) := dk_27 (dk_at dksX8_odds_1 23 rfl rfl)
theorem dX8_odds_47 : decode cX8_odds 47 = .ok (.iload_n 2, 1) := dk_28 (dk_at dksX8_odds_2 0 rfl rfl)
theorem dX8_odds_48 : decode cX8_odds 48 = .ok (.iload_n 3, 1) := dk_29 (dk_at dksX8_odds_2 1 rfl rfl)
theorem dX8_odds_49 : decode cX8_odds 49 = .ok (.iload 4, 2) := dk_21 4 (dk_at dksX8_odds_2 2 rfl rfl)
theorem dX8_odds_51 : decode cX8_odds 51 = .ok (.invokevirtual 245, 3) := dk_182 0 245 (dk_at dksX8_odds_2 4 rfl rfl)
theorem dX8_odds_54 : decode cX8_odds 54 = .ok (.goto 4, 3) := dk_167 0 4 (dk_at dksX8_odds_2 7 rfl rfl)
theorem dX8_odds_57 : decode cX8_odds 57 = .ok (.iconst (-1), 1) := dk_2 (dk_at dksX8_odds_2 10 rfl rfl)
theorem dX8_odds_58 : decode cX8_odds 58 = .ok (.ireturn, 1) := dk_172 (dk_at dksX8_odds_2 11 rfl rfl)
abbrev cX8_oddsOf : ByteArray := prog_21_method_10_code
def yX8_oddsOf : MethodName := ⟨RX8, "oddsOf", "(IIII)I"⟩
def dkwX8_oddsOf_0 : List UInt8 := [3, 42, 27, 28, 29, 182, 0, 93, 42, 180, 0, 97, 21, 4, 104, 100, 184, 0, 100, 172]
abbrev dktX8_oddsOf_0 : List UInt8 := dkwX8_oddsOf_0 ++ []
theorem dksX8_oddsOf_0 : cX8_oddsOf.data.toList.drop 0 = dktX8_oddsOf_0 := by decide +kernel
theorem dX8_oddsOf_0 : decode cX8_oddsOf 0 = .ok (.iconst 0, 1) := dk_3 (dk_at dksX8_oddsOf_0 0 rfl rfl)
theorem dX8_oddsOf_1 : decode cX8_oddsOf 1 = .ok (.aload_n 0, 1) := dk_42 (dk_at dksX8_oddsOf_0 1 rfl rfl)
theorem dX8_oddsOf_2 : decode cX8_oddsOf 2 = .ok (.iload_n 1, 1) := dk_27 (dk_at dksX8_oddsOf_0 2 rfl rfl)
theorem dX8_oddsOf_3 : decode cX8_oddsOf 3 = .ok (.iload_n 2, 1) := dk_28 (dk_at dksX8_oddsOf_0 3 rfl rfl)
theorem dX8_oddsOf_4 : decode cX8_oddsOf 4 = .ok (.iload_n 3, 1) := dk_29 (dk_at dksX8_oddsOf_0 4 rfl rfl)
theorem dX8_oddsOf_5 : decode cX8_oddsOf 5 = .ok (.invokevirtual 93, 3) := dk_182 0 93 (dk_at dksX8_oddsOf_0 5 rfl rfl)
theorem dX8_oddsOf_8 : decode cX8_oddsOf 8 = .ok (.aload_n 0, 1) := dk_42 (dk_at dksX8_oddsOf_0 8 rfl rfl)
theorem dX8_oddsOf_9 : decode cX8_oddsOf 9 = .ok (.getfield 97, 3) := dk_180 0 97 (dk_at dksX8_oddsOf_0 9 rfl rfl)
theorem dX8_oddsOf_12 : decode cX8_oddsOf 12 = .ok (.iload 4, 2) := dk_21 4 (dk_at dksX8_oddsOf_0 12 rfl rfl)
theorem dX8_oddsOf_14 : decode cX8_oddsOf 14 = .ok (.imul, 1) := dk_104 (dk_at dksX8_oddsOf_0 14 rfl rfl)
theorem dX8_oddsOf_15 : decode cX8_oddsOf 15 = .ok (.isub, 1) := dk_100 (dk_at dksX8_oddsOf_0 15 rfl rfl)
theorem dX8_oddsOf_16 : decode cX8_oddsOf 16 = .ok (.invokestatic 100, 3) := dk_184 0 100 (dk_at dksX8_oddsOf_0 16 rfl rfl)
theorem dX8_oddsOf_19 : decode cX8_oddsOf 19 = .ok (.ireturn, 1) := dk_172 (dk_at dksX8_oddsOf_0 19 rfl rfl)
abbrev cX8_tableOdds : ByteArray := prog_21_method_9_code
def yX8_tableOdds : MethodName := ⟨RX8, "tableOdds", "(III)I"⟩
def dkwX8_tableOdds_5 : List UInt8 := [180, 0, 23, 21, 7, 46, 100, 108, 100, 172, 132, 6, 1, 167, 255, 169, 3, 172]
abbrev dktX8_tableOdds_5 : List UInt8 := dkwX8_tableOdds_5 ++ []
def dkwX8_tableOdds_4 : List UInt8 := [21, 8, 46, 100, 29, 42, 180, 0, 23, 21, 7, 46, 100, 104, 42, 180, 0, 23, 21, 8, 46, 42]
abbrev dktX8_tableOdds_4 : List UInt8 := dkwX8_tableOdds_4 ++ dktX8_tableOdds_5
def dkwX8_tableOdds_3 : List UInt8 := [21, 8, 46, 163, 0, 53, 42, 180, 0, 26, 21, 7, 46, 42, 180, 0, 26, 21, 7, 46, 42, 180, 0, 26]
abbrev dktX8_tableOdds_3 : List UInt8 := dkwX8_tableOdds_3 ++ dktX8_tableOdds_4
def dkwX8_tableOdds_2 : List UInt8 := [162, 0, 86, 21, 4, 21, 6, 96, 4, 100, 54, 7, 21, 4, 21, 6, 96, 54, 8, 29, 42, 180, 0, 23]
abbrev dktX8_tableOdds_2 : List UInt8 := dkwX8_tableOdds_2 ++ dktX8_tableOdds_3
def dkwX8_tableOdds_1 : List UInt8 := [180, 0, 23, 21, 4, 46, 163, 0, 11, 42, 180, 0, 26, 21, 4, 46, 172, 4, 54, 6, 21, 6, 21, 5]
abbrev dktX8_tableOdds_1 : List UInt8 := dkwX8_tableOdds_1 ++ dktX8_tableOdds_2
def dkwX8_tableOdds_0 : List UInt8 := [16, 6, 6, 27, 104, 28, 96, 104, 54, 4, 42, 180, 0, 20, 6, 27, 104, 28, 96, 46, 54, 5, 29, 42]
abbrev dktX8_tableOdds_0 : List UInt8 := dkwX8_tableOdds_0 ++ dktX8_tableOdds_1
theorem dksX8_tableOdds_0 : cX8_tableOdds.data.toList.drop 0 = dktX8_tableOdds_0 := by decide +kernel
theorem dksX8_tableOdds_1 : cX8_tableOdds.data.toList.drop 24 = dktX8_tableOdds_1 := dk_seg dksX8_tableOdds_0 24 rfl rfl
theorem dksX8_tableOdds_2 : cX8_tableOdds.data.toList.drop 48 = dktX8_tableOdds_2 := dk_seg dksX8_tableOdds_1 24 rfl rfl
theorem dksX8_tableOdds_3 : cX8_tableOdds.data.toList.drop 72 = dktX8_tableOdds_3 := dk_seg dksX8_tableOdds_2 24 rfl rfl
theorem dksX8_tableOdds_4 : cX8_tableOdds.data.toList.drop 96 = dktX8_tableOdds_4 := dk_seg dksX8_tableOdds_3 24 rfl rfl
theorem dksX8_tableOdds_5 : cX8_tableOdds.data.toList.drop 118 = dktX8_tableOdds_5 := dk_seg dksX8_tableOdds_4 22 rfl rfl
theorem dX8_tableOdds_0 : decode cX8_tableOdds 0 = .ok (.bipush 6, 2) := dk_16 6 (dk_at dksX8_tableOdds_0 0 rfl rfl)
theorem dX8_tableOdds_2 : decode cX8_tableOdds 2 = .ok (.iconst 3, 1) := dk_6 (dk_at dksX8_tableOdds_0 2 rfl rfl)
theorem dX8_tableOdds_3 : decode cX8_tableOdds 3 = .ok (.iload_n 1, 1) := dk_27 (dk_at dksX8_tableOdds_0 3 rfl rfl)
theorem dX8_tableOdds_4 : decode cX8_tableOdds 4 = .ok (.imul, 1) := dk_104 (dk_at dksX8_tableOdds_0 4 rfl rfl)
theorem dX8_tableOdds_5 : decode cX8_tableOdds 5 = .ok (.iload_n 2, 1) := dk_28 (dk_at dksX8_tableOdds_0 5 rfl rfl)
theorem dX8_tableOdds_6 : decode cX8_tableOdds 6 = .ok (.iadd, 1) := dk_96 (dk_at dksX8_tableOdds_0 6 rfl rfl)
theorem dX8_tableOdds_7 : decode cX8_tableOdds 7 = .ok (.imul, 1) := dk_104 (dk_at dksX8_tableOdds_0 7 rfl rfl)
theorem dX8_tableOdds_8 : decode cX8_tableOdds 8 = .ok (.istore 4, 2) := dk_54 4 (dk_at dksX8_tableOdds_0 8 rfl rfl)
theorem dX8_tableOdds_10 : decode cX8_tableOdds 10 = .ok (.aload_n 0, 1) := dk_42 (dk_at dksX8_tableOdds_0 10 rfl rfl)
theorem dX8_tableOdds_11 : decode cX8_tableOdds 11 = .ok (.getfield 20, 3) := dk_180 0 20 (dk_at dksX8_tableOdds_0 11 rfl rfl)
theorem dX8_tableOdds_14 : decode cX8_tableOdds 14 = .ok (.iconst 3, 1) := dk_6 (dk_at dksX8_tableOdds_0 14 rfl rfl)
theorem dX8_tableOdds_15 : decode cX8_tableOdds 15 = .ok (.iload_n 1, 1) := dk_27 (dk_at dksX8_tableOdds_0 15 rfl rfl)
theorem dX8_tableOdds_16 : decode cX8_tableOdds 16 = .ok (.imul, 1) := dk_104 (dk_at dksX8_tableOdds_0 16 rfl rfl)
theorem dX8_tableOdds_17 : decode cX8_tableOdds 17 = .ok (.iload_n 2, 1) := dk_28 (dk_at dksX8_tableOdds_0 17 rfl rfl)
theorem dX8_tableOdds_18 : decode cX8_tableOdds 18 = .ok (.iadd, 1) := dk_96 (dk_at dksX8_tableOdds_0 18 rfl rfl)
theorem dX8_tableOdds_19 : decode cX8_tableOdds 19 = .ok (.iaload, 1) := dk_46 (dk_at dksX8_tableOdds_0 19 rfl rfl)
theorem dX8_tableOdds_20 : decode cX8_tableOdds 20 = .ok (.istore 5, 2) := dk_54 5 (dk_at dksX8_tableOdds_0 20 rfl rfl)
theorem dX8_tableOdds_22 : decode cX8_tableOdds 22 = .ok (.iload_n 3, 1) := dk_29 (dk_at dksX8_tableOdds_0 22 rfl rfl)
theorem dX8_tableOdds_23 : decode cX8_tableOdds 23 = .ok (.aload_n 0, 1) := dk_42 (dk_at dksX8_tableOdds_0 23 rfl rfl)
theorem dX8_tableOdds_24 : decode cX8_tableOdds 24 = .ok (.getfield 23, 3) := dk_180 0 23 (dk_at dksX8_tableOdds_1 0 rfl rfl)
theorem dX8_tableOdds_27 : decode cX8_tableOdds 27 = .ok (.iload 4, 2) := dk_21 4 (dk_at dksX8_tableOdds_1 3 rfl rfl)
theorem dX8_tableOdds_29 : decode cX8_tableOdds 29 = .ok (.iaload, 1) := dk_46 (dk_at dksX8_tableOdds_1 5 rfl rfl)
theorem dX8_tableOdds_30 : decode cX8_tableOdds 30 = .ok (.if_icmp .gt 11, 3) := dk_163 0 11 (dk_at dksX8_tableOdds_1 6 rfl rfl)
theorem dX8_tableOdds_33 : decode cX8_tableOdds 33 = .ok (.aload_n 0, 1) := dk_42 (dk_at dksX8_tableOdds_1 9 rfl rfl)
theorem dX8_tableOdds_34 : decode cX8_tableOdds 34 = .ok (.getfield 26, 3) := dk_180 0 26 (dk_at dksX8_tableOdds_1 10 rfl rfl)
theorem dX8_tableOdds_37 : decode cX8_tableOdds 37 = .ok (.iload 4, 2) := dk_21 4 (dk_at dksX8_tableOdds_1 13 rfl rfl)
theorem dX8_tableOdds_39 : decode cX8_tableOdds 39 = .ok (.iaload, 1) := dk_46 (dk_at dksX8_tableOdds_1 15 rfl rfl)
theorem dX8_tableOdds_40 : decode cX8_tableOdds 40 = .ok (.ireturn, 1) := dk_172 (dk_at dksX8_tableOdds_1 16 rfl rfl)
theorem dX8_tableOdds_41 : decode cX8_tableOdds 41 = .ok (.iconst 1, 1) := dk_4 (dk_at dksX8_tableOdds_1 17 rfl rfl)
theorem dX8_tableOdds_42 : decode cX8_tableOdds 42 = .ok (.istore 6, 2) := dk_54 6 (dk_at dksX8_tableOdds_1 18 rfl rfl)
theorem dX8_tableOdds_44 : decode cX8_tableOdds 44 = .ok (.iload 6, 2) := dk_21 6 (dk_at dksX8_tableOdds_1 20 rfl rfl)
theorem dX8_tableOdds_46 : decode cX8_tableOdds 46 = .ok (.iload 5, 2) := dk_21 5 (dk_at dksX8_tableOdds_1 22 rfl rfl)
theorem dX8_tableOdds_48 : decode cX8_tableOdds 48 = .ok (.if_icmp .ge 86, 3) := dk_162 0 86 (dk_at dksX8_tableOdds_2 0 rfl rfl)
theorem dX8_tableOdds_51 : decode cX8_tableOdds 51 = .ok (.iload 4, 2) := dk_21 4 (dk_at dksX8_tableOdds_2 3 rfl rfl)
theorem dX8_tableOdds_53 : decode cX8_tableOdds 53 = .ok (.iload 6, 2) := dk_21 6 (dk_at dksX8_tableOdds_2 5 rfl rfl)
theorem dX8_tableOdds_55 : decode cX8_tableOdds 55 = .ok (.iadd, 1) := dk_96 (dk_at dksX8_tableOdds_2 7 rfl rfl)
theorem dX8_tableOdds_56 : decode cX8_tableOdds 56 = .ok (.iconst 1, 1) := dk_4 (dk_at dksX8_tableOdds_2 8 rfl rfl)
theorem dX8_tableOdds_57 : decode cX8_tableOdds 57 = .ok (.isub, 1) := dk_100 (dk_at dksX8_tableOdds_2 9 rfl rfl)
theorem dX8_tableOdds_58 : decode cX8_tableOdds 58 = .ok (.istore 7, 2) := dk_54 7 (dk_at dksX8_tableOdds_2 10 rfl rfl)
theorem dX8_tableOdds_60 : decode cX8_tableOdds 60 = .ok (.iload 4, 2) := dk_21 4 (dk_at dksX8_tableOdds_2 12 rfl rfl)
theorem dX8_tableOdds_62 : decode cX8_tableOdds 62 = .ok (.iload 6, 2) := dk_21 6 (dk_at dksX8_tableOdds_2 14 rfl rfl)
theorem dX8_tableOdds_64 : decode cX8_tableOdds 64 = .ok (.iadd, 1) := dk_96 (dk_at dksX8_tableOdds_2 16 rfl rfl)
theorem dX8_tableOdds_65 : decode cX8_tableOdds 65 = .ok (.istore 8, 2) := dk_54 8 (dk_at dksX8_tableOdds_2 17 rfl rfl)
theorem dX8_tableOdds_67 : decode cX8_tableOdds 67 = .ok (.iload_n 3, 1) := dk_29 (dk_at dksX8_tableOdds_2 19 rfl rfl)
theorem dX8_tableOdds_68 : decode cX8_tableOdds 68 = .ok (.aload_n 0, 1) := dk_42 (dk_at dksX8_tableOdds_2 20 rfl rfl)
theorem dX8_tableOdds_69 : decode cX8_tableOdds 69 = .ok (.getfield 23, 3) := dk_180 0 23 (dk_at dksX8_tableOdds_2 21 rfl rfl)
theorem dX8_tableOdds_72 : decode cX8_tableOdds 72 = .ok (.iload 8, 2) := dk_21 8 (dk_at dksX8_tableOdds_3 0 rfl rfl)
theorem dX8_tableOdds_74 : decode cX8_tableOdds 74 = .ok (.iaload, 1) := dk_46 (dk_at dksX8_tableOdds_3 2 rfl rfl)
theorem dX8_tableOdds_75 : decode cX8_tableOdds 75 = .ok (.if_icmp .gt 53, 3) := dk_163 0 53 (dk_at dksX8_tableOdds_3 3 rfl rfl)
theorem dX8_tableOdds_78 : decode cX8_tableOdds 78 = .ok (.aload_n 0, 1) := dk_42 (dk_at dksX8_tableOdds_3 6 rfl rfl)
theorem dX8_tableOdds_79 : decode cX8_tableOdds 79 = .ok (.getfield 26, 3) := dk_180 0 26 (dk_at dksX8_tableOdds_3 7 rfl rfl)
theorem dX8_tableOdds_82 : decode cX8_tableOdds 82 = .ok (.iload 7, 2) := dk_21 7 (dk_at dksX8_tableOdds_3 10 rfl rfl)
theorem dX8_tableOdds_84 : decode cX8_tableOdds 84 = .ok (.iaload, 1) := dk_46 (dk_at dksX8_tableOdds_3 12 rfl rfl)
theorem dX8_tableOdds_85 : decode cX8_tableOdds 85 = .ok (.aload_n 0, 1) := dk_42 (dk_at dksX8_tableOdds_3 13 rfl rfl)
theorem dX8_tableOdds_86 : decode cX8_tableOdds 86 = .ok (.getfield 26, 3) := dk_180 0 26 (dk_at dksX8_tableOdds_3 14 rfl rfl)
theorem dX8_tableOdds_89 : decode cX8_tableOdds 89 = .ok (.iload 7, 2) := dk_21 7 (dk_at dksX8_tableOdds_3 17 rfl rfl)
theorem dX8_tableOdds_91 : decode cX8_tableOdds 91 = .ok (.iaload, 1) := dk_46 (dk_at dksX8_tableOdds_3 19 rfl rfl)
theorem dX8_tableOdds_92 : decode cX8_tableOdds 92 = .ok (.aload_n 0, 1) := dk_42 (dk_at dksX8_tableOdds_3 20 rfl rfl)
theorem dX8_tableOdds_93 : decode cX8_tableOdds 93 = .ok (.getfield 26, 3) := dk_180 0 26 (dk_at dksX8_tableOdds_3 21 rfl rfl)
theorem dX8_tableOdds_96 : decode cX8_tableOdds 96 = .ok (.iload 8, 2) := dk_21 8 (dk_at dksX8_tableOdds_4 0 rfl rfl)
theorem dX8_tableOdds_98 : decode cX8_tableOdds 98 = .ok (.iaload, 1) := dk_46 (dk_at dksX8_tableOdds_4 2 rfl rfl)
theorem dX8_tableOdds_99 : decode cX8_tableOdds 99 = .ok (.isub, 1) := dk_100 (dk_at dksX8_tableOdds_4 3 rfl rfl)
theorem dX8_tableOdds_100 : decode cX8_tableOdds 100 = .ok (.iload_n 3, 1) := dk_29 (dk_at dksX8_tableOdds_4 4 rfl rfl)
theorem dX8_tableOdds_101 : decode cX8_tableOdds 101 = .ok (.aload_n 0, 1) := dk_42 (dk_at dksX8_tableOdds_4 5 rfl rfl)
theorem dX8_tableOdds_102 : decode cX8_tableOdds 102 = .ok (.getfield 23, 3) := dk_180 0 23 (dk_at dksX8_tableOdds_4 6 rfl rfl)
theorem dX8_tableOdds_105 : decode cX8_tableOdds 105 = .ok (.iload 7, 2) := dk_21 7 (dk_at dksX8_tableOdds_4 9 rfl rfl)
theorem dX8_tableOdds_107 : decode cX8_tableOdds 107 = .ok (.iaload, 1) := dk_46 (dk_at dksX8_tableOdds_4 11 rfl rfl)
theorem dX8_tableOdds_108 : decode cX8_tableOdds 108 = .ok (.isub, 1) := dk_100 (dk_at dksX8_tableOdds_4 12 rfl rfl)
theorem dX8_tableOdds_109 : decode cX8_tableOdds 109 = .ok (.imul, 1) := dk_104 (dk_at dksX8_tableOdds_4 13 rfl rfl)
theorem dX8_tableOdds_110 : decode cX8_tableOdds 110 = .ok (.aload_n 0, 1) := dk_42 (dk_at dksX8_tableOdds_4 14 rfl rfl)
theorem dX8_tableOdds_111 : decode cX8_tableOdds 111 = .ok (.getfield 23, 3) := dk_180 0 23 (dk_at dksX8_tableOdds_4 15 rfl rfl)
theorem dX8_tableOdds_114 : decode cX8_tableOdds 114 = .ok (.iload 8, 2) := dk_21 8 (dk_at dksX8_tableOdds_4 18 rfl rfl)
theorem dX8_tableOdds_116 : decode cX8_tableOdds 116 = .ok (.iaload, 1) := dk_46 (dk_at dksX8_tableOdds_4 20 rfl rfl)
theorem dX8_tableOdds_117 : decode cX8_tableOdds 117 = .ok (.aload_n 0, 1) := dk_42 (dk_at dksX8_tableOdds_4 21 rfl rfl)
theorem dX8_tableOdds_118 : decode cX8_tableOdds 118 = .ok (.getfield 23, 3) := dk_180 0 23 (dk_at dksX8_tableOdds_5 0 rfl rfl)
theorem dX8_tableOdds_121 : decode cX8_tableOdds 121 = .ok (.iload 7, 2) := dk_21 7 (dk_at dksX8_tableOdds_5 3 rfl rfl)
theorem dX8_tableOdds_123 : decode cX8_tableOdds 123 = .ok (.iaload, 1) := dk_46 (dk_at dksX8_tableOdds_5 5 rfl rfl)
theorem dX8_tableOdds_124 : decode cX8_tableOdds 124 = .ok (.isub, 1) := dk_100 (dk_at dksX8_tableOdds_5 6 rfl rfl)
theorem dX8_tableOdds_125 : decode cX8_tableOdds 125 = .ok (.idiv, 1) := dk_108 (dk_at dksX8_tableOdds_5 7 rfl rfl)
theorem dX8_tableOdds_126 : decode cX8_tableOdds 126 = .ok (.isub, 1) := dk_100 (dk_at dksX8_tableOdds_5 8 rfl rfl)
theorem dX8_tableOdds_127 : decode cX8_tableOdds 127 = .ok (.ireturn, 1) := dk_172 (dk_at dksX8_tableOdds_5 9 rfl rfl)
theorem dX8_tableOdds_128 : decode cX8_tableOdds 128 = .ok (.iinc 6 1, 3) := dk_132 6 1 (dk_at dksX8_tableOdds_5 10 rfl rfl)
theorem dX8_tableOdds_131 : decode cX8_tableOdds 131 = .ok (.goto (-87), 3) := dk_167 255 169 (dk_at dksX8_tableOdds_5 13 rfl rfl)
theorem dX8_tableOdds_134 : decode cX8_tableOdds 134 = .ok (.iconst 0, 1) := dk_3 (dk_at dksX8_tableOdds_5 16 rfl rfl)
theorem dX8_tableOdds_135 : decode cX8_tableOdds 135 = .ok (.ireturn, 1) := dk_172 (dk_at dksX8_tableOdds_5 17 rfl rfl)