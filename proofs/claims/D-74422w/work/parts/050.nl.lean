set_option maxRecDepth 100000
/-! NextLoad -/
set_option maxRecDepth 100000
def RX1 : String := "NextLoad"
def TX1 : u_T := fun k => match k with
  | 0 => ("NextLoad", "lifters", "Ljava/util/ArrayList;", true)
  | 1 => ("NextLoad", "tire", "I", false)
  | 2 => ("NextLoad", "meet", "LNextLoad$Meet;", true)
  | 3 => ("NextLoad", "trial", "LNextLoad$Meet;", true)
  | 4 => ("NextLoad", "text", "[B", true)
  | 5 => ("NextLoad", "typed", "I", false)
  | 6 => ("NextLoad", "row", "[J", true)
  | 7 => ("NextLoad", "rowMany", "I", false)
  | 8 => ("NextLoad", "triedBy", "[I", true)
  | 9 => ("NextLoad", "triedIn", "[I", true)
  | 10 => ("NextLoad", "triedAt", "[I", true)
  | 11 => ("NextLoad", "wasGood", "[Z", true)
  | 12 => ("NextLoad", "triedMany", "I", false)
  | 13 => ("NextLoad", "planned", "LNextLoad$Planned;", true)
  | 14 => ("NextLoad", "free", "LNextLoad$Free;", true)
  | 15 => ("NextLoad", "chance", "[[J", true)
  | 16 => ("NextLoad", "duel", "LNextLoad$Duel;", true)
  | _ => ("NextLoad", "drawn", "I", false)
def tyX1 : Nat → FieldType := fun k => match k with
  | 0 => .object "java/util/ArrayList"
  | 1 => .int
  | 2 => .object "NextLoad$Meet"
  | 3 => .object "NextLoad$Meet"
  | 4 => .array .byte
  | 5 => .int
  | 6 => .array .long
  | 7 => .int
  | 8 => .array .int
  | 9 => .array .int
  | 10 => .array .int
  | 11 => .array .boolean
  | 12 => .int
  | 13 => .object "NextLoad$Planned"
  | 14 => .object "NextLoad$Free"
  | 15 => .array (.array .long)
  | 16 => .object "NextLoad$Duel"
  | _ => .int
abbrev wsX10 : List Cond := u_ws RX1 TX1 18
set_option maxRecDepth 100000 in
theorem nmX1 : ∀ a, a < 18 → ∀ b, b < 18 → a ≠ b → (TX1 a).2.1 ≠ (TX1 b).2.1 := by decide +kernel
set_option maxRecDepth 100000 in
theorem tyX1_ok : ∀ k, k < 18 → parseFieldDescriptor (TX1 k).2.2.1 = some (tyX1 k) := by decide +kernel
abbrev cX1_init : ByteArray := prog_1_method_4_code
def yX1_init : MethodName := ⟨RX1, "<init>", "()V"⟩
def dkwX1_init_6 : List UInt8 := [182, 0, 100, 177]
abbrev dktX1_init_6 : List UInt8 := dkwX1_init_6 ++ []
def dkwX1_init_5 : List UInt8 := [197, 0, 88, 2, 181, 0, 90, 42, 187, 0, 93, 89, 42, 183, 0, 95, 181, 0, 96, 42, 180, 0, 45]
abbrev dktX1_init_5 : List UInt8 := dkwX1_init_5 ++ dktX1_init_6
def dkwX1_init_4 : List UInt8 := [42, 183, 0, 76, 181, 0, 77, 42, 187, 0, 81, 89, 42, 183, 0, 83, 181, 0, 84, 42, 16, 6, 16, 122]
abbrev dktX1_init_4 : List UInt8 := dkwX1_init_4 ++ dktX1_init_5
def dkwX1_init_3 : List UInt8 := [181, 0, 64, 42, 16, 54, 188, 10, 181, 0, 67, 42, 16, 54, 188, 4, 181, 0, 70, 42, 187, 0, 74, 89]
abbrev dktX1_init_3 : List UInt8 := dkwX1_init_3 ++ dktX1_init_4
def dkwX1_init_2 : List UInt8 := [181, 0, 52, 42, 16, 64, 188, 11, 181, 0, 56, 42, 16, 54, 188, 10, 181, 0, 60, 42, 16, 54, 188, 10]
abbrev dktX1_init_2 : List UInt8 := dkwX1_init_2 ++ dktX1_init_3
def dkwX1_init_1 : List UInt8 := [183, 0, 42, 181, 0, 45, 42, 187, 0, 40, 89, 42, 183, 0, 42, 181, 0, 49, 42, 17, 0, 240, 188, 8]
abbrev dktX1_init_1 : List UInt8 := dkwX1_init_1 ++ dktX1_init_2
def dkwX1_init_0 : List UInt8 := [42, 183, 0, 25, 42, 187, 0, 31, 89, 16, 6, 183, 0, 33, 181, 0, 36, 42, 187, 0, 40, 89, 42]
abbrev dktX1_init_0 : List UInt8 := dkwX1_init_0 ++ dktX1_init_1
theorem dksX1_init_0 : cX1_init.data.toList.drop 0 = dktX1_init_0 := by decide +kernel
theorem dksX1_init_1 : cX1_init.data.toList.drop 23 = dktX1_init_1 := dk_seg dksX1_init_0 23 rfl rfl
theorem dksX1_init_2 : cX1_init.data.toList.drop 47 = dktX1_init_2 := dk_seg dksX1_init_1 24 rfl rfl
theorem dksX1_init_3 : cX1_init.data.toList.drop 71 = dktX1_init_3 := dk_seg dksX1_init_2 24 rfl rfl
theorem dksX1_init_4 : cX1_init.data.toList.drop 95 = dktX1_init_4 := dk_seg dksX1_init_3 24 rfl rfl
theorem dksX1_init_5 : cX1_init.data.toList.drop 119 = dktX1_init_5 := dk_seg dksX1_init_4 24 rfl rfl
theorem dksX1_init_6 : cX1_init.data.toList.drop 142 = dktX1_init_6 := dk_seg dksX1_init_5 23 rfl rfl
theorem dX1_init_0 : decode cX1_init 0 = .ok (.aload_n 0, 1) := dk_42 (dk_at dksX1_init_0 0 rfl rfl)
theorem dX1_init_1 : decode cX1_init 1 = .ok (.invokespecial 25, 3) := dk_183 0 25 (dk_at dksX1_init_0 1 rfl rfl)
theorem dX1_init_4 : decode cX1_init 4 = .ok (.aload_n 0, 1) := dk_42 (dk_at dksX1_init_0 4 rfl rfl)
theorem dX1_init_5 : decode cX1_init 5 = .ok (.new 31, 3) := dk_187 0 31 (dk_at dksX1_init_0 5 rfl rfl)
theorem dX1_init_8 : decode cX1_init 8 = .ok (.dup, 1) := dk_89 (dk_at dksX1_init_0 8 rfl rfl)
theorem dX1_init_9 : decode cX1_init 9 = .ok (.bipush 6, 2) := dk_16 6 (dk_at dksX1_init_0 9 rfl rfl)
theorem dX1_init_11 : decode cX1_init 11 = .ok (.invokespecial 33, 3) := dk_183 0 33 (dk_at dksX1_init_0 11 rfl rfl)
theorem dX1_init_14 : decode cX1_init 14 = .ok (.putfield 36, 3) := dk_181 0 36 (dk_at dksX1_init_0 14 rfl rfl)
theorem dX1_init_17 : decode cX1_init 17 = .ok (.aload_n 0, 1) := dk_42 (dk_at dksX1_init_0 17 rfl rfl)
theorem dX1_init_18 : decode cX1_init 18 = .ok (.new 40, 3) := dk_187 0 40 (dk_at dksX1_init_0 18 rfl rfl)
theorem dX1_init_21 : decode cX1_init 21 = .ok (.dup, 1) := dk_89 (dk_at dksX1_init_0 21 rfl rfl)
theorem dX1_init_22 : decode cX1_init 22 = .ok (.aload_n 0, 1) := dk_42 (dk_at dksX1_init_0 22 rfl rfl)
theorem dX1_init_23 : decode cX1_init 23 = .ok (.invokespecial 42, 3) := dk_183 0 42 (dk_at dksX1_init_1 0 rfl rfl)
theorem dX1_init_26 : decode cX1_init 26 = .ok (.putfield 45, 3) := dk_181 0 45 (dk_at dksX1_init_1 3 rfl rfl)
theorem dX1_init_29 : decode cX1_init 29 = .ok (.aload_n 0, 1) := dk_42 (dk_at dksX1_init_1 6 rfl rfl)
theorem dX1_init_30 : decode cX1_init 30 = .ok (.new 40, 3) := dk_187 0 40 (dk_at dksX1_init_1 7 rfl rfl)
theorem dX1_init_33 : decode cX1_init 33 = .ok (.dup, 1) := dk_89 (dk_at dksX1_init_1 10 rfl rfl)
theorem dX1_init_34 : decode cX1_init 34 = .ok (.aload_n 0, 1) := dk_42 (dk_at dksX1_init_1 11 rfl rfl)
theorem dX1_init_35 : decode cX1_init 35 = .ok (.invokespecial 42, 3) := dk_183 0 42 (dk_at dksX1_init_1 12 rfl rfl)
theorem dX1_init_38 : decode cX1_init 38 = .ok (.putfield 49, 3) := dk_181 0 49 (dk_at dksX1_init_1 15 rfl rfl)
theorem dX1_init_41 : decode cX1_init 41 = .ok (.aload_n 0, 1) := dk_42 (dk_at dksX1_init_1 18 rfl rfl)
theorem dX1_init_42 : decode cX1_init 42 = .ok (.sipush 240, 3) := dk_17 0 240 (dk_at dksX1_init_1 19 rfl rfl)
theorem dX1_init_45 : decode cX1_init 45 = .ok (.newarray .byte, 2) := dk_188_8 (dk_at dksX1_init_1 22 rfl rfl)
theorem dX1_init_47 : decode cX1_init 47 = .ok (.putfield 52, 3) := dk_181 0 52 (dk_at dksX1_init_2 0 rfl rfl)
theorem dX1_init_50 : decode cX1_init 50 = .ok (.aload_n 0, 1) := dk_42 (dk_at dksX1_init_2 3 rfl rfl)
theorem dX1_init_51 : decode cX1_init 51 = .ok (.bipush 64, 2) := dk_16 64 (dk_at dksX1_init_2 4 rfl rfl)
theorem dX1_init_53 : decode cX1_init 53 = .ok (.newarray .long, 2) := dk_188_11 (dk_at dksX1_init_2 6 rfl rfl)
theorem dX1_init_55 : decode cX1_init 55 = .ok (.putfield 56, 3) := dk_181 0 56 (dk_at dksX1_init_2 8 rfl rfl)
theorem dX1_init_58 : decode cX1_init 58 = .ok (.aload_n 0, 1) := dk_42 (dk_at dksX1_init_2 11 rfl rfl)
theorem dX1_init_59 : decode cX1_init 59 = .ok (.bipush 54, 2) := dk_16 54 (dk_at dksX1_init_2 12 rfl rfl)
theorem dX1_init_61 : decode cX1_init 61 = .ok (.newarray .int, 2) := dk_188_10 (dk_at dksX1_init_2 14 rfl rfl)
theorem dX1_init_63 : decode cX1_init 63 = .ok (.putfield 60, 3) := dk_181 0 60 (dk_at dksX1_init_2 16 rfl rfl)
theorem dX1_init_66 : decode cX1_init 66 = .ok (.aload_n 0, 1) := dk_42 (dk_at dksX1_init_2 19 rfl rfl)
theorem dX1_init_67 : decode cX1_init 67 = .ok (.bipush 54, 2) := dk_16 54 (dk_at dksX1_init_2 20 rfl rfl)
theorem dX1_init_69 : decode cX1_init 69 = .ok (.newarray .int, 2) := dk_188_10 (dk_at dksX1_init_2 22 rfl rfl)
theorem dX1_init_71 : decode cX1_init 71 = .ok (.putfield 64, 3) := dk_181 0 64 (dk_at dksX1_init_3 0 rfl rfl)
theorem dX1_init_74 : decode cX1_init 74 = .ok (.aload_n 0, 1) := dk_42 (dk_at dksX1_init_3 3 rfl rfl)
theorem dX1_init_75 : decode cX1_init 75 = .ok (.bipush 54, 2) := dk_16 54 (dk_at dksX1_init_3 4 rfl rfl)
theorem dX1_init_77 : decode cX1_init 77 = .ok (.newarray .int, 2) := dk_188_10 (dk_at dksX1_init_3 6 rfl rfl)
theorem dX1_init_79 : decode cX1_init 79 = .ok (.putfield 67, 3) := dk_181 0 67 (dk_at dksX1_init_3 8 rfl rfl)
theorem dX1_init_82 : decode cX1_init 82 = .ok (.aload_n 0, 1) := dk_42 (dk_at dksX1_init_3 11 rfl rfl)
theorem dX1_init_83 : decode cX1_init 83 = .ok (.bipush 54, 2) := dk_16 54 (dk_at dksX1_init_3 12 rfl rfl)
theorem dX1_init_85 : decode cX1_init 85 = .ok (.newarray .boolean, 2) := dk_188_4 (dk_at dksX1_init_3 14 rfl rfl)
theorem dX1_init_87 : decode cX1_init 87 = .ok (.putfield 70, 3) := dk_181 0 70 (dk_at dksX1_init_3 16 rfl rfl)
theorem dX1_init_90 : decode cX1_init 90 = .ok (.aload_n 0, 1) := dk_42 (dk_at dksX1_init_3 19 rfl rfl)
theorem dX1_init_91 : decode cX1_init 91 = .ok (.new 74, 3) := dk_187 0 74 (dk_at dksX1_init_3 20 rfl rfl)
theorem dX1_init_94 : decode cX1_init 94 = .ok (.dup, 1) := dk_89 (dk_at dksX1_init_3 23 rfl rfl)
theorem dX1_init_95 : decode cX1_init 95 = .ok (.aload_n 0, 1) := dk_42 (dk_at dksX1_init_4 0 rfl rfl)
theorem dX1_init_96 : decode cX1_init 96 = .ok (.invokespecial 76, 3) := dk_183 0 76 (dk_at dksX1_init_4 1 rfl rfl)
theorem dX1_init_99 : decode cX1_init 99 = .ok (.putfield 77, 3) := dk_181 0 77 (dk_at dksX1_init_4 4 rfl rfl)
theorem dX1_init_102 : decode cX1_init 102 = .ok (.aload_n 0, 1) := dk_42 (dk_at dksX1_init_4 7 rfl rfl)
theorem dX1_init_103 : decode cX1_init 103 = .ok (.new 81, 3) := dk_187 0 81 (dk_at dksX1_init_4 8 rfl rfl)
theorem dX1_init_106 : decode cX1_init 106 = .ok (.dup, 1) := dk_89 (dk_at dksX1_init_4 11 rfl rfl)
theorem dX1_init_107 : decode cX1_init 107 = .ok (.aload_n 0, 1) := dk_42 (dk_at dksX1_init_4 12 rfl rfl)
theorem dX1_init_108 : decode cX1_init 108 = .ok (.invokespecial 83, 3) := dk_183 0 83 (dk_at dksX1_init_4 13 rfl rfl)
theorem dX1_init_111 : decode cX1_init 111 = .ok (.putfield 84, 3) := dk_181 0 84 (dk_at dksX1_init_4 16 rfl rfl)
theorem dX1_init_114 : decode cX1_init 114 = .ok (.aload_n 0, 1) := dk_42 (dk_at dksX1_init_4 19 rfl rfl)
theorem dX1_init_115 : decode cX1_init 115 = .ok (.bipush 6, 2) := dk_16 6 (dk_at dksX1_init_4 20 rfl rfl)
theorem dX1_init_117 : decode cX1_init 117 = .ok (.bipush 122, 2) := dk_16 122 (dk_at dksX1_init_4 22 rfl rfl)
theorem dX1_init_119 : decode cX1_init 119 = .ok (.multianewarray 88 2, 4) := by decide +kernel
theorem dX1_init_123 : decode cX1_init 123 = .ok (.putfield 90, 3) := dk_181 0 90 (dk_at dksX1_init_5 4 rfl rfl)
theorem dX1_init_126 : decode cX1_init 126 = .ok (.aload_n 0, 1) := dk_42 (dk_at dksX1_init_5 7 rfl rfl)
theorem dX1_init_127 : decode cX1_init 127 = .ok (.new 93, 3) := dk_187 0 93 (dk_at dksX1_init_5 8 rfl rfl)
theorem dX1_init_130 : decode cX1_init 130 = .ok (.dup, 1) := dk_89 (dk_at dksX1_init_5 11 rfl rfl)
theorem dX1_init_131 : decode cX1_init 131 = .ok (.aload_n 0, 1) := dk_42 (dk_at dksX1_init_5 12 rfl rfl)
theorem dX1_init_132 : decode cX1_init 132 = .ok (.invokespecial 95, 3) := dk_183 0 95 (dk_at dksX1_init_5 13 rfl rfl)
theorem dX1_init_135 : decode cX1_init 135 = .ok (.putfield 96, 3) := dk_181 0 96 (dk_at dksX1_init_5 16 rfl rfl)
theorem dX1_init_138 : decode cX1_init 138 = .ok (.aload_n 0, 1) := dk_42 (dk_at dksX1_init_5 19 rfl rfl)
theorem dX1_init_139 : decode cX1_init 139 = .ok (.getfield 45, 3) := dk_180 0 45 (dk_at dksX1_init_5 20 rfl rfl)
theorem dX1_init_142 : decode cX1_init 142 = .ok (.invokevirtual 100, 3) := dk_182 0 100 (dk_at dksX1_init_6 0 rfl rfl)
theorem dX1_init_145 : decode cX1_init 145 = .ok (.return_, 1) := dk_177 (dk_at dksX1_init_6 3 rfl rfl)
abbrev cX1_sign : ByteArray := prog_1_method_8_code
def yX1_sign : MethodName := ⟨RX1, "sign", "(I)I"⟩
def dkwX1_sign_2 : List UInt8 := [132, 2, 248, 167, 255, 226, 42, 180, 0, 116, 172]
abbrev dktX1_sign_2 : List UInt8 := dkwX1_sign_2 ++ []
def dkwX1_sign_1 : List UInt8 := [180, 0, 52, 42, 180, 0, 116, 27, 28, 122, 145, 84, 42, 89, 180, 0, 116, 4, 96, 181, 0, 116]
abbrev dktX1_sign_1 : List UInt8 := dkwX1_sign_1 ++ dktX1_sign_2
def dkwX1_sign_0 : List UInt8 := [42, 180, 0, 116, 7, 96, 17, 0, 240, 164, 0, 5, 2, 172, 16, 24, 61, 28, 155, 0, 32, 42]
abbrev dktX1_sign_0 : List UInt8 := dkwX1_sign_0 ++ dktX1_sign_1
theorem dksX1_sign_0 : cX1_sign.data.toList.drop 0 = dktX1_sign_0 := by decide +kernel
theorem dksX1_sign_1 : cX1_sign.data.toList.drop 22 = dktX1_sign_1 := dk_seg dksX1_sign_0 22 rfl rfl
theorem dksX1_sign_2 : cX1_sign.data.toList.drop 44 = dktX1_sign_2 := dk_seg dksX1_sign_1 22 rfl rfl
theorem dX1_sign_0 : decode cX1_sign 0 = .ok (.aload_n 0, 1) := dk_42 (dk_at dksX1_sign_0 0 rfl rfl)
theorem dX1_sign_1 : decode cX1_sign 1 = .ok (.getfield 116, 3) := dk_180 0 116 (dk_at dksX1_sign_0 1 rfl rfl)
theorem dX1_sign_4 : decode cX1_sign 4 = .ok (.iconst 4, 1) := dk_7 (dk_at dksX1_sign_0 4 rfl rfl)
theorem dX1_sign_5 : decode cX1_sign 5 = .ok (.iadd, 1) := dk_96 (dk_at dksX1_sign_0 5 rfl rfl)
theorem dX1_sign_6 : decode cX1_sign 6 = .ok (.sipush 240, 3) := dk_17 0 240 (dk_at dksX1_sign_0 6 rfl rfl)
theorem dX1_sign_9 : decode cX1_sign 9 = .ok (.if_icmp .le 5, 3) := dk_164 0 5 (dk_at dksX1_sign_0 9 rfl rfl)
theorem dX1_sign_12 : decode cX1_sign 12 = .ok (.iconst (-1), 1) := dk_2 (dk_at dksX1_sign_0 12 rfl rfl)
theorem dX1_sign_13 : decode cX1_sign 13 = .ok (.ireturn, 1) := dk_172 (dk_at dksX1_sign_0 13 rfl rfl)
theorem dX1_sign_14 : decode cX1_sign 14 = .ok (.bipush 24, 2) := dk_16 24 (dk_at dksX1_sign_0 14 rfl rfl)
theorem dX1_sign_16 : decode cX1_sign 16 = .ok (.istore_n 2, 1) := dk_61 (dk_at dksX1_sign_0 16 rfl rfl)
theorem dX1_sign_17 : decode cX1_sign 17 = .ok (.iload_n 2, 1) := dk_28 (dk_at dksX1_sign_0 17 rfl rfl)
theorem dX1_sign_18 : decode cX1_sign 18 = .ok (.ifCond .lt 32, 3) := dk_155 0 32 (dk_at dksX1_sign_0 18 rfl rfl)
theorem dX1_sign_21 : decode cX1_sign 21 = .ok (.aload_n 0, 1) := dk_42 (dk_at dksX1_sign_0 21 rfl rfl)
theorem dX1_sign_22 : decode cX1_sign 22 = .ok (.getfield 52, 3) := dk_180 0 52 (dk_at dksX1_sign_1 0 rfl rfl)
theorem dX1_sign_25 : decode cX1_sign 25 = .ok (.aload_n 0, 1) := dk_42 (dk_at dksX1_sign_1 3 rfl rfl)
theorem dX1_sign_26 : decode cX1_sign 26 = .ok (.getfield 116, 3) := dk_180 0 116 (dk_at dksX1_sign_1 4 rfl rfl)
theorem dX1_sign_29 : decode cX1_sign 29 = .ok (.iload_n 1, 1) := dk_27 (dk_at dksX1_sign_1 7 rfl rfl)
theorem dX1_sign_30 : decode cX1_sign 30 = .ok (.iload_n 2, 1) := dk_28 (dk_at dksX1_sign_1 8 rfl rfl)
theorem dX1_sign_31 : decode cX1_sign 31 = .ok (.ishr, 1) := dk_122 (dk_at dksX1_sign_1 9 rfl rfl)
theorem dX1_sign_32 : decode cX1_sign 32 = .ok (.i2b, 1) := dk_145 (dk_at dksX1_sign_1 10 rfl rfl)
theorem dX1_sign_33 : decode cX1_sign 33 = .ok (.bastore, 1) := dk_84 (dk_at dksX1_sign_1 11 rfl rfl)
theorem dX1_sign_34 : decode cX1_sign 34 = .ok (.aload_n 0, 1) := dk_42 (dk_at dksX1_sign_1 12 rfl rfl)
theorem dX1_sign_35 : decode cX1_sign 35 = .ok (.dup, 1) := dk_89 (dk_at dksX1_sign_1 13 rfl rfl)
theorem dX1_sign_36 : decode cX1_sign 36 = .ok (.getfield 116, 3) := dk_180 0 116 (dk_at dksX1_sign_1 14 rfl rfl)
theorem dX1_sign_39 : decode cX1_sign 39 = .ok (.iconst 1, 1) := dk_4 (dk_at dksX1_sign_1 17 rfl rfl)
theorem dX1_sign_40 : decode cX1_sign 40 = .ok (.iadd, 1) := dk_96 (dk_at dksX1_sign_1 18 rfl rfl)
theorem dX1_sign_41 : decode cX1_sign 41 = .ok (.putfield 116, 3) := dk_181 0 116 (dk_at dksX1_sign_1 19 rfl rfl)
theorem dX1_sign_44 : decode cX1_sign 44 = .ok (.iinc 2 (-8), 3) := dk_132 2 248 (dk_at dksX1_sign_2 0 rfl rfl)
theorem dX1_sign_47 : decode cX1_sign 47 = .ok (.goto (-30), 3) := dk_167 255 226 (dk_at dksX1_sign_2 3 rfl rfl)
theorem dX1_sign_50 : decode cX1_sign 50 = .ok (.aload_n 0, 1) := dk_42 (dk_at dksX1_sign_2 6 rfl rfl)
theorem dX1_sign_51 : decode cX1_sign 51 = .ok (.getfield 116, 3) := dk_180 0 116 (dk_at dksX1_sign_2 7 rfl rfl)
theorem dX1_sign_54 : decode cX1_sign 54 = .ok (.ireturn, 1) := dk_172 (dk_at dksX1_sign_2 10 rfl rfl)
abbrev cX1_end : ByteArray := prog_1_method_9_code
def yX1_end : MethodName := ⟨RX1, "end", "(I)Z"⟩
def dkwX1_end_0 : List UInt8 := [27, 133, 9, 42, 180, 0, 116, 133, 184, 0, 110, 154, 0, 5, 3, 172, 42, 27, 181, 0, 116, 4, 172]
abbrev dktX1_end_0 : List UInt8 := dkwX1_end_0 ++ []
theorem dksX1_end_0 : cX1_end.data.toList.drop 0 = dktX1_end_0 := by decide +kernel
theorem dX1_end_0 : decode cX1_end 0 = .ok (.iload_n 1, 1) := dk_27 (dk_at dksX1_end_0 0 rfl rfl)
theorem dX1_end_1 : decode cX1_end 1 = .ok (.i2l, 1) := dk_133 (dk_at dksX1_end_0 1 rfl rfl)
theorem dX1_end_2 : decode cX1_end 2 = .ok (.lconst 0, 1) := dk_9 (dk_at dksX1_end_0 2 rfl rfl)
theorem dX1_end_3 : decode cX1_end 3 = .ok (.aload_n 0, 1) := dk_42 (dk_at dksX1_end_0 3 rfl rfl)
theorem dX1_end_4 : decode cX1_end 4 = .ok (.getfield 116, 3) := dk_180 0 116 (dk_at dksX1_end_0 4 rfl rfl)
theorem dX1_end_7 : decode cX1_end 7 = .ok (.i2l, 1) := dk_133 (dk_at dksX1_end_0 7 rfl rfl)
theorem dX1_end_8 : decode cX1_end 8 = .ok (.invokestatic 110, 3) := dk_184 0 110 (dk_at dksX1_end_0 8 rfl rfl)
theorem dX1_end_11 : decode cX1_end 11 = .ok (.ifCond .ne 5, 3) := dk_154 0 5 (dk_at dksX1_end_0 11 rfl rfl)
theorem dX1_end_14 : decode cX1_end 14 = .ok (.iconst 0, 1) := dk_3 (dk_at dksX1_end_0 14 rfl rfl)
theorem dX1_end_15 : decode cX1_end 15 = .ok (.ireturn, 1) := dk_172 (dk_at dksX1_end_0 15 rfl rfl)
theorem dX1_end_16 : decode cX1_end 16 = .ok (.aload_n 0, 1) := dk_42 (dk_at dksX1_end_0 16 rfl rfl)
theorem dX1_end_17 : decode cX1_end 17 = .ok (.iload_n 1, 1) := dk_27 (dk_at dksX1_end_0 17 rfl rfl)
theorem dX1_end_18 : decode cX1_end 18 = .ok (.putfield 116, 3) := dk_181 0 116 (dk_at dksX1_end_0 18 rfl rfl)
theorem dX1_end_21 : decode cX1_end 21 = .ok (.iconst 1, 1) := dk_4 (dk_at dksX1_end_0 21 rfl rfl)
theorem dX1_end_22 : decode cX1_end 22 = .ok (.ireturn, 1) := dk_172 (dk_at dksX1_end_0 22 rfl rfl)
abbrev cX1_in : ByteArray := prog_1_method_1_code
def yX1_in : MethodName := ⟨RX1, "in", "(JJJ)Z"⟩
def dkwX1_in_0 : List UInt8 := [30, 32, 148, 155, 0, 14, 30, 22, 4, 148, 157, 0, 7, 4, 167, 0, 4, 3, 172]
abbrev dktX1_in_0 : List UInt8 := dkwX1_in_0 ++ []
theorem dksX1_in_0 : cX1_in.data.toList.drop 0 = dktX1_in_0 := by decide +kernel
theorem dX1_in_0 : decode cX1_in 0 = .ok (.lload_n 0, 1) := dk_30 (dk_at dksX1_in_0 0 rfl rfl)
theorem dX1_in_1 : decode cX1_in 1 = .ok (.lload_n 2, 1) := dk_32 (dk_at dksX1_in_0 1 rfl rfl)
theorem dX1_in_2 : decode cX1_in 2 = .ok (.lcmp, 1) := dk_148 (dk_at dksX1_in_0 2 rfl rfl)
theorem dX1_in_3 : decode cX1_in 3 = .ok (.ifCond .lt 14, 3) := dk_155 0 14 (dk_at dksX1_in_0 3 rfl rfl)
theorem dX1_in_6 : decode cX1_in 6 = .ok (.lload_n 0, 1) := dk_30 (dk_at dksX1_in_0 6 rfl rfl)
theorem dX1_in_7 : decode cX1_in 7 = .ok (.lload 4, 2) := dk_22 4 (dk_at dksX1_in_0 7 rfl rfl)
theorem dX1_in_9 : decode cX1_in 9 = .ok (.lcmp, 1) := dk_148 (dk_at dksX1_in_0 9 rfl rfl)
theorem dX1_in_10 : decode cX1_in 10 = .ok (.ifCond .gt 7, 3) := dk_157 0 7 (dk_at dksX1_in_0 10 rfl rfl)
theorem dX1_in_13 : decode cX1_in 13 = .ok (.iconst 1, 1) := dk_4 (dk_at dksX1_in_0 13 rfl rfl)
theorem dX1_in_14 : decode cX1_in 14 = .ok (.goto 4, 3) := dk_167 0 4 (dk_at dksX1_in_0 14 rfl rfl)
theorem dX1_in_17 : decode cX1_in 17 = .ok (.iconst 0, 1) := dk_3 (dk_at dksX1_in_0 17 rfl rfl)
theorem dX1_in_18 : decode cX1_in 18 = .ok (.ireturn, 1) := dk_172 (dk_at dksX1_in_0 18 rfl rfl)
abbrev cX1_enters : ByteArray := prog_1_method_11_code
def yX1_enters : MethodName := ⟨RX1, "enters", "()I"⟩
def dkwX1_enters_2 : List UInt8 := [16, 254, 172, 42, 180, 0, 36, 44, 182, 0, 136, 87, 42, 182, 0, 140, 4, 100, 172]
abbrev dktX1_enters_2 : List UInt8 := dkwX1_enters_2 ++ []
def dkwX1_enters_1 : List UInt8 := [167, 0, 12, 78, 16, 235, 45, 180, 0, 133, 100, 172, 42, 180, 0, 36, 182, 0, 106, 16, 6, 160, 0, 6]
abbrev dktX1_enters_1 : List UInt8 := dkwX1_enters_1 ++ dktX1_enters_2
def dkwX1_enters_0 : List UInt8 := [42, 180, 0, 116, 60, 42, 3, 181, 0, 116, 187, 0, 122, 89, 42, 27, 183, 0, 124, 182, 0, 127, 77]
abbrev dktX1_enters_0 : List UInt8 := dkwX1_enters_0 ++ dktX1_enters_1
theorem dksX1_enters_0 : cX1_enters.data.toList.drop 0 = dktX1_enters_0 := by decide +kernel
theorem dksX1_enters_1 : cX1_enters.data.toList.drop 23 = dktX1_enters_1 := dk_seg dksX1_enters_0 23 rfl rfl
theorem dksX1_enters_2 : cX1_enters.data.toList.drop 47 = dktX1_enters_2 := dk_seg dksX1_enters_1 24 rfl rfl
theorem dX1_enters_0 : decode cX1_enters 0 = .ok (.aload_n 0, 1) := dk_42 (dk_at dksX1_enters_0 0 rfl rfl)
theorem dX1_enters_1 : decode cX1_enters 1 = .ok (.getfield 116, 3) := dk_180 0 116 (dk_at dksX1_enters_0 1 rfl rfl)
theorem dX1_enters_4 : decode cX1_enters 4 = .ok (.istore_n 1, 1) := dk_60 (dk_at dksX1_enters_0 4 rfl rfl)
theorem dX1_enters_5 : decode cX1_enters 5 = .ok (.aload_n 0, 1) := dk_42 (dk_at dksX1_enters_0 5 rfl rfl)
theorem dX1_enters_6 : decode cX1_enters 6 = .ok (.iconst 0, 1) := dk_3 (dk_at dksX1_enters_0 6 rfl rfl)
theorem dX1_enters_7 : decode cX1_enters 7 = .ok (.putfield 116, 3) := dk_181 0 116 (dk_at dksX1_enters_0 7 rfl rfl)
theorem dX1_enters_10 : decode cX1_enters 10 = .ok (.new 122, 3) := dk_187 0 122 (dk_at dksX1_enters_0 10 rfl rfl)
theorem dX1_enters_13 : decode cX1_enters 13 = .ok (.dup, 1) := dk_89 (dk_at dksX1_enters_0 13 rfl rfl)
theorem dX1_enters_14 : decode cX1_enters 14 = .ok (.aload_n 0, 1) := dk_42 (dk_at dksX1_enters_0 14 rfl rfl)
theorem dX1_enters_15 : decode cX1_enters 15 = .ok (.iload_n 1, 1) := dk_27 (dk_at dksX1_enters_0 15 rfl rfl)
theorem dX1_enters_16 : decode cX1_enters 16 = .ok (.invokespecial 124, 3) := dk_183 0 124 (dk_at dksX1_enters_0 16 rfl rfl)
theorem dX1_enters_19 : decode cX1_enters 19 = .ok (.invokevirtual 127, 3) := dk_182 0 127 (dk_at dksX1_enters_0 19 rfl rfl)
theorem dX1_enters_22 : decode cX1_enters 22 = .ok (.astore_n 2, 1) := dk_77 (dk_at dksX1_enters_0 22 rfl rfl)
theorem dX1_enters_23 : decode cX1_enters 23 = .ok (.goto 12, 3) := dk_167 0 12 (dk_at dksX1_enters_1 0 rfl rfl)
theorem dX1_enters_26 : decode cX1_enters 26 = .ok (.astore_n 3, 1) := dk_78 (dk_at dksX1_enters_1 3 rfl rfl)
theorem dX1_enters_27 : decode cX1_enters 27 = .ok (.bipush (-21), 2) := dk_16 235 (dk_at dksX1_enters_1 4 rfl rfl)
theorem dX1_enters_29 : decode cX1_enters 29 = .ok (.aload_n 3, 1) := dk_45 (dk_at dksX1_enters_1 6 rfl rfl)
theorem dX1_enters_30 : decode cX1_enters 30 = .ok (.getfield 133, 3) := dk_180 0 133 (dk_at dksX1_enters_1 7 rfl rfl)
theorem dX1_enters_33 : decode cX1_enters 33 = .ok (.isub, 1) := dk_100 (dk_at dksX1_enters_1 10 rfl rfl)
theorem dX1_enters_34 : decode cX1_enters 34 = .ok (.ireturn, 1) := dk_172 (dk_at dksX1_enters_1 11 rfl rfl)
theorem dX1_enters_35 : decode cX1_enters 35 = .ok (.aload_n 0, 1) := dk_42 (dk_at dksX1_enters_1 12 rfl rfl)
theorem dX1_enters_36 : decode cX1_enters 36 = .ok (.getfield 36, 3) := dk_180 0 36 (dk_at dksX1_enters_1 13 rfl rfl)
theorem dX1_enters_39 : decode cX1_enters 39 = .ok (.invokevirtual 106, 3) := dk_182 0 106 (dk_at dksX1_enters_1 16 rfl rfl)
theorem dX1_enters_42 : decode cX1_enters 42 = .ok (.bipush 6, 2) := dk_16 6 (dk_at dksX1_enters_1 19 rfl rfl)
theorem dX1_enters_44 : decode cX1_enters 44 = .ok (.if_icmp .ne 6, 3) := dk_160 0 6 (dk_at dksX1_enters_1 21 rfl rfl)
theorem dX1_enters_47 : decode cX1_enters 47 = .ok (.bipush (-2), 2) := dk_16 254 (dk_at dksX1_enters_2 0 rfl rfl)
theorem dX1_enters_49 : decode cX1_enters 49 = .ok (.ireturn, 1) := dk_172 (dk_at dksX1_enters_2 2 rfl rfl)
theorem dX1_enters_50 : decode cX1_enters 50 = .ok (.aload_n 0, 1) := dk_42 (dk_at dksX1_enters_2 3 rfl rfl)
theorem dX1_enters_51 : decode cX1_enters 51 = .ok (.getfield 36, 3) := dk_180 0 36 (dk_at dksX1_enters_2 4 rfl rfl)
theorem dX1_enters_54 : decode cX1_enters 54 = .ok (.aload_n 2, 1) := dk_44 (dk_at dksX1_enters_2 7 rfl rfl)
theorem dX1_enters_55 : decode cX1_enters 55 = .ok (.invokevirtual 136, 3) := dk_182 0 136 (dk_at dksX1_enters_2 8 rfl rfl)
theorem dX1_enters_58 : decode cX1_enters 58 = .ok (.pop, 1) := dk_87 (dk_at dksX1_enters_2 11 rfl rfl)
theorem dX1_enters_59 : decode cX1_enters 59 = .ok (.aload_n 0, 1) := dk_42 (dk_at dksX1_enters_2 12 rfl rfl)
theorem dX1_enters_60 : decode cX1_enters 60 = .ok (.invokevirtual 140, 3) := dk_182 0 140 (dk_at dksX1_enters_2 13 rfl rfl)
theorem dX1_enters_63 : decode cX1_enters 63 = .ok (.iconst 1, 1) := dk_4 (dk_at dksX1_enters_2 16 rfl rfl)
theorem dX1_enters_64 : decode cX1_enters 64 = .ok (.isub, 1) := dk_100 (dk_at dksX1_enters_2 17 rfl rfl)
theorem dX1_enters_65 : decode cX1_enters 65 = .ok (.ireturn, 1) := dk_172 (dk_at dksX1_enters_2 18 rfl rfl)
abbrev cX1_beginsAnew : ByteArray := prog_1_method_10_code
def yX1_beginsAnew : MethodName := ⟨RX1, "beginsAnew", "()I"⟩
def dkwX1_beginsAnew_0 : List UInt8 := [42, 180, 0, 45, 182, 0, 100, 42, 3, 181, 0, 119, 42, 180, 0, 36, 182, 0, 106, 172]
abbrev dktX1_beginsAnew_0 : List UInt8 := dkwX1_beginsAnew_0 ++ []
theorem dksX1_beginsAnew_0 : cX1_beginsAnew.data.toList.drop 0 = dktX1_beginsAnew_0 := by decide +kernel
theorem dX1_beginsAnew_0 : decode cX1_beginsAnew 0 = .ok (.aload_n 0, 1) := dk_42 (dk_at dksX1_beginsAnew_0 0 rfl rfl)
theorem dX1_beginsAnew_1 : decode cX1_beginsAnew 1 = .ok (.getfield 45, 3) := dk_180 0 45 (dk_at dksX1_beginsAnew_0 1 rfl rfl)
theorem dX1_beginsAnew_4 : decode cX1_beginsAnew 4 = .ok (.invokevirtual 100, 3) := dk_182 0 100 (dk_at dksX1_beginsAnew_0 4 rfl rfl)
theorem dX1_beginsAnew_7 : decode cX1_beginsAnew 7 = .ok (.aload_n 0, 1) := dk_42 (dk_at dksX1_beginsAnew_0 7 rfl rfl)
theorem dX1_beginsAnew_8 : decode cX1_beginsAnew 8 = .ok (.iconst 0, 1) := dk_3 (dk_at dksX1_beginsAnew_0 8 rfl rfl)
theorem dX1_beginsAnew_9 : decode cX1_beginsAnew 9 = .ok (.putfield 119, 3) := dk_181 0 119 (dk_at dksX1_beginsAnew_0 9 rfl rfl)
theorem dX1_beginsAnew_12 : decode cX1_beginsAnew 12 = .ok (.aload_n 0, 1) := dk_42 (dk_at dksX1_beginsAnew_0 12 rfl rfl)
theorem dX1_beginsAnew_13 : decode cX1_beginsAnew 13 = .ok (.getfield 36, 3) := dk_180 0 36 (dk_at dksX1_beginsAnew_0 13 rfl rfl)
theorem dX1_beginsAnew_16 : decode cX1_beginsAnew 16 = .ok (.invokevirtual 106, 3) := dk_182 0 106 (dk_at dksX1_beginsAnew_0 16 rfl rfl)
theorem dX1_beginsAnew_19 : decode cX1_beginsAnew 19 = .ok (.ireturn, 1) := dk_172 (dk_at dksX1_beginsAnew_0 19 rfl rfl)
abbrev cX1_leaves : ByteArray := prog_1_method_12_code
def yX1_leaves : MethodName := ⟨RX1, "leaves", "()I"⟩
def dkwX1_leaves_1 : List UInt8 := [4, 100, 182, 0, 147, 87, 42, 182, 0, 140, 172]
abbrev dktX1_leaves_1 : List UInt8 := dkwX1_leaves_1 ++ []
def dkwX1_leaves_0 : List UInt8 := [42, 180, 0, 36, 182, 0, 143, 153, 0, 6, 16, 254, 172, 42, 180, 0, 36, 42, 180, 0, 36, 182, 0, 106]
abbrev dktX1_leaves_0 : List UInt8 := dkwX1_leaves_0 ++ dktX1_leaves_1
theorem dksX1_leaves_0 : cX1_leaves.data.toList.drop 0 = dktX1_leaves_0 := by decide +kernel
theorem dksX1_leaves_1 : cX1_leaves.data.toList.drop 24 = dktX1_leaves_1 := dk_seg dksX1_leaves_0 24 rfl rfl
theorem dX1_leaves_0 : decode cX1_leaves 0 = .ok (.aload_n 0, 1) := dk_42 (dk_at dksX1_leaves_0 0 rfl rfl)
theorem dX1_leaves_1 : decode cX1_leaves 1 = .ok (.getfield 36, 3) := dk_180 0 36 (dk_at dksX1_leaves_0 1 rfl rfl)
theorem dX1_leaves_4 : decode cX1_leaves 4 = .ok (.invokevirtual 143, 3) := dk_182 0 143 (dk_at dksX1_leaves_0 4 rfl rfl)
theorem dX1_leaves_7 : decode cX1_leaves 7 = .ok (.ifCond .eq 6, 3) := dk_153 0 6 (dk_at dksX1_leaves_0 7 rfl rfl)
theorem dX1_leaves_10 : decode cX1_leaves 10 = .ok (.bipush (-2), 2) := dk_16 254 (dk_at dksX1_leaves_0 10 rfl rfl)
theorem dX1_leaves_12 : decode cX1_leaves 12 = .ok (.ireturn, 1) := dk_172 (dk_at dksX1_leaves_0 12 rfl rfl)
theorem dX1_leaves_13 : decode cX1_leaves 13 = .ok (.aload_n 0, 1) := dk_42 (dk_at dksX1_leaves_0 13 rfl rfl)
theorem dX1_leaves_14 : decode cX1_leaves 14 = .ok (.getfield 36, 3) := dk_180 0 36 (dk_at dksX1_leaves_0 14 rfl rfl)
theorem dX1_leaves_17 : decode cX1_leaves 17 = .ok (.aload_n 0, 1) := dk_42 (dk_at dksX1_leaves_0 17 rfl rfl)
theorem dX1_leaves_18 : decode cX1_leaves 18 = .ok (.getfield 36, 3) := dk_180 0 36 (dk_at dksX1_leaves_0 18 rfl rfl)
theorem dX1_leaves_21 : decode cX1_leaves 21 = .ok (.invokevirtual 106, 3) := dk_182 0 106 (dk_at dksX1_leaves_0 21 rfl rfl)
theorem dX1_leaves_24 : decode cX1_leaves 24 = .ok (.iconst 1, 1) := dk_4 (dk_at dksX1_leaves_1 0 rfl rfl)
theorem dX1_leaves_25 : decode cX1_leaves 25 = .ok (.isub, 1) := dk_100 (dk_at dksX1_leaves_1 1 rfl rfl)
theorem dX1_leaves_26 : decode cX1_leaves 26 = .ok (.invokevirtual 147, 3) := dk_182 0 147 (dk_at dksX1_leaves_1 2 rfl rfl)
theorem dX1_leaves_29 : decode cX1_leaves 29 = .ok (.pop, 1) := dk_87 (dk_at dksX1_leaves_1 5 rfl rfl)
theorem dX1_leaves_30 : decode cX1_leaves 30 = .ok (.aload_n 0, 1) := dk_42 (dk_at dksX1_leaves_1 6 rfl rfl)
theorem dX1_leaves_31 : decode cX1_leaves 31 = .ok (.invokevirtual 140, 3) := dk_182 0 140 (dk_at dksX1_leaves_1 7 rfl rfl)
theorem dX1_leaves_34 : decode cX1_leaves 34 = .ok (.ireturn, 1) := dk_172 (dk_at dksX1_leaves_1 10 rfl rfl)
abbrev cX1_plans : ByteArray := prog_1_method_13_code
def yX1_plans : MethodName := ⟨RX1, "plans", "(IIII)I"⟩
def dkwX1_plans_4 : List UInt8 := [182, 0, 140, 87, 21, 6, 172]
abbrev dktX1_plans_4 : List UInt8 := dkwX1_plans_4 ++ []
def dkwX1_plans_3 : List UInt8 := [192, 0, 2, 29, 182, 0, 165, 58, 5, 25, 5, 28, 46, 54, 6, 25, 5, 28, 21, 4, 79, 42]
abbrev dktX1_plans_3 : List UInt8 := dkwX1_plans_3 ++ dktX1_plans_4
def dkwX1_plans_2 : List UInt8 := [167, 0, 6, 20, 0, 160, 184, 0, 110, 154, 0, 5, 2, 172, 42, 180, 0, 36, 27, 182, 0, 162]
abbrev dktX1_plans_2 : List UInt8 := dkwX1_plans_2 ++ dktX1_plans_3
def dkwX1_plans_1 : List UInt8 := [153, 0, 35, 21, 4, 133, 29, 5, 160, 0, 7, 9, 167, 0, 4, 10, 29, 154, 0, 9, 20, 0, 158]
abbrev dktX1_plans_1 : List UInt8 := dkwX1_plans_1 ++ dktX1_plans_2
def dkwX1_plans_0 : List UInt8 := [42, 27, 182, 0, 151, 153, 0, 54, 28, 184, 0, 155, 153, 0, 47, 29, 133, 9, 20, 0, 114, 184, 0, 110]
abbrev dktX1_plans_0 : List UInt8 := dkwX1_plans_0 ++ dktX1_plans_1
theorem dksX1_plans_0 : cX1_plans.data.toList.drop 0 = dktX1_plans_0 := by decide +kernel
theorem dksX1_plans_1 : cX1_plans.data.toList.drop 24 = dktX1_plans_1 := dk_seg dksX1_plans_0 24 rfl rfl
theorem dksX1_plans_2 : cX1_plans.data.toList.drop 47 = dktX1_plans_2 := dk_seg dksX1_plans_1 23 rfl rfl
theorem dksX1_plans_3 : cX1_plans.data.toList.drop 69 = dktX1_plans_3 := dk_seg dksX1_plans_2 22 rfl rfl
theorem dksX1_plans_4 : cX1_plans.data.toList.drop 91 = dktX1_plans_4 := dk_seg dksX1_plans_3 22 rfl rfl
theorem dX1_plans_0 : decode cX1_plans 0 = .ok (.aload_n 0, 1) := dk_42 (dk_at dksX1_plans_0 0 rfl rfl)
theorem dX1_plans_1 : decode cX1_plans 1 = .ok (.iload_n 1, 1) := dk_27 (dk_at dksX1_plans_0 1 rfl rfl)
theorem dX1_plans_2 : decode cX1_plans 2 = .ok (.invokevirtual 151, 3) := dk_182 0 151 (dk_at dksX1_plans_0 2 rfl rfl)
theorem dX1_plans_5 : decode cX1_plans 5 = .ok (.ifCond .eq 54, 3) := dk_153 0 54 (dk_at dksX1_plans_0 5 rfl rfl)
theorem dX1_plans_8 : decode cX1_plans 8 = .ok (.iload_n 2, 1) := dk_28 (dk_at dksX1_plans_0 8 rfl rfl)
theorem dX1_plans_9 : decode cX1_plans 9 = .ok (.invokestatic 155, 3) := dk_184 0 155 (dk_at dksX1_plans_0 9 rfl rfl)
theorem dX1_plans_12 : decode cX1_plans 12 = .ok (.ifCond .eq 47, 3) := dk_153 0 47 (dk_at dksX1_plans_0 12 rfl rfl)
theorem dX1_plans_15 : decode cX1_plans 15 = .ok (.iload_n 3, 1) := dk_29 (dk_at dksX1_plans_0 15 rfl rfl)
theorem dX1_plans_16 : decode cX1_plans 16 = .ok (.i2l, 1) := dk_133 (dk_at dksX1_plans_0 16 rfl rfl)
theorem dX1_plans_17 : decode cX1_plans 17 = .ok (.lconst 0, 1) := dk_9 (dk_at dksX1_plans_0 17 rfl rfl)
theorem dX1_plans_18 : decode cX1_plans 18 = .ok (.ldc2_w 114, 3) := dk_20 0 114 (dk_at dksX1_plans_0 18 rfl rfl)
theorem dX1_plans_21 : decode cX1_plans 21 = .ok (.invokestatic 110, 3) := dk_184 0 110 (dk_at dksX1_plans_0 21 rfl rfl)
theorem dX1_plans_24 : decode cX1_plans 24 = .ok (.ifCond .eq 35, 3) := dk_153 0 35 (dk_at dksX1_plans_1 0 rfl rfl)
theorem dX1_plans_27 : decode cX1_plans 27 = .ok (.iload 4, 2) := dk_21 4 (dk_at dksX1_plans_1 3 rfl rfl)
theorem dX1_plans_29 : decode cX1_plans 29 = .ok (.i2l, 1) := dk_133 (dk_at dksX1_plans_1 5 rfl rfl)
theorem dX1_plans_30 : decode cX1_plans 30 = .ok (.iload_n 3, 1) := dk_29 (dk_at dksX1_plans_1 6 rfl rfl)
theorem dX1_plans_31 : decode cX1_plans 31 = .ok (.iconst 2, 1) := dk_5 (dk_at dksX1_plans_1 7 rfl rfl)
theorem dX1_plans_32 : decode cX1_plans 32 = .ok (.if_icmp .ne 7, 3) := dk_160 0 7 (dk_at dksX1_plans_1 8 rfl rfl)
theorem dX1_plans_35 : decode cX1_plans 35 = .ok (.lconst 0, 1) := dk_9 (dk_at dksX1_plans_1 11 rfl rfl)
theorem dX1_plans_36 : decode cX1_plans 36 = .ok (.goto 4, 3) := dk_167 0 4 (dk_at dksX1_plans_1 12 rfl rfl)
theorem dX1_plans_39 : decode cX1_plans 39 = .ok (.lconst 1, 1) := dk_10 (dk_at dksX1_plans_1 15 rfl rfl)
theorem dX1_plans_40 : decode cX1_plans 40 = .ok (.iload_n 3, 1) := dk_29 (dk_at dksX1_plans_1 16 rfl rfl)
theorem dX1_plans_41 : decode cX1_plans 41 = .ok (.ifCond .ne 9, 3) := dk_154 0 9 (dk_at dksX1_plans_1 17 rfl rfl)
theorem dX1_plans_44 : decode cX1_plans 44 = .ok (.ldc2_w 158, 3) := dk_20 0 158 (dk_at dksX1_plans_1 20 rfl rfl)
theorem dX1_plans_47 : decode cX1_plans 47 = .ok (.goto 6, 3) := dk_167 0 6 (dk_at dksX1_plans_2 0 rfl rfl)
theorem dX1_plans_50 : decode cX1_plans 50 = .ok (.ldc2_w 160, 3) := dk_20 0 160 (dk_at dksX1_plans_2 3 rfl rfl)
theorem dX1_plans_53 : decode cX1_plans 53 = .ok (.invokestatic 110, 3) := dk_184 0 110 (dk_at dksX1_plans_2 6 rfl rfl)
theorem dX1_plans_56 : decode cX1_plans 56 = .ok (.ifCond .ne 5, 3) := dk_154 0 5 (dk_at dksX1_plans_2 9 rfl rfl)
theorem dX1_plans_59 : decode cX1_plans 59 = .ok (.iconst (-1), 1) := dk_2 (dk_at dksX1_plans_2 12 rfl rfl)
theorem dX1_plans_60 : decode cX1_plans 60 = .ok (.ireturn, 1) := dk_172 (dk_at dksX1_plans_2 13 rfl rfl)
theorem dX1_plans_61 : decode cX1_plans 61 = .ok (.aload_n 0, 1) := dk_42 (dk_at dksX1_plans_2 14 rfl rfl)
theorem dX1_plans_62 : decode cX1_plans 62 = .ok (.getfield 36, 3) := dk_180 0 36 (dk_at dksX1_plans_2 15 rfl rfl)
theorem dX1_plans_65 : decode cX1_plans 65 = .ok (.iload_n 1, 1) := dk_27 (dk_at dksX1_plans_2 18 rfl rfl)
theorem dX1_plans_66 : decode cX1_plans 66 = .ok (.invokevirtual 162, 3) := dk_182 0 162 (dk_at dksX1_plans_2 19 rfl rfl)
theorem dX1_plans_69 : decode cX1_plans 69 = .ok (.checkcast 2, 3) := dk_192 0 2 (dk_at dksX1_plans_3 0 rfl rfl)
theorem dX1_plans_72 : decode cX1_plans 72 = .ok (.iload_n 3, 1) := dk_29 (dk_at dksX1_plans_3 3 rfl rfl)
theorem dX1_plans_73 : decode cX1_plans 73 = .ok (.invokevirtual 165, 3) := dk_182 0 165 (dk_at dksX1_plans_3 4 rfl rfl)
theorem dX1_plans_76 : decode cX1_plans 76 = .ok (.astore 5, 2) := dk_58 5 (dk_at dksX1_plans_3 7 rfl rfl)
theorem dX1_plans_78 : decode cX1_plans 78 = .ok (.aload 5, 2) := dk_25 5 (dk_at dksX1_plans_3 9 rfl rfl)
theorem dX1_plans_80 : decode cX1_plans 80 = .ok (.iload_n 2, 1) := dk_28 (dk_at dksX1_plans_3 11 rfl rfl)
theorem dX1_plans_81 : decode cX1_plans 81 = .ok (.iaload, 1) := dk_46 (dk_at dksX1_plans_3 12 rfl rfl)
theorem dX1_plans_82 : decode cX1_plans 82 = .ok (.istore 6, 2) := dk_54 6 (dk_at dksX1_plans_3 13 rfl rfl)
theorem dX1_plans_84 : decode cX1_plans 84 = .ok (.aload 5, 2) := dk_25 5 (dk_at dksX1_plans_3 15 rfl rfl)
theorem dX1_plans_86 : decode cX1_plans 86 = .ok (.iload_n 2, 1) := dk_28 (dk_at dksX1_plans_3 17 rfl rfl)
theorem dX1_plans_87 : decode cX1_plans 87 = .ok (.iload 4, 2) := dk_21 4 (dk_at dksX1_plans_3 18 rfl rfl)
theorem dX1_plans_89 : decode cX1_plans 89 = .ok (.iastore, 1) := dk_79 (dk_at dksX1_plans_3 20 rfl rfl)
theorem dX1_plans_90 : decode cX1_plans 90 = .ok (.aload_n 0, 1) := dk_42 (dk_at dksX1_plans_3 21 rfl rfl)
theorem dX1_plans_91 : decode cX1_plans 91 = .ok (.invokevirtual 140, 3) := dk_182 0 140 (dk_at dksX1_plans_4 0 rfl rfl)
theorem dX1_plans_94 : decode cX1_plans 94 = .ok (.pop, 1) := dk_87 (dk_at dksX1_plans_4 3 rfl rfl)
theorem dX1_plans_95 : decode cX1_plans 95 = .ok (.iload 6, 2) := dk_21 6 (dk_at dksX1_plans_4 4 rfl rfl)
theorem dX1_plans_97 : decode cX1_plans 97 = .ok (.ireturn, 1) := dk_172 (dk_at dksX1_plans_4 6 rfl rfl)
abbrev cX1_isLifter : ByteArray := prog_1_method_6_code
def yX1_isLifter : MethodName := ⟨RX1, "isLifter", "(I)Z"⟩
def dkwX1_isLifter_0 : List UInt8 := [27, 133, 9, 42, 180, 0, 36, 182, 0, 106, 4, 100, 133, 184, 0, 110, 172]
abbrev dktX1_isLifter_0 : List UInt8 := dkwX1_isLifter_0 ++ []
theorem dksX1_isLifter_0 : cX1_isLifter.data.toList.drop 0 = dktX1_isLifter_0 := by decide +kernel
theorem dX1_isLifter_0 : decode cX1_isLifter 0 = .ok (.iload_n 1, 1) := dk_27 (dk_at dksX1_isLifter_0 0 rfl rfl)
theorem dX1_isLifter_1 : decode cX1_isLifter 1 = .ok (.i2l, 1) := dk_133 (dk_at dksX1_isLifter_0 1 rfl rfl)
theorem dX1_isLifter_2 : decode cX1_isLifter 2 = .ok (.lconst 0, 1) := dk_9 (dk_at dksX1_isLifter_0 2 rfl rfl)
theorem dX1_isLifter_3 : decode cX1_isLifter 3 = .ok (.aload_n 0, 1) := dk_42 (dk_at dksX1_isLifter_0 3 rfl rfl)
theorem dX1_isLifter_4 : decode cX1_isLifter 4 = .ok (.getfield 36, 3) := dk_180 0 36 (dk_at dksX1_isLifter_0 4 rfl rfl)
theorem dX1_isLifter_7 : decode cX1_isLifter 7 = .ok (.invokevirtual 106, 3) := dk_182 0 106 (dk_at dksX1_isLifter_0 7 rfl rfl)
theorem dX1_isLifter_10 : decode cX1_isLifter 10 = .ok (.iconst 1, 1) := dk_4 (dk_at dksX1_isLifter_0 10 rfl rfl)
theorem dX1_isLifter_11 : decode cX1_isLifter 11 = .ok (.isub, 1) := dk_100 (dk_at dksX1_isLifter_0 11 rfl rfl)
theorem dX1_isLifter_12 : decode cX1_isLifter 12 = .ok (.i2l, 1) := dk_133 (dk_at dksX1_isLifter_0 12 rfl rfl)
theorem dX1_isLifter_13 : decode cX1_isLifter 13 = .ok (.invokestatic 110, 3) := dk_184 0 110 (dk_at dksX1_isLifter_0 13 rfl rfl)
theorem dX1_isLifter_16 : decode cX1_isLifter 16 = .ok (.ireturn, 1) := dk_172 (dk_at dksX1_isLifter_0 16 rfl rfl)
abbrev cX1_isLift : ByteArray := prog_1_method_7_code
def yX1_isLift : MethodName := ⟨RX1, "isLift", "(I)Z"⟩
def dkwX1_isLift_0 : List UInt8 := [26, 133, 9, 20, 0, 114, 184, 0, 110, 172]
abbrev dktX1_isLift_0 : List UInt8 := dkwX1_isLift_0 ++ []
theorem dksX1_isLift_0 : cX1_isLift.data.toList.drop 0 = dktX1_isLift_0 := by decide +kernel
theorem dX1_isLift_0 : decode cX1_isLift 0 = .ok (.iload_n 0, 1) := dk_26 (dk_at dksX1_isLift_0 0 rfl rfl)
theorem dX1_isLift_1 : decode cX1_isLift 1 = .ok (.i2l, 1) := dk_133 (dk_at dksX1_isLift_0 1 rfl rfl)
theorem dX1_isLift_2 : decode cX1_isLift 2 = .ok (.lconst 0, 1) := dk_9 (dk_at dksX1_isLift_0 2 rfl rfl)
theorem dX1_isLift_3 : decode cX1_isLift 3 = .ok (.ldc2_w 114, 3) := dk_20 0 114 (dk_at dksX1_isLift_0 3 rfl rfl)
theorem dX1_isLift_6 : decode cX1_isLift 6 = .ok (.invokestatic 110, 3) := dk_184 0 110 (dk_at dksX1_isLift_0 6 rfl rfl)
theorem dX1_isLift_9 : decode cX1_isLift 9 = .ok (.ireturn, 1) := dk_172 (dk_at dksX1_isLift_0 9 rfl rfl)
abbrev cX1_tires : ByteArray := prog_1_method_14_code
def yX1_tires : MethodName := ⟨RX1, "tires", "(I)I"⟩
def dkwX1_tires_1 : List UInt8 := [28, 172]
abbrev dktX1_tires_1 : List UInt8 := dkwX1_tires_1 ++ []
def dkwX1_tires_0 : List UInt8 := [27, 133, 9, 20, 0, 169, 184, 0, 110, 154, 0, 5, 2, 172, 42, 180, 0, 13, 61, 42, 27, 181, 0, 13]
abbrev dktX1_tires_0 : List UInt8 := dkwX1_tires_0 ++ dktX1_tires_1
theorem dksX1_tires_0 : cX1_tires.data.toList.drop 0 = dktX1_tires_0 := by decide +kernel
theorem dksX1_tires_1 : cX1_tires.data.toList.drop 24 = dktX1_tires_1 := dk_seg dksX1_tires_0 24 rfl rfl
theorem dX1_tires_0 : decode cX1_tires 0 = .ok (.iload_n 1, 1) := dk_27 (dk_at dksX1_tires_0 0 rfl rfl)
theorem dX1_tires_1 : decode cX1_tires 1 = .ok (.i2l, 1) := dk_133 (dk_at dksX1_tires_0 1 rfl rfl)
theorem dX1_tires_2 : decode cX1_tires 2 = .ok (.lconst 0, 1) := dk_9 (dk_at dksX1_tires_0 2 rfl rfl)
theorem dX1_tires_3 : decode cX1_tires 3 = .ok (.ldc2_w 169, 3) := dk_20 0 169 (dk_at dksX1_tires_0 3 rfl rfl)
theorem dX1_tires_6 : decode cX1_tires 6 = .ok (.invokestatic 110, 3) := dk_184 0 110 (dk_at dksX1_tires_0 6 rfl rfl)
theorem dX1_tires_9 : decode cX1_tires 9 = .ok (.ifCond .ne 5, 3) := dk_154 0 5 (dk_at dksX1_tires_0 9 rfl rfl)
theorem dX1_tires_12 : decode cX1_tires 12 = .ok (.iconst (-1), 1) := dk_2 (dk_at dksX1_tires_0 12 rfl rfl)
theorem dX1_tires_13 : decode cX1_tires 13 = .ok (.ireturn, 1) := dk_172 (dk_at dksX1_tires_0 13 rfl rfl)
theorem dX1_tires_14 : decode cX1_tires 14 = .ok (.aload_n 0, 1) := dk_42 (dk_at dksX1_tires_0 14 rfl rfl)
theorem dX1_tires_15 : decode cX1_tires 15 = .ok (.getfield 13, 3) := dk_180 0 13 (dk_at dksX1_tires_0 15 rfl rfl)
theorem dX1_tires_18 : decode cX1_tires 18 = .ok (.istore_n 2, 1) := dk_61 (dk_at dksX1_tires_0 18 rfl rfl)
theorem dX1_tires_19 : decode cX1_tires 19 = .ok (.aload_n 0, 1) := dk_42 (dk_at dksX1_tires_0 19 rfl rfl)
theorem dX1_tires_20 : decode cX1_tires 20 = .ok (.iload_n 1, 1) := dk_27 (dk_at dksX1_tires_0 20 rfl rfl)
theorem dX1_tires_21 : decode cX1_tires 21 = .ok (.putfield 13, 3) := dk_181 0 13 (dk_at dksX1_tires_0 21 rfl rfl)
theorem dX1_tires_24 : decode cX1_tires 24 = .ok (.iload_n 2, 1) := dk_28 (dk_at dksX1_tires_1 0 rfl rfl)
theorem dX1_tires_25 : decode cX1_tires 25 = .ok (.ireturn, 1) := dk_172 (dk_at dksX1_tires_1 1 rfl rfl)
abbrev cX1_begins : ByteArray := prog_1_method_15_code
def yX1_begins : MethodName := ⟨RX1, "begins", "()I"⟩
theorem dX1_begins_0 : decode cX1_begins 0 = .ok (.aload_n 0, 1) := by decide +kernel
theorem dX1_begins_1 : decode cX1_begins 1 = .ok (.invokevirtual 140, 3) := by decide +kernel
theorem dX1_begins_4 : decode cX1_begins 4 = .ok (.ireturn, 1) := by decide +kernel
abbrev cX1_odds : ByteArray := prog_1_method_16_code
def yX1_odds : MethodName := ⟨RX1, "odds", "(IIII)I"⟩
def dkwX1_odds_2 : List UInt8 := [182, 0, 162, 192, 0, 2, 28, 29, 21, 4, 182, 0, 171, 167, 0, 4, 2, 172]
abbrev dktX1_odds_2 : List UInt8 := dkwX1_odds_2 ++ []
def dkwX1_odds_1 : List UInt8 := [153, 0, 38, 21, 4, 133, 9, 20, 0, 114, 184, 0, 110, 153, 0, 25, 42, 42, 180, 0, 36, 27]
abbrev dktX1_odds_1 : List UInt8 := dkwX1_odds_1 ++ dktX1_odds_2
def dkwX1_odds_0 : List UInt8 := [42, 27, 182, 0, 151, 153, 0, 57, 28, 184, 0, 155, 153, 0, 50, 29, 133, 10, 20, 0, 158, 184, 0, 110]
abbrev dktX1_odds_0 : List UInt8 := dkwX1_odds_0 ++ dktX1_odds_1
theorem dksX1_odds_0 : cX1_odds.data.toList.drop 0 = dktX1_odds_0 := by decide +kernel
theorem dksX1_odds_1 : cX1_odds.data.toList.drop 24 = dktX1_odds_1 := dk_seg dksX1_odds_0 24 rfl rfl
theorem dksX1_odds_2 : cX1_odds.data.toList.drop 46 = dktX1_odds_2 := dk_seg dksX1_odds_1 22 rfl rfl
theorem dX1_odds_0 : decode cX1_odds 0 = .ok (.aload_n 0, 1) := dk_42 (dk_at dksX1_odds_0 0 rfl rfl)
theorem dX1_odds_1 : decode cX1_odds 1 = .ok (.iload_n 1, 1) := dk_27 (dk_at dksX1_odds_0 1 rfl rfl)
theorem dX1_odds_2 : decode cX1_odds 2 = .ok (.invokevirtual 151, 3) := dk_182 0 151 (dk_at dksX1_odds_0 2 rfl rfl)
theorem dX1_odds_5 : decode cX1_odds 5 = .ok (.ifCond .eq 57, 3) := dk_153 0 57 (dk_at dksX1_odds_0 5 rfl rfl)
theorem dX1_odds_8 : decode cX1_odds 8 = .ok (.iload_n 2, 1) := dk_28 (dk_at dksX1_odds_0 8 rfl rfl)
theorem dX1_odds_9 : decode cX1_odds 9 = .ok (.invokestatic 155, 3) := dk_184 0 155 (dk_at dksX1_odds_0 9 rfl rfl)
theorem dX1_odds_12 : decode cX1_odds 12 = .ok (.ifCond .eq 50, 3) := dk_153 0 50 (dk_at dksX1_odds_0 12 rfl rfl)
theorem dX1_odds_15 : decode cX1_odds 15 = .ok (.iload_n 3, 1) := dk_29 (dk_at dksX1_odds_0 15 rfl rfl)
theorem dX1_odds_16 : decode cX1_odds 16 = .ok (.i2l, 1) := dk_133 (dk_at dksX1_odds_0 16 rfl rfl)
theorem dX1_odds_17 : decode cX1_odds 17 = .ok (.lconst 1, 1) := dk_10 (dk_at dksX1_odds_0 17 rfl rfl)
theorem dX1_odds_18 : decode cX1_odds 18 = .ok (.ldc2_w 158, 3) := dk_20 0 158 (dk_at dksX1_odds_0 18 rfl rfl)
theorem dX1_odds_21 : decode cX1_odds 21 = .ok (.invokestatic 110, 3) := dk_184 0 110 (dk_at dksX1_odds_0 21 rfl rfl)
theorem dX1_odds_24 : decode cX1_odds 24 = .ok (.ifCond .eq 38, 3) := dk_153 0 38 (dk_at dksX1_odds_1 0 rfl rfl)
theorem dX1_odds_27 : decode cX1_odds 27 = .ok (.iload 4, 2) := dk_21 4 (dk_at dksX1_odds_1 3 rfl rfl)
theorem dX1_odds_29 : decode cX1_odds 29 = .ok (.i2l, 1) := dk_133 (dk_at dksX1_odds_1 5 rfl rfl)
theorem dX1_odds_30 : decode cX1_odds 30 = .ok (.lconst 0, 1) := dk_9 (dk_at dksX1_odds_1 6 rfl rfl)
theorem dX1_odds_31 : decode cX1_odds 31 = .ok (.ldc2_w 114, 3) := dk_20 0 114 (dk_at dksX1_odds_1 7 rfl rfl)
theorem dX1_odds_34 : decode cX1_odds 34 = .ok (.invokestatic 110, 3) := dk_184 0 110 (dk_at dksX1_odds_1 10 rfl rfl)
theorem dX1_odds_37 : decode cX1_odds 37 = .ok (.ifCond .eq 25, 3) := dk_153 0 25 (dk_at dksX1_odds_1 13 rfl rfl)
theorem dX1_odds_40 : decode cX1_odds 40 = .ok (.aload_n 0, 1) := dk_42 (dk_at dksX1_odds_1 16 rfl rfl)
theorem dX1_odds_41 : decode cX1_odds 41 = .ok (.aload_n 0, 1) := dk_42 (dk_at dksX1_odds_1 17 rfl rfl)
theorem dX1_odds_42 : decode cX1_odds 42 = .ok (.getfield 36, 3) := dk_180 0 36 (dk_at dksX1_odds_1 18 rfl rfl)
theorem dX1_odds_45 : decode cX1_odds 45 = .ok (.iload_n 1, 1) := dk_27 (dk_at dksX1_odds_1 21 rfl rfl)
theorem dX1_odds_46 : decode cX1_odds 46 = .ok (.invokevirtual 162, 3) := dk_182 0 162 (dk_at dksX1_odds_2 0 rfl rfl)
theorem dX1_odds_49 : decode cX1_odds 49 = .ok (.checkcast 2, 3) := dk_192 0 2 (dk_at dksX1_odds_2 3 rfl rfl)
theorem dX1_odds_52 : decode cX1_odds 52 = .ok (.iload_n 2, 1) := dk_28 (dk_at dksX1_odds_2 6 rfl rfl)
theorem dX1_odds_53 : decode cX1_odds 53 = .ok (.iload_n 3, 1) := dk_29 (dk_at dksX1_odds_2 7 rfl rfl)
theorem dX1_odds_54 : decode cX1_odds 54 = .ok (.iload 4, 2) := dk_21 4 (dk_at dksX1_odds_2 8 rfl rfl)
theorem dX1_odds_56 : decode cX1_odds 56 = .ok (.invokevirtual 171, 3) := dk_182 0 171 (dk_at dksX1_odds_2 10 rfl rfl)
theorem dX1_odds_59 : decode cX1_odds 59 = .ok (.goto 4, 3) := dk_167 0 4 (dk_at dksX1_odds_2 13 rfl rfl)
theorem dX1_odds_62 : decode cX1_odds 62 = .ok (.iconst (-1), 1) := dk_2 (dk_at dksX1_odds_2 16 rfl rfl)
theorem dX1_odds_63 : decode cX1_odds 63 = .ok (.ireturn, 1) := dk_172 (dk_at dksX1_odds_2 17 rfl rfl)
abbrev cX1_oddsOf : ByteArray := prog_1_method_3_code
def yX1_oddsOf : MethodName := ⟨RX1, "oddsOf", "(LNextLoad$Lifter;III)I"⟩
def dkwX1_oddsOf_0 : List UInt8 := [3, 43, 180, 0, 1, 28, 50, 29, 182, 0, 7, 42, 180, 0, 13, 21, 4, 104, 100, 184, 0, 19, 172]
abbrev dktX1_oddsOf_0 : List UInt8 := dkwX1_oddsOf_0 ++ []
theorem dksX1_oddsOf_0 : cX1_oddsOf.data.toList.drop 0 = dktX1_oddsOf_0 := by decide +kernel
theorem dX1_oddsOf_0 : decode cX1_oddsOf 0 = .ok (.iconst 0, 1) := dk_3 (dk_at dksX1_oddsOf_0 0 rfl rfl)
theorem dX1_oddsOf_1 : decode cX1_oddsOf 1 = .ok (.aload_n 1, 1) := dk_43 (dk_at dksX1_oddsOf_0 1 rfl rfl)
theorem dX1_oddsOf_2 : decode cX1_oddsOf 2 = .ok (.getfield 1, 3) := dk_180 0 1 (dk_at dksX1_oddsOf_0 2 rfl rfl)
theorem dX1_oddsOf_5 : decode cX1_oddsOf 5 = .ok (.iload_n 2, 1) := dk_28 (dk_at dksX1_oddsOf_0 5 rfl rfl)
theorem dX1_oddsOf_6 : decode cX1_oddsOf 6 = .ok (.aaload, 1) := dk_50 (dk_at dksX1_oddsOf_0 6 rfl rfl)
theorem dX1_oddsOf_7 : decode cX1_oddsOf 7 = .ok (.iload_n 3, 1) := dk_29 (dk_at dksX1_oddsOf_0 7 rfl rfl)
theorem dX1_oddsOf_8 : decode cX1_oddsOf 8 = .ok (.invokevirtual 7, 3) := dk_182 0 7 (dk_at dksX1_oddsOf_0 8 rfl rfl)
theorem dX1_oddsOf_11 : decode cX1_oddsOf 11 = .ok (.aload_n 0, 1) := dk_42 (dk_at dksX1_oddsOf_0 11 rfl rfl)
theorem dX1_oddsOf_12 : decode cX1_oddsOf 12 = .ok (.getfield 13, 3) := dk_180 0 13 (dk_at dksX1_oddsOf_0 12 rfl rfl)
theorem dX1_oddsOf_15 : decode cX1_oddsOf 15 = .ok (.iload 4, 2) := dk_21 4 (dk_at dksX1_oddsOf_0 15 rfl rfl)
theorem dX1_oddsOf_17 : decode cX1_oddsOf 17 = .ok (.imul, 1) := dk_104 (dk_at dksX1_oddsOf_0 17 rfl rfl)
theorem dX1_oddsOf_18 : decode cX1_oddsOf 18 = .ok (.isub, 1) := dk_100 (dk_at dksX1_oddsOf_0 18 rfl rfl)
theorem dX1_oddsOf_19 : decode cX1_oddsOf 19 = .ok (.invokestatic 19, 3) := dk_184 0 19 (dk_at dksX1_oddsOf_0 19 rfl rfl)
theorem dX1_oddsOf_22 : decode cX1_oddsOf 22 = .ok (.ireturn, 1) := dk_172 (dk_at dksX1_oddsOf_0 22 rfl rfl)
abbrev cX1_lifter : ByteArray := prog_1_method_17_code
def yX1_lifter : MethodName := ⟨RX1, "lifter", "(III)I"⟩
def dkwX1_lifter_6 : List UInt8 := [184, 0, 205, 172, 25, 5, 182, 0, 213, 172, 2, 172]
abbrev dktX1_lifter_6 : List UInt8 := dkwX1_lifter_6 ++ []
def dkwX1_lifter_5 : List UInt8 := [182, 0, 196, 172, 25, 5, 180, 0, 199, 172, 25, 5, 182, 0, 202, 184, 0, 205, 172, 25, 5, 180, 0, 209]
abbrev dktX1_lifter_5 : List UInt8 := dkwX1_lifter_5 ++ dktX1_lifter_6
def dkwX1_lifter_4 : List UInt8 := [25, 5, 180, 0, 185, 28, 46, 172, 25, 5, 180, 0, 190, 172, 25, 5, 42, 180, 0, 45, 180, 0, 193]
abbrev dktX1_lifter_4 : List UInt8 := dkwX1_lifter_4 ++ dktX1_lifter_5
def dkwX1_lifter_3 : List UInt8 := [25, 4, 180, 0, 179, 172, 25, 4, 180, 0, 182, 172, 25, 4, 29, 5, 100, 182, 0, 165, 28, 46, 172]
abbrev dktX1_lifter_3 : List UInt8 := dkwX1_lifter_3 ++ dktX1_lifter_4
def dkwX1_lifter_2 : List UInt8 := [170, 0, 0, 0, 0, 142, 0, 0, 0, 0, 0, 0, 0, 11, 0, 0, 0, 62, 0, 0, 0, 68, 0, 0, 0, 74, 0, 0, 0, 74, 0, 0, 0, 74, 0, 0, 0, 85, 0, 0, 0, 93, 0, 0, 0, 99, 0, 0, 0, 112, 0, 0, 0, 118, 0, 0, 0, 127, 0, 0, 0, 136]
abbrev dktX1_lifter_2 : List UInt8 := dkwX1_lifter_2 ++ dktX1_lifter_3
def dkwX1_lifter_1 : List UInt8 := [182, 0, 162, 192, 0, 2, 58, 4, 42, 180, 0, 45, 180, 0, 175, 27, 50, 58, 5, 29]
abbrev dktX1_lifter_1 : List UInt8 := dkwX1_lifter_1 ++ dktX1_lifter_2
def dkwX1_lifter_0 : List UInt8 := [42, 27, 182, 0, 151, 153, 0, 10, 28, 184, 0, 155, 154, 0, 5, 2, 172, 42, 180, 0, 36, 27]
abbrev dktX1_lifter_0 : List UInt8 := dkwX1_lifter_0 ++ dktX1_lifter_1
theorem dksX1_lifter_0 : cX1_lifter.data.toList.drop 0 = dktX1_lifter_0 := by decide +kernel
theorem dksX1_lifter_1 : cX1_lifter.data.toList.drop 22 = dktX1_lifter_1 := dk_seg dksX1_lifter_0 22 rfl rfl
theorem dksX1_lifter_2 : cX1_lifter.data.toList.drop 42 = dktX1_lifter_2 := dk_seg dksX1_lifter_1 20 rfl rfl
theorem dksX1_lifter_3 : cX1_lifter.data.toList.drop 104 = dktX1_lifter_3 := dk_seg dksX1_lifter_2 62 rfl rfl
theorem dksX1_lifter_4 : cX1_lifter.data.toList.drop 127 = dktX1_lifter_4 := dk_seg dksX1_lifter_3 23 rfl rfl
theorem dksX1_lifter_5 : cX1_lifter.data.toList.drop 150 = dktX1_lifter_5 := dk_seg dksX1_lifter_4 23 rfl rfl
theorem dksX1_lifter_6 : cX1_lifter.data.toList.drop 174 = dktX1_lifter_6 := dk_seg dksX1_lifter_5 24 rfl rfl
theorem dX1_lifter_0 : decode cX1_lifter 0 = .ok (.aload_n 0, 1) := dk_42 (dk_at dksX1_lifter_0 0 rfl rfl)
theorem dX1_lifter_1 : decode cX1_lifter 1 = .ok (.iload_n 1, 1) := dk_27 (dk_at dksX1_lifter_0 1 rfl rfl)
theorem dX1_lifter_2 : decode cX1_lifter 2 = .ok (.invokevirtual 151, 3) := dk_182 0 151 (dk_at dksX1_lifter_0 2 rfl rfl)
theorem dX1_lifter_5 : decode cX1_lifter 5 = .ok (.ifCond .eq 10, 3) := dk_153 0 10 (dk_at dksX1_lifter_0 5 rfl rfl)
theorem dX1_lifter_8 : decode cX1_lifter 8 = .ok (.iload_n 2, 1) := dk_28 (dk_at dksX1_lifter_0 8 rfl rfl)
theorem dX1_lifter_9 : decode cX1_lifter 9 = .ok (.invokestatic 155, 3) := dk_184 0 155 (dk_at dksX1_lifter_0 9 rfl rfl)
theorem dX1_lifter_12 : decode cX1_lifter 12 = .ok (.ifCond .ne 5, 3) := dk_154 0 5 (dk_at dksX1_lifter_0 12 rfl rfl)
theorem dX1_lifter_15 : decode cX1_lifter 15 = .ok (.iconst (-1), 1) := dk_2 (dk_at dksX1_lifter_0 15 rfl rfl)
theorem dX1_lifter_16 : decode cX1_lifter 16 = .ok (.ireturn, 1) := dk_172 (dk_at dksX1_lifter_0 16 rfl rfl)
theorem dX1_lifter_17 : decode cX1_lifter 17 = .ok (.aload_n 0, 1) := dk_42 (dk_at dksX1_lifter_0 17 rfl rfl)
theorem dX1_lifter_18 : decode cX1_lifter 18 = .ok (.getfield 36, 3) := dk_180 0 36 (dk_at dksX1_lifter_0 18 rfl rfl)
theorem dX1_lifter_21 : decode cX1_lifter 21 = .ok (.iload_n 1, 1) := dk_27 (dk_at dksX1_lifter_0 21 rfl rfl)
theorem dX1_lifter_22 : decode cX1_lifter 22 = .ok (.invokevirtual 162, 3) := dk_182 0 162 (dk_at dksX1_lifter_1 0 rfl rfl)
theorem dX1_lifter_25 : decode cX1_lifter 25 = .ok (.checkcast 2, 3) := dk_192 0 2 (dk_at dksX1_lifter_1 3 rfl rfl)
theorem dX1_lifter_28 : decode cX1_lifter 28 = .ok (.astore 4, 2) := dk_58 4 (dk_at dksX1_lifter_1 6 rfl rfl)
theorem dX1_lifter_30 : decode cX1_lifter 30 = .ok (.aload_n 0, 1) := dk_42 (dk_at dksX1_lifter_1 8 rfl rfl)
theorem dX1_lifter_31 : decode cX1_lifter 31 = .ok (.getfield 45, 3) := dk_180 0 45 (dk_at dksX1_lifter_1 9 rfl rfl)
theorem dX1_lifter_34 : decode cX1_lifter 34 = .ok (.getfield 175, 3) := dk_180 0 175 (dk_at dksX1_lifter_1 12 rfl rfl)
theorem dX1_lifter_37 : decode cX1_lifter 37 = .ok (.iload_n 1, 1) := dk_27 (dk_at dksX1_lifter_1 15 rfl rfl)
theorem dX1_lifter_38 : decode cX1_lifter 38 = .ok (.aaload, 1) := dk_50 (dk_at dksX1_lifter_1 16 rfl rfl)
theorem dX1_lifter_39 : decode cX1_lifter 39 = .ok (.astore 5, 2) := dk_58 5 (dk_at dksX1_lifter_1 17 rfl rfl)
theorem dX1_lifter_41 : decode cX1_lifter 41 = .ok (.iload_n 3, 1) := dk_29 (dk_at dksX1_lifter_1 19 rfl rfl)
theorem dX1_lifter_42 : decode cX1_lifter 42 = .ok (.tableswitch 142 0 11 #[62, 68, 74, 74, 74, 85, 93, 99, 112, 118, 127, 136], 62) := by decide +kernel
theorem dX1_lifter_104 : decode cX1_lifter 104 = .ok (.aload 4, 2) := dk_25 4 (dk_at dksX1_lifter_3 0 rfl rfl)
theorem dX1_lifter_106 : decode cX1_lifter 106 = .ok (.getfield 179, 3) := dk_180 0 179 (dk_at dksX1_lifter_3 2 rfl rfl)
theorem dX1_lifter_109 : decode cX1_lifter 109 = .ok (.ireturn, 1) := dk_172 (dk_at dksX1_lifter_3 5 rfl rfl)
theorem dX1_lifter_110 : decode cX1_lifter 110 = .ok (.aload 4, 2) := dk_25 4 (dk_at dksX1_lifter_3 6 rfl rfl)
theorem dX1_lifter_112 : decode cX1_lifter 112 = .ok (.getfield 182, 3) := dk_180 0 182 (dk_at dksX1_lifter_3 8 rfl rfl)
theorem dX1_lifter_115 : decode cX1_lifter 115 = .ok (.ireturn, 1) := dk_172 (dk_at dksX1_lifter_3 11 rfl rfl)
theorem dX1_lifter_116 : decode cX1_lifter 116 = .ok (.aload 4, 2) := dk_25 4 (dk_at dksX1_lifter_3 12 rfl rfl)
theorem dX1_lifter_118 : decode cX1_lifter 118 = .ok (.iload_n 3, 1) := dk_29 (dk_at dksX1_lifter_3 14 rfl rfl)
theorem dX1_lifter_119 : decode cX1_lifter 119 = .ok (.iconst 2, 1) := dk_5 (dk_at dksX1_lifter_3 15 rfl rfl)
theorem dX1_lifter_120 : decode cX1_lifter 120 = .ok (.isub, 1) := dk_100 (dk_at dksX1_lifter_3 16 rfl rfl)
theorem dX1_lifter_121 : decode cX1_lifter 121 = .ok (.invokevirtual 165, 3) := dk_182 0 165 (dk_at dksX1_lifter_3 17 rfl rfl)
theorem dX1_lifter_124 : decode cX1_lifter 124 = .ok (.iload_n 2, 1) := dk_28 (dk_at dksX1_lifter_3 20 rfl rfl)
theorem dX1_lifter_125 : decode cX1_lifter 125 = .ok (.iaload, 1) := dk_46 (dk_at dksX1_lifter_3 21 rfl rfl)
theorem dX1_lifter_126 : decode cX1_lifter 126 = .ok (.ireturn, 1) := dk_172 (dk_at dksX1_lifter_3 22 rfl rfl)
theorem dX1_lifter_127 : decode cX1_lifter 127 = .ok (.aload 5, 2) := dk_25 5 (dk_at dksX1_lifter_4 0 rfl rfl)
theorem dX1_lifter_129 : decode cX1_lifter 129 = .ok (.getfield 185, 3) := dk_180 0 185 (dk_at dksX1_lifter_4 2 rfl rfl)
theorem dX1_lifter_132 : decode cX1_lifter 132 = .ok (.iload_n 2, 1) := dk_28 (dk_at dksX1_lifter_4 5 rfl rfl)
theorem dX1_lifter_133 : decode cX1_lifter 133 = .ok (.iaload, 1) := dk_46 (dk_at dksX1_lifter_4 6 rfl rfl)
theorem dX1_lifter_134 : decode cX1_lifter 134 = .ok (.ireturn, 1) := dk_172 (dk_at dksX1_lifter_4 7 rfl rfl)
theorem dX1_lifter_135 : decode cX1_lifter 135 = .ok (.aload 5, 2) := dk_25 5 (dk_at dksX1_lifter_4 8 rfl rfl)
theorem dX1_lifter_137 : decode cX1_lifter 137 = .ok (.getfield 190, 3) := dk_180 0 190 (dk_at dksX1_lifter_4 10 rfl rfl)
theorem dX1_lifter_140 : decode cX1_lifter 140 = .ok (.ireturn, 1) := dk_172 (dk_at dksX1_lifter_4 13 rfl rfl)
theorem dX1_lifter_141 : decode cX1_lifter 141 = .ok (.aload 5, 2) := dk_25 5 (dk_at dksX1_lifter_4 14 rfl rfl)
theorem dX1_lifter_143 : decode cX1_lifter 143 = .ok (.aload_n 0, 1) := dk_42 (dk_at dksX1_lifter_4 16 rfl rfl)
theorem dX1_lifter_144 : decode cX1_lifter 144 = .ok (.getfield 45, 3) := dk_180 0 45 (dk_at dksX1_lifter_4 17 rfl rfl)
theorem dX1_lifter_147 : decode cX1_lifter 147 = .ok (.getfield 193, 3) := dk_180 0 193 (dk_at dksX1_lifter_4 20 rfl rfl)
theorem dX1_lifter_150 : decode cX1_lifter 150 = .ok (.invokevirtual 196, 3) := dk_182 0 196 (dk_at dksX1_lifter_5 0 rfl rfl)
theorem dX1_lifter_153 : decode cX1_lifter 153 = .ok (.ireturn, 1) := dk_172 (dk_at dksX1_lifter_5 3 rfl rfl)
theorem dX1_lifter_154 : decode cX1_lifter 154 = .ok (.aload 5, 2) := dk_25 5 (dk_at dksX1_lifter_5 4 rfl rfl)
theorem dX1_lifter_156 : decode cX1_lifter 156 = .ok (.getfield 199, 3) := dk_180 0 199 (dk_at dksX1_lifter_5 6 rfl rfl)
theorem dX1_lifter_159 : decode cX1_lifter 159 = .ok (.ireturn, 1) := dk_172 (dk_at dksX1_lifter_5 9 rfl rfl)
theorem dX1_lifter_160 : decode cX1_lifter 160 = .ok (.aload 5, 2) := dk_25 5 (dk_at dksX1_lifter_5 10 rfl rfl)
theorem dX1_lifter_162 : decode cX1_lifter 162 = .ok (.invokevirtual 202, 3) := dk_182 0 202 (dk_at dksX1_lifter_5 12 rfl rfl)
theorem dX1_lifter_165 : decode cX1_lifter 165 = .ok (.invokestatic 205, 3) := dk_184 0 205 (dk_at dksX1_lifter_5 15 rfl rfl)
theorem dX1_lifter_168 : decode cX1_lifter 168 = .ok (.ireturn, 1) := dk_172 (dk_at dksX1_lifter_5 18 rfl rfl)
theorem dX1_lifter_169 : decode cX1_lifter 169 = .ok (.aload 5, 2) := dk_25 5 (dk_at dksX1_lifter_5 19 rfl rfl)
theorem dX1_lifter_171 : decode cX1_lifter 171 = .ok (.getfield 209, 3) := dk_180 0 209 (dk_at dksX1_lifter_5 21 rfl rfl)
theorem dX1_lifter_174 : decode cX1_lifter 174 = .ok (.invokestatic 205, 3) := dk_184 0 205 (dk_at dksX1_lifter_6 0 rfl rfl)
theorem dX1_lifter_177 : decode cX1_lifter 177 = .ok (.ireturn, 1) := dk_172 (dk_at dksX1_lifter_6 3 rfl rfl)
theorem dX1_lifter_178 : decode cX1_lifter 178 = .ok (.aload 5, 2) := dk_25 5 (dk_at dksX1_lifter_6 4 rfl rfl)
theorem dX1_lifter_180 : decode cX1_lifter 180 = .ok (.invokevirtual 213, 3) := dk_182 0 213 (dk_at dksX1_lifter_6 6 rfl rfl)
theorem dX1_lifter_183 : decode cX1_lifter 183 = .ok (.ireturn, 1) := dk_172 (dk_at dksX1_lifter_6 9 rfl rfl)
theorem dX1_lifter_184 : decode cX1_lifter 184 = .ok (.iconst (-1), 1) := dk_2 (dk_at dksX1_lifter_6 10 rfl rfl)
theorem dX1_lifter_185 : decode cX1_lifter 185 = .ok (.ireturn, 1) := dk_172 (dk_at dksX1_lifter_6 11 rfl rfl)
abbrev cX1_bit : ByteArray := prog_1_method_2_code
def yX1_bit : MethodName := ⟨RX1, "bit", "(Z)I"⟩
def dkwX1_bit_0 : List UInt8 := [26, 153, 0, 7, 4, 167, 0, 4, 3, 172]
abbrev dktX1_bit_0 : List UInt8 := dkwX1_bit_0 ++ []
theorem dksX1_bit_0 : cX1_bit.data.toList.drop 0 = dktX1_bit_0 := by decide +kernel
theorem dX1_bit_0 : decode cX1_bit 0 = .ok (.iload_n 0, 1) := dk_26 (dk_at dksX1_bit_0 0 rfl rfl)
theorem dX1_bit_1 : decode cX1_bit 1 = .ok (.ifCond .eq 7, 3) := dk_153 0 7 (dk_at dksX1_bit_0 1 rfl rfl)
theorem dX1_bit_4 : decode cX1_bit 4 = .ok (.iconst 1, 1) := dk_4 (dk_at dksX1_bit_0 4 rfl rfl)
theorem dX1_bit_5 : decode cX1_bit 5 = .ok (.goto 4, 3) := dk_167 0 4 (dk_at dksX1_bit_0 5 rfl rfl)
theorem dX1_bit_8 : decode cX1_bit 8 = .ok (.iconst 0, 1) := dk_3 (dk_at dksX1_bit_0 8 rfl rfl)
theorem dX1_bit_9 : decode cX1_bit 9 = .ok (.ireturn, 1) := dk_172 (dk_at dksX1_bit_0 9 rfl rfl)
abbrev cX1_called : ByteArray := prog_1_method_18_code
def yX1_called : MethodName := ⟨RX1, "called", "()I"⟩
def dkwX1_called_2 : List UInt8 := [133, 182, 0, 219, 27, 172]
abbrev dktX1_called_2 : List UInt8 := dkwX1_called_2 ++ []
def dkwX1_called_1 : List UInt8 := [180, 0, 45, 180, 0, 175, 27, 50, 180, 0, 190, 133, 182, 0, 219, 42, 42, 180, 0, 45, 27, 182, 0, 223]
abbrev dktX1_called_1 : List UInt8 := dkwX1_called_1 ++ dktX1_called_2
def dkwX1_called_0 : List UInt8 := [42, 180, 0, 45, 182, 0, 216, 60, 27, 2, 160, 0, 6, 16, 254, 172, 42, 3, 181, 0, 103, 42, 42]
abbrev dktX1_called_0 : List UInt8 := dkwX1_called_0 ++ dktX1_called_1
theorem dksX1_called_0 : cX1_called.data.toList.drop 0 = dktX1_called_0 := by decide +kernel
theorem dksX1_called_1 : cX1_called.data.toList.drop 23 = dktX1_called_1 := dk_seg dksX1_called_0 23 rfl rfl
theorem dksX1_called_2 : cX1_called.data.toList.drop 47 = dktX1_called_2 := dk_seg dksX1_called_1 24 rfl rfl
theorem dX1_called_0 : decode cX1_called 0 = .ok (.aload_n 0, 1) := dk_42 (dk_at dksX1_called_0 0 rfl rfl)
theorem dX1_called_1 : decode cX1_called 1 = .ok (.getfield 45, 3) := dk_180 0 45 (dk_at dksX1_called_0 1 rfl rfl)
theorem dX1_called_4 : decode cX1_called 4 = .ok (.invokevirtual 216, 3) := dk_182 0 216 (dk_at dksX1_called_0 4 rfl rfl)
theorem dX1_called_7 : decode cX1_called 7 = .ok (.istore_n 1, 1) := dk_60 (dk_at dksX1_called_0 7 rfl rfl)
theorem dX1_called_8 : decode cX1_called 8 = .ok (.iload_n 1, 1) := dk_27 (dk_at dksX1_called_0 8 rfl rfl)
theorem dX1_called_9 : decode cX1_called 9 = .ok (.iconst (-1), 1) := dk_2 (dk_at dksX1_called_0 9 rfl rfl)
theorem dX1_called_10 : decode cX1_called 10 = .ok (.if_icmp .ne 6, 3) := dk_160 0 6 (dk_at dksX1_called_0 10 rfl rfl)
theorem dX1_called_13 : decode cX1_called 13 = .ok (.bipush (-2), 2) := dk_16 254 (dk_at dksX1_called_0 13 rfl rfl)
theorem dX1_called_15 : decode cX1_called 15 = .ok (.ireturn, 1) := dk_172 (dk_at dksX1_called_0 15 rfl rfl)
theorem dX1_called_16 : decode cX1_called 16 = .ok (.aload_n 0, 1) := dk_42 (dk_at dksX1_called_0 16 rfl rfl)
theorem dX1_called_17 : decode cX1_called 17 = .ok (.iconst 0, 1) := dk_3 (dk_at dksX1_called_0 17 rfl rfl)
theorem dX1_called_18 : decode cX1_called 18 = .ok (.putfield 103, 3) := dk_181 0 103 (dk_at dksX1_called_0 18 rfl rfl)
theorem dX1_called_21 : decode cX1_called 21 = .ok (.aload_n 0, 1) := dk_42 (dk_at dksX1_called_0 21 rfl rfl)
theorem dX1_called_22 : decode cX1_called 22 = .ok (.aload_n 0, 1) := dk_42 (dk_at dksX1_called_0 22 rfl rfl)
theorem dX1_called_23 : decode cX1_called 23 = .ok (.getfield 45, 3) := dk_180 0 45 (dk_at dksX1_called_1 0 rfl rfl)
theorem dX1_called_26 : decode cX1_called 26 = .ok (.getfield 175, 3) := dk_180 0 175 (dk_at dksX1_called_1 3 rfl rfl)
theorem dX1_called_29 : decode cX1_called 29 = .ok (.iload_n 1, 1) := dk_27 (dk_at dksX1_called_1 6 rfl rfl)
theorem dX1_called_30 : decode cX1_called 30 = .ok (.aaload, 1) := dk_50 (dk_at dksX1_called_1 7 rfl rfl)
theorem dX1_called_31 : decode cX1_called 31 = .ok (.getfield 190, 3) := dk_180 0 190 (dk_at dksX1_called_1 8 rfl rfl)
theorem dX1_called_34 : decode cX1_called 34 = .ok (.i2l, 1) := dk_133 (dk_at dksX1_called_1 11 rfl rfl)
theorem dX1_called_35 : decode cX1_called 35 = .ok (.invokevirtual 219, 3) := dk_182 0 219 (dk_at dksX1_called_1 12 rfl rfl)
theorem dX1_called_38 : decode cX1_called 38 = .ok (.aload_n 0, 1) := dk_42 (dk_at dksX1_called_1 15 rfl rfl)
theorem dX1_called_39 : decode cX1_called 39 = .ok (.aload_n 0, 1) := dk_42 (dk_at dksX1_called_1 16 rfl rfl)
theorem dX1_called_40 : decode cX1_called 40 = .ok (.getfield 45, 3) := dk_180 0 45 (dk_at dksX1_called_1 17 rfl rfl)
theorem dX1_called_43 : decode cX1_called 43 = .ok (.iload_n 1, 1) := dk_27 (dk_at dksX1_called_1 20 rfl rfl)
theorem dX1_called_44 : decode cX1_called 44 = .ok (.invokevirtual 223, 3) := dk_182 0 223 (dk_at dksX1_called_1 21 rfl rfl)
theorem dX1_called_47 : decode cX1_called 47 = .ok (.i2l, 1) := dk_133 (dk_at dksX1_called_2 0 rfl rfl)
theorem dX1_called_48 : decode cX1_called 48 = .ok (.invokevirtual 219, 3) := dk_182 0 219 (dk_at dksX1_called_2 1 rfl rfl)
theorem dX1_called_51 : decode cX1_called 51 = .ok (.iload_n 1, 1) := dk_27 (dk_at dksX1_called_2 4 rfl rfl)
theorem dX1_called_52 : decode cX1_called 52 = .ok (.ireturn, 1) := dk_172 (dk_at dksX1_called_2 5 rfl rfl)
abbrev cX1_tell : ByteArray := prog_1_method_5_code
def yX1_tell : MethodName := ⟨RX1, "tell", "(J)V"⟩
def dkwX1_tell_0 : List UInt8 := [42, 180, 0, 56, 42, 180, 0, 103, 31, 80, 42, 89, 180, 0, 103, 4, 96, 181, 0, 103, 177]
abbrev dktX1_tell_0 : List UInt8 := dkwX1_tell_0 ++ []
theorem dksX1_tell_0 : cX1_tell.data.toList.drop 0 = dktX1_tell_0 := by decide +kernel
theorem dX1_tell_0 : decode cX1_tell 0 = .ok (.aload_n 0, 1) := dk_42 (dk_at dksX1_tell_0 0 rfl rfl)
theorem dX1_tell_1 : decode cX1_tell 1 = .ok (.getfield 56, 3) := dk_180 0 56 (dk_at dksX1_tell_0 1 rfl rfl)
theorem dX1_tell_4 : decode cX1_tell 4 = .ok (.aload_n 0, 1) := dk_42 (dk_at dksX1_tell_0 4 rfl rfl)
theorem dX1_tell_5 : decode cX1_tell 5 = .ok (.getfield 103, 3) := dk_180 0 103 (dk_at dksX1_tell_0 5 rfl rfl)
theorem dX1_tell_8 : decode cX1_tell 8 = .ok (.lload_n 1, 1) := dk_31 (dk_at dksX1_tell_0 8 rfl rfl)
theorem dX1_tell_9 : decode cX1_tell 9 = .ok (.lastore, 1) := dk_80 (dk_at dksX1_tell_0 9 rfl rfl)
theorem dX1_tell_10 : decode cX1_tell 10 = .ok (.aload_n 0, 1) := dk_42 (dk_at dksX1_tell_0 10 rfl rfl)
theorem dX1_tell_11 : decode cX1_tell 11 = .ok (.dup, 1) := dk_89 (dk_at dksX1_tell_0 11 rfl rfl)
theorem dX1_tell_12 : decode cX1_tell 12 = .ok (.getfield 103, 3) := dk_180 0 103 (dk_at dksX1_tell_0 12 rfl rfl)
theorem dX1_tell_15 : decode cX1_tell 15 = .ok (.iconst 1, 1) := dk_4 (dk_at dksX1_tell_0 15 rfl rfl)
theorem dX1_tell_16 : decode cX1_tell 16 = .ok (.iadd, 1) := dk_96 (dk_at dksX1_tell_0 16 rfl rfl)
theorem dX1_tell_17 : decode cX1_tell 17 = .ok (.putfield 103, 3) := dk_181 0 103 (dk_at dksX1_tell_0 17 rfl rfl)
theorem dX1_tell_20 : decode cX1_tell 20 = .ok (.return_, 1) := dk_177 (dk_at dksX1_tell_0 20 rfl rfl)
abbrev cX1_order : ByteArray := prog_1_method_19_code
def yX1_order : MethodName := ⟨RX1, "order", "()I"⟩
def dkwX1_order_2 : List UInt8 := [42, 180, 0, 49, 182, 0, 216, 60, 167, 255, 224, 42, 180, 0, 103, 172]
abbrev dktX1_order_2 : List UInt8 := dkwX1_order_2 ++ []
def dkwX1_order_1 : List UInt8 := [27, 2, 159, 0, 33, 42, 27, 133, 182, 0, 219, 42, 180, 0, 49, 180, 0, 175, 27, 50, 4, 181, 0, 230]
abbrev dktX1_order_1 : List UInt8 := dkwX1_order_1 ++ dktX1_order_2
def dkwX1_order_0 : List UInt8 := [42, 3, 181, 0, 103, 42, 180, 0, 49, 42, 180, 0, 45, 182, 0, 226, 42, 180, 0, 49, 182, 0, 216, 60]
abbrev dktX1_order_0 : List UInt8 := dkwX1_order_0 ++ dktX1_order_1
theorem dksX1_order_0 : cX1_order.data.toList.drop 0 = dktX1_order_0 := by decide +kernel
theorem dksX1_order_1 : cX1_order.data.toList.drop 24 = dktX1_order_1 := dk_seg dksX1_order_0 24 rfl rfl
theorem dksX1_order_2 : cX1_order.data.toList.drop 48 = dktX1_order_2 := dk_seg dksX1_order_1 24 rfl rfl
theorem dX1_order_0 : decode cX1_order 0 = .ok (.aload_n 0, 1) := dk_42 (dk_at dksX1_order_0 0 rfl rfl)
theorem dX1_order_1 : decode cX1_order 1 = .ok (.iconst 0, 1) := dk_3 (dk_at dksX1_order_0 1 rfl rfl)
theorem dX1_order_2 : decode cX1_order 2 = .ok (.putfield 103, 3) := dk_181 0 103 (dk_at dksX1_order_0 2 rfl rfl)
theorem dX1_order_5 : decode cX1_order 5 = .ok (.aload_n 0, 1) := dk_42 (dk_at dksX1_order_0 5 rfl rfl)
theorem dX1_order_6 : decode cX1_order 6 = .ok (.getfield 49, 3) := dk_180 0 49 (dk_at dksX1_order_0 6 rfl rfl)
theorem dX1_order_9 : decode cX1_order 9 = .ok (.aload_n 0, 1) := dk_42 (dk_at dksX1_order_0 9 rfl rfl)
theorem dX1_order_10 : decode cX1_order 10 = .ok (.getfield 45, 3) := dk_180 0 45 (dk_at dksX1_order_0 10 rfl rfl)
theorem dX1_order_13 : decode cX1_order 13 = .ok (.invokevirtual 226, 3) := dk_182 0 226 (dk_at dksX1_order_0 13 rfl rfl)
theorem dX1_order_16 : decode cX1_order 16 = .ok (.aload_n 0, 1) := dk_42 (dk_at dksX1_order_0 16 rfl rfl)
theorem dX1_order_17 : decode cX1_order 17 = .ok (.getfield 49, 3) := dk_180 0 49 (dk_at dksX1_order_0 17 rfl rfl)
theorem dX1_order_20 : decode cX1_order 20 = .ok (.invokevirtual 216, 3) := dk_182 0 216 (dk_at dksX1_order_0 20 rfl rfl)
theorem dX1_order_23 : decode cX1_order 23 = .ok (.istore_n 1, 1) := dk_60 (dk_at dksX1_order_0 23 rfl rfl)
theorem dX1_order_24 : decode cX1_order 24 = .ok (.iload_n 1, 1) := dk_27 (dk_at dksX1_order_1 0 rfl rfl)
theorem dX1_order_25 : decode cX1_order 25 = .ok (.iconst (-1), 1) := dk_2 (dk_at dksX1_order_1 1 rfl rfl)
theorem dX1_order_26 : decode cX1_order 26 = .ok (.if_icmp .eq 33, 3) := dk_159 0 33 (dk_at dksX1_order_1 2 rfl rfl)
theorem dX1_order_29 : decode cX1_order 29 = .ok (.aload_n 0, 1) := dk_42 (dk_at dksX1_order_1 5 rfl rfl)
theorem dX1_order_30 : decode cX1_order 30 = .ok (.iload_n 1, 1) := dk_27 (dk_at dksX1_order_1 6 rfl rfl)
theorem dX1_order_31 : decode cX1_order 31 = .ok (.i2l, 1) := dk_133 (dk_at dksX1_order_1 7 rfl rfl)
theorem dX1_order_32 : decode cX1_order 32 = .ok (.invokevirtual 219, 3) := dk_182 0 219 (dk_at dksX1_order_1 8 rfl rfl)
theorem dX1_order_35 : decode cX1_order 35 = .ok (.aload_n 0, 1) := dk_42 (dk_at dksX1_order_1 11 rfl rfl)
theorem dX1_order_36 : decode cX1_order 36 = .ok (.getfield 49, 3) := dk_180 0 49 (dk_at dksX1_order_1 12 rfl rfl)
theorem dX1_order_39 : decode cX1_order 39 = .ok (.getfield 175, 3) := dk_180 0 175 (dk_at dksX1_order_1 15 rfl rfl)
theorem dX1_order_42 : decode cX1_order 42 = .ok (.iload_n 1, 1) := dk_27 (dk_at dksX1_order_1 18 rfl rfl)
theorem dX1_order_43 : decode cX1_order 43 = .ok (.aaload, 1) := dk_50 (dk_at dksX1_order_1 19 rfl rfl)
theorem dX1_order_44 : decode cX1_order 44 = .ok (.iconst 1, 1) := dk_4 (dk_at dksX1_order_1 20 rfl rfl)
theorem dX1_order_45 : decode cX1_order 45 = .ok (.putfield 230, 3) := dk_181 0 230 (dk_at dksX1_order_1 21 rfl rfl)
theorem dX1_order_48 : decode cX1_order 48 = .ok (.aload_n 0, 1) := dk_42 (dk_at dksX1_order_2 0 rfl rfl)
theorem dX1_order_49 : decode cX1_order 49 = .ok (.getfield 49, 3) := dk_180 0 49 (dk_at dksX1_order_2 1 rfl rfl)
theorem dX1_order_52 : decode cX1_order 52 = .ok (.invokevirtual 216, 3) := dk_182 0 216 (dk_at dksX1_order_2 4 rfl rfl)
theorem dX1_order_55 : decode cX1_order 55 = .ok (.istore_n 1, 1) := dk_60 (dk_at dksX1_order_2 7 rfl rfl)
theorem dX1_order_56 : decode cX1_order 56 = .ok (.goto (-32), 3) := dk_167 255 224 (dk_at dksX1_order_2 8 rfl rfl)
theorem dX1_order_59 : decode cX1_order 59 = .ok (.aload_n 0, 1) := dk_42 (dk_at dksX1_order_2 11 rfl rfl)
theorem dX1_order_60 : decode cX1_order 60 = .ok (.getfield 103, 3) := dk_180 0 103 (dk_at dksX1_order_2 12 rfl rfl)
theorem dX1_order_63 : decode cX1_order 63 = .ok (.ireturn, 1) := dk_172 (dk_at dksX1_order_2 15 rfl rfl)
abbrev cX1_asks : ByteArray := prog_1_method_20_code
def yX1_asks : MethodName := ⟨RX1, "asks", "(II)I"⟩
def dkwX1_asks_4 : List UInt8 := [45, 180, 0, 199, 172]
abbrev dktX1_asks_4 : List UInt8 := dkwX1_asks_4 ++ []
def dkwX1_asks_3 : List UInt8 := [180, 0, 190, 160, 0, 6, 16, 252, 172, 45, 28, 181, 0, 190, 45, 89, 180, 0, 199, 4, 100, 181, 0, 199]
abbrev dktX1_asks_3 : List UInt8 := dkwX1_asks_3 ++ dktX1_asks_4
def dkwX1_asks_2 : List UInt8 := [154, 0, 6, 16, 253, 172, 28, 45, 42, 180, 0, 45, 180, 0, 193, 182, 0, 196, 161, 0, 11, 28, 45]
abbrev dktX1_asks_2 : List UInt8 := dkwX1_asks_2 ++ dktX1_asks_3
def dkwX1_asks_1 : List UInt8 := [180, 0, 45, 180, 0, 175, 27, 50, 78, 45, 182, 0, 202, 154, 0, 6, 16, 254, 172, 45, 180, 0, 199]
abbrev dktX1_asks_1 : List UInt8 := dkwX1_asks_1 ++ dktX1_asks_2
def dkwX1_asks_0 : List UInt8 := [42, 27, 182, 0, 151, 153, 0, 15, 28, 133, 10, 20, 0, 158, 184, 0, 110, 154, 0, 5, 2, 172, 42]
abbrev dktX1_asks_0 : List UInt8 := dkwX1_asks_0 ++ dktX1_asks_1
theorem dksX1_asks_0 : cX1_asks.data.toList.drop 0 = dktX1_asks_0 := by decide +kernel
theorem dksX1_asks_1 : cX1_asks.data.toList.drop 23 = dktX1_asks_1 := dk_seg dksX1_asks_0 23 rfl rfl
theorem dksX1_asks_2 : cX1_asks.data.toList.drop 46 = dktX1_asks_2 := dk_seg dksX1_asks_1 23 rfl rfl
theorem dksX1_asks_3 : cX1_asks.data.toList.drop 69 = dktX1_asks_3 := dk_seg dksX1_asks_2 23 rfl rfl
theorem dksX1_asks_4 : cX1_asks.data.toList.drop 93 = dktX1_asks_4 := dk_seg dksX1_asks_3 24 rfl rfl
theorem dX1_asks_0 : decode cX1_asks 0 = .ok (.aload_n 0, 1) := dk_42 (dk_at dksX1_asks_0 0 rfl rfl)
theorem dX1_asks_1 : decode cX1_asks 1 = .ok (.iload_n 1, 1) := dk_27 (dk_at dksX1_asks_0 1 rfl rfl)
theorem dX1_asks_2 : decode cX1_asks 2 = .ok (.invokevirtual 151, 3) := dk_182 0 151 (dk_at dksX1_asks_0 2 rfl rfl)
theorem dX1_asks_5 : decode cX1_asks 5 = .ok (.ifCond .eq 15, 3) := dk_153 0 15 (dk_at dksX1_asks_0 5 rfl rfl)
theorem dX1_asks_8 : decode cX1_asks 8 = .ok (.iload_n 2, 1) := dk_28 (dk_at dksX1_asks_0 8 rfl rfl)
theorem dX1_asks_9 : decode cX1_asks 9 = .ok (.i2l, 1) := dk_133 (dk_at dksX1_asks_0 9 rfl rfl)
theorem dX1_asks_10 : decode cX1_asks 10 = .ok (.lconst 1, 1) := dk_10 (dk_at dksX1_asks_0 10 rfl rfl)
theorem dX1_asks_11 : decode cX1_asks 11 = .ok (.ldc2_w 158, 3) := dk_20 0 158 (dk_at dksX1_asks_0 11 rfl rfl)
theorem dX1_asks_14 : decode cX1_asks 14 = .ok (.invokestatic 110, 3) := dk_184 0 110 (dk_at dksX1_asks_0 14 rfl rfl)
theorem dX1_asks_17 : decode cX1_asks 17 = .ok (.ifCond .ne 5, 3) := dk_154 0 5 (dk_at dksX1_asks_0 17 rfl rfl)
theorem dX1_asks_20 : decode cX1_asks 20 = .ok (.iconst (-1), 1) := dk_2 (dk_at dksX1_asks_0 20 rfl rfl)
theorem dX1_asks_21 : decode cX1_asks 21 = .ok (.ireturn, 1) := dk_172 (dk_at dksX1_asks_0 21 rfl rfl)
theorem dX1_asks_22 : decode cX1_asks 22 = .ok (.aload_n 0, 1) := dk_42 (dk_at dksX1_asks_0 22 rfl rfl)
theorem dX1_asks_23 : decode cX1_asks 23 = .ok (.getfield 45, 3) := dk_180 0 45 (dk_at dksX1_asks_1 0 rfl rfl)
theorem dX1_asks_26 : decode cX1_asks 26 = .ok (.getfield 175, 3) := dk_180 0 175 (dk_at dksX1_asks_1 3 rfl rfl)
theorem dX1_asks_29 : decode cX1_asks 29 = .ok (.iload_n 1, 1) := dk_27 (dk_at dksX1_asks_1 6 rfl rfl)
theorem dX1_asks_30 : decode cX1_asks 30 = .ok (.aaload, 1) := dk_50 (dk_at dksX1_asks_1 7 rfl rfl)
theorem dX1_asks_31 : decode cX1_asks 31 = .ok (.astore_n 3, 1) := dk_78 (dk_at dksX1_asks_1 8 rfl rfl)
theorem dX1_asks_32 : decode cX1_asks 32 = .ok (.aload_n 3, 1) := dk_45 (dk_at dksX1_asks_1 9 rfl rfl)
theorem dX1_asks_33 : decode cX1_asks 33 = .ok (.invokevirtual 202, 3) := dk_182 0 202 (dk_at dksX1_asks_1 10 rfl rfl)
theorem dX1_asks_36 : decode cX1_asks 36 = .ok (.ifCond .ne 6, 3) := dk_154 0 6 (dk_at dksX1_asks_1 13 rfl rfl)
theorem dX1_asks_39 : decode cX1_asks 39 = .ok (.bipush (-2), 2) := dk_16 254 (dk_at dksX1_asks_1 16 rfl rfl)
theorem dX1_asks_41 : decode cX1_asks 41 = .ok (.ireturn, 1) := dk_172 (dk_at dksX1_asks_1 18 rfl rfl)
theorem dX1_asks_42 : decode cX1_asks 42 = .ok (.aload_n 3, 1) := dk_45 (dk_at dksX1_asks_1 19 rfl rfl)
theorem dX1_asks_43 : decode cX1_asks 43 = .ok (.getfield 199, 3) := dk_180 0 199 (dk_at dksX1_asks_1 20 rfl rfl)
theorem dX1_asks_46 : decode cX1_asks 46 = .ok (.ifCond .ne 6, 3) := dk_154 0 6 (dk_at dksX1_asks_2 0 rfl rfl)
theorem dX1_asks_49 : decode cX1_asks 49 = .ok (.bipush (-3), 2) := dk_16 253 (dk_at dksX1_asks_2 3 rfl rfl)
theorem dX1_asks_51 : decode cX1_asks 51 = .ok (.ireturn, 1) := dk_172 (dk_at dksX1_asks_2 5 rfl rfl)
theorem dX1_asks_52 : decode cX1_asks 52 = .ok (.iload_n 2, 1) := dk_28 (dk_at dksX1_asks_2 6 rfl rfl)
theorem dX1_asks_53 : decode cX1_asks 53 = .ok (.aload_n 3, 1) := dk_45 (dk_at dksX1_asks_2 7 rfl rfl)
theorem dX1_asks_54 : decode cX1_asks 54 = .ok (.aload_n 0, 1) := dk_42 (dk_at dksX1_asks_2 8 rfl rfl)
theorem dX1_asks_55 : decode cX1_asks 55 = .ok (.getfield 45, 3) := dk_180 0 45 (dk_at dksX1_asks_2 9 rfl rfl)
theorem dX1_asks_58 : decode cX1_asks 58 = .ok (.getfield 193, 3) := dk_180 0 193 (dk_at dksX1_asks_2 12 rfl rfl)
theorem dX1_asks_61 : decode cX1_asks 61 = .ok (.invokevirtual 196, 3) := dk_182 0 196 (dk_at dksX1_asks_2 15 rfl rfl)
theorem dX1_asks_64 : decode cX1_asks 64 = .ok (.if_icmp .lt 11, 3) := dk_161 0 11 (dk_at dksX1_asks_2 18 rfl rfl)
theorem dX1_asks_67 : decode cX1_asks 67 = .ok (.iload_n 2, 1) := dk_28 (dk_at dksX1_asks_2 21 rfl rfl)
theorem dX1_asks_68 : decode cX1_asks 68 = .ok (.aload_n 3, 1) := dk_45 (dk_at dksX1_asks_2 22 rfl rfl)
theorem dX1_asks_69 : decode cX1_asks 69 = .ok (.getfield 190, 3) := dk_180 0 190 (dk_at dksX1_asks_3 0 rfl rfl)
theorem dX1_asks_72 : decode cX1_asks 72 = .ok (.if_icmp .ne 6, 3) := dk_160 0 6 (dk_at dksX1_asks_3 3 rfl rfl)
theorem dX1_asks_75 : decode cX1_asks 75 = .ok (.bipush (-4), 2) := dk_16 252 (dk_at dksX1_asks_3 6 rfl rfl)
theorem dX1_asks_77 : decode cX1_asks 77 = .ok (.ireturn, 1) := dk_172 (dk_at dksX1_asks_3 8 rfl rfl)
theorem dX1_asks_78 : decode cX1_asks 78 = .ok (.aload_n 3, 1) := dk_45 (dk_at dksX1_asks_3 9 rfl rfl)
theorem dX1_asks_79 : decode cX1_asks 79 = .ok (.iload_n 2, 1) := dk_28 (dk_at dksX1_asks_3 10 rfl rfl)
theorem dX1_asks_80 : decode cX1_asks 80 = .ok (.putfield 190, 3) := dk_181 0 190 (dk_at dksX1_asks_3 11 rfl rfl)
theorem dX1_asks_83 : decode cX1_asks 83 = .ok (.aload_n 3, 1) := dk_45 (dk_at dksX1_asks_3 14 rfl rfl)
theorem dX1_asks_84 : decode cX1_asks 84 = .ok (.dup, 1) := dk_89 (dk_at dksX1_asks_3 15 rfl rfl)
theorem dX1_asks_85 : decode cX1_asks 85 = .ok (.getfield 199, 3) := dk_180 0 199 (dk_at dksX1_asks_3 16 rfl rfl)
theorem dX1_asks_88 : decode cX1_asks 88 = .ok (.iconst 1, 1) := dk_4 (dk_at dksX1_asks_3 19 rfl rfl)
theorem dX1_asks_89 : decode cX1_asks 89 = .ok (.isub, 1) := dk_100 (dk_at dksX1_asks_3 20 rfl rfl)
theorem dX1_asks_90 : decode cX1_asks 90 = .ok (.putfield 199, 3) := dk_181 0 199 (dk_at dksX1_asks_3 21 rfl rfl)
theorem dX1_asks_93 : decode cX1_asks 93 = .ok (.aload_n 3, 1) := dk_45 (dk_at dksX1_asks_4 0 rfl rfl)
theorem dX1_asks_94 : decode cX1_asks 94 = .ok (.getfield 199, 3) := dk_180 0 199 (dk_at dksX1_asks_4 1 rfl rfl)
theorem dX1_asks_97 : decode cX1_asks 97 = .ok (.ireturn, 1) := dk_172 (dk_at dksX1_asks_4 4 rfl rfl)
abbrev cX1_tries : ByteArray := prog_1_method_22_code
def yX1_tries : MethodName := ⟨RX1, "tries", "(Z)I"⟩
def dkwX1_tries_2 : List UInt8 := [182, 0, 219, 28, 172]
abbrev dktX1_tries_2 : List UInt8 := dkwX1_tries_2 ++ []
def dkwX1_tries_1 : List UInt8 := [181, 0, 103, 42, 42, 180, 0, 67, 42, 180, 0, 119, 4, 100, 46, 133, 182, 0, 219, 42, 29, 133]
abbrev dktX1_tries_1 : List UInt8 := dkwX1_tries_1 ++ dktX1_tries_2
def dkwX1_tries_0 : List UInt8 := [42, 180, 0, 45, 182, 0, 216, 61, 28, 2, 160, 0, 6, 16, 254, 172, 42, 27, 182, 0, 245, 62, 42, 3]
abbrev dktX1_tries_0 : List UInt8 := dkwX1_tries_0 ++ dktX1_tries_1
theorem dksX1_tries_0 : cX1_tries.data.toList.drop 0 = dktX1_tries_0 := by decide +kernel
theorem dksX1_tries_1 : cX1_tries.data.toList.drop 24 = dktX1_tries_1 := dk_seg dksX1_tries_0 24 rfl rfl
theorem dksX1_tries_2 : cX1_tries.data.toList.drop 46 = dktX1_tries_2 := dk_seg dksX1_tries_1 22 rfl rfl
theorem dX1_tries_0 : decode cX1_tries 0 = .ok (.aload_n 0, 1) := dk_42 (dk_at dksX1_tries_0 0 rfl rfl)
theorem dX1_tries_1 : decode cX1_tries 1 = .ok (.getfield 45, 3) := dk_180 0 45 (dk_at dksX1_tries_0 1 rfl rfl)
theorem dX1_tries_4 : decode cX1_tries 4 = .ok (.invokevirtual 216, 3) := dk_182 0 216 (dk_at dksX1_tries_0 4 rfl rfl)
theorem dX1_tries_7 : decode cX1_tries 7 = .ok (.istore_n 2, 1) := dk_61 (dk_at dksX1_tries_0 7 rfl rfl)
theorem dX1_tries_8 : decode cX1_tries 8 = .ok (.iload_n 2, 1) := dk_28 (dk_at dksX1_tries_0 8 rfl rfl)
theorem dX1_tries_9 : decode cX1_tries 9 = .ok (.iconst (-1), 1) := dk_2 (dk_at dksX1_tries_0 9 rfl rfl)
theorem dX1_tries_10 : decode cX1_tries 10 = .ok (.if_icmp .ne 6, 3) := dk_160 0 6 (dk_at dksX1_tries_0 10 rfl rfl)
theorem dX1_tries_13 : decode cX1_tries 13 = .ok (.bipush (-2), 2) := dk_16 254 (dk_at dksX1_tries_0 13 rfl rfl)
theorem dX1_tries_15 : decode cX1_tries 15 = .ok (.ireturn, 1) := dk_172 (dk_at dksX1_tries_0 15 rfl rfl)
theorem dX1_tries_16 : decode cX1_tries 16 = .ok (.aload_n 0, 1) := dk_42 (dk_at dksX1_tries_0 16 rfl rfl)
theorem dX1_tries_17 : decode cX1_tries 17 = .ok (.iload_n 1, 1) := dk_27 (dk_at dksX1_tries_0 17 rfl rfl)
theorem dX1_tries_18 : decode cX1_tries 18 = .ok (.invokevirtual 245, 3) := dk_182 0 245 (dk_at dksX1_tries_0 18 rfl rfl)
theorem dX1_tries_21 : decode cX1_tries 21 = .ok (.istore_n 3, 1) := dk_62 (dk_at dksX1_tries_0 21 rfl rfl)
theorem dX1_tries_22 : decode cX1_tries 22 = .ok (.aload_n 0, 1) := dk_42 (dk_at dksX1_tries_0 22 rfl rfl)
theorem dX1_tries_23 : decode cX1_tries 23 = .ok (.iconst 0, 1) := dk_3 (dk_at dksX1_tries_0 23 rfl rfl)
theorem dX1_tries_24 : decode cX1_tries 24 = .ok (.putfield 103, 3) := dk_181 0 103 (dk_at dksX1_tries_1 0 rfl rfl)
theorem dX1_tries_27 : decode cX1_tries 27 = .ok (.aload_n 0, 1) := dk_42 (dk_at dksX1_tries_1 3 rfl rfl)
theorem dX1_tries_28 : decode cX1_tries 28 = .ok (.aload_n 0, 1) := dk_42 (dk_at dksX1_tries_1 4 rfl rfl)
theorem dX1_tries_29 : decode cX1_tries 29 = .ok (.getfield 67, 3) := dk_180 0 67 (dk_at dksX1_tries_1 5 rfl rfl)
theorem dX1_tries_32 : decode cX1_tries 32 = .ok (.aload_n 0, 1) := dk_42 (dk_at dksX1_tries_1 8 rfl rfl)
theorem dX1_tries_33 : decode cX1_tries 33 = .ok (.getfield 119, 3) := dk_180 0 119 (dk_at dksX1_tries_1 9 rfl rfl)
theorem dX1_tries_36 : decode cX1_tries 36 = .ok (.iconst 1, 1) := dk_4 (dk_at dksX1_tries_1 12 rfl rfl)
theorem dX1_tries_37 : decode cX1_tries 37 = .ok (.isub, 1) := dk_100 (dk_at dksX1_tries_1 13 rfl rfl)
theorem dX1_tries_38 : decode cX1_tries 38 = .ok (.iaload, 1) := dk_46 (dk_at dksX1_tries_1 14 rfl rfl)
theorem dX1_tries_39 : decode cX1_tries 39 = .ok (.i2l, 1) := dk_133 (dk_at dksX1_tries_1 15 rfl rfl)
theorem dX1_tries_40 : decode cX1_tries 40 = .ok (.invokevirtual 219, 3) := dk_182 0 219 (dk_at dksX1_tries_1 16 rfl rfl)
theorem dX1_tries_43 : decode cX1_tries 43 = .ok (.aload_n 0, 1) := dk_42 (dk_at dksX1_tries_1 19 rfl rfl)
theorem dX1_tries_44 : decode cX1_tries 44 = .ok (.iload_n 3, 1) := dk_29 (dk_at dksX1_tries_1 20 rfl rfl)
theorem dX1_tries_45 : decode cX1_tries 45 = .ok (.i2l, 1) := dk_133 (dk_at dksX1_tries_1 21 rfl rfl)
theorem dX1_tries_46 : decode cX1_tries 46 = .ok (.invokevirtual 219, 3) := dk_182 0 219 (dk_at dksX1_tries_2 0 rfl rfl)
theorem dX1_tries_49 : decode cX1_tries 49 = .ok (.iload_n 2, 1) := dk_28 (dk_at dksX1_tries_2 3 rfl rfl)
theorem dX1_tries_50 : decode cX1_tries 50 = .ok (.ireturn, 1) := dk_172 (dk_at dksX1_tries_2 4 rfl rfl)
abbrev cX1_triesNow : ByteArray := prog_1_method_21_code
def yX1_triesNow : MethodName := ⟨RX1, "triesNow", "(Z)I"⟩
def dkwX1_triesNow_3 : List UInt8 := [4, 96, 181, 0, 119, 42, 180, 0, 45, 27, 184, 0, 236, 182, 0, 241, 172]
abbrev dktX1_triesNow_3 : List UInt8 := dkwX1_triesNow_3 ++ []
def dkwX1_triesNow_2 : List UInt8 := [180, 0, 175, 28, 50, 180, 0, 190, 79, 42, 180, 0, 70, 42, 180, 0, 119, 27, 84, 42, 89, 180, 0, 119]
abbrev dktX1_triesNow_2 : List UInt8 := dkwX1_triesNow_2 ++ dktX1_triesNow_3
def dkwX1_triesNow_1 : List UInt8 := [180, 0, 119, 42, 180, 0, 45, 180, 0, 233, 79, 42, 180, 0, 67, 42, 180, 0, 119, 42, 180, 0, 45]
abbrev dktX1_triesNow_1 : List UInt8 := dkwX1_triesNow_1 ++ dktX1_triesNow_2
def dkwX1_triesNow_0 : List UInt8 := [42, 180, 0, 45, 182, 0, 216, 61, 42, 180, 0, 60, 42, 180, 0, 119, 28, 79, 42, 180, 0, 64, 42]
abbrev dktX1_triesNow_0 : List UInt8 := dkwX1_triesNow_0 ++ dktX1_triesNow_1
theorem dksX1_triesNow_0 : cX1_triesNow.data.toList.drop 0 = dktX1_triesNow_0 := by decide +kernel
theorem dksX1_triesNow_1 : cX1_triesNow.data.toList.drop 23 = dktX1_triesNow_1 := dk_seg dksX1_triesNow_0 23 rfl rfl
theorem dksX1_triesNow_2 : cX1_triesNow.data.toList.drop 46 = dktX1_triesNow_2 := dk_seg dksX1_triesNow_1 23 rfl rfl
theorem dksX1_triesNow_3 : cX1_triesNow.data.toList.drop 70 = dktX1_triesNow_3 := dk_seg dksX1_triesNow_2 24 rfl rfl
theorem dX1_triesNow_0 : decode cX1_triesNow 0 = .ok (.aload_n 0, 1) := dk_42 (dk_at dksX1_triesNow_0 0 rfl rfl)
theorem dX1_triesNow_1 : decode cX1_triesNow 1 = .ok (.getfield 45, 3) := dk_180 0 45 (dk_at dksX1_triesNow_0 1 rfl rfl)
theorem dX1_triesNow_4 : decode cX1_triesNow 4 = .ok (.invokevirtual 216, 3) := dk_182 0 216 (dk_at dksX1_triesNow_0 4 rfl rfl)
theorem dX1_triesNow_7 : decode cX1_triesNow 7 = .ok (.istore_n 2, 1) := dk_61 (dk_at dksX1_triesNow_0 7 rfl rfl)
theorem dX1_triesNow_8 : decode cX1_triesNow 8 = .ok (.aload_n 0, 1) := dk_42 (dk_at dksX1_triesNow_0 8 rfl rfl)
theorem dX1_triesNow_9 : decode cX1_triesNow 9 = .ok (.getfield 60, 3) := dk_180 0 60 (dk_at dksX1_triesNow_0 9 rfl rfl)
theorem dX1_triesNow_12 : decode cX1_triesNow 12 = .ok (.aload_n 0, 1) := dk_42 (dk_at dksX1_triesNow_0 12 rfl rfl)
theorem dX1_triesNow_13 : decode cX1_triesNow 13 = .ok (.getfield 119, 3) := dk_180 0 119 (dk_at dksX1_triesNow_0 13 rfl rfl)
theorem dX1_triesNow_16 : decode cX1_triesNow 16 = .ok (.iload_n 2, 1) := dk_28 (dk_at dksX1_triesNow_0 16 rfl rfl)
theorem dX1_triesNow_17 : decode cX1_triesNow 17 = .ok (.iastore, 1) := dk_79 (dk_at dksX1_triesNow_0 17 rfl rfl)
theorem dX1_triesNow_18 : decode cX1_triesNow 18 = .ok (.aload_n 0, 1) := dk_42 (dk_at dksX1_triesNow_0 18 rfl rfl)
theorem dX1_triesNow_19 : decode cX1_triesNow 19 = .ok (.getfield 64, 3) := dk_180 0 64 (dk_at dksX1_triesNow_0 19 rfl rfl)
theorem dX1_triesNow_22 : decode cX1_triesNow 22 = .ok (.aload_n 0, 1) := dk_42 (dk_at dksX1_triesNow_0 22 rfl rfl)
theorem dX1_triesNow_23 : decode cX1_triesNow 23 = .ok (.getfield 119, 3) := dk_180 0 119 (dk_at dksX1_triesNow_1 0 rfl rfl)
theorem dX1_triesNow_26 : decode cX1_triesNow 26 = .ok (.aload_n 0, 1) := dk_42 (dk_at dksX1_triesNow_1 3 rfl rfl)
theorem dX1_triesNow_27 : decode cX1_triesNow 27 = .ok (.getfield 45, 3) := dk_180 0 45 (dk_at dksX1_triesNow_1 4 rfl rfl)
theorem dX1_triesNow_30 : decode cX1_triesNow 30 = .ok (.getfield 233, 3) := dk_180 0 233 (dk_at dksX1_triesNow_1 7 rfl rfl)
theorem dX1_triesNow_33 : decode cX1_triesNow 33 = .ok (.iastore, 1) := dk_79 (dk_at dksX1_triesNow_1 10 rfl rfl)
theorem dX1_triesNow_34 : decode cX1_triesNow 34 = .ok (.aload_n 0, 1) := dk_42 (dk_at dksX1_triesNow_1 11 rfl rfl)
theorem dX1_triesNow_35 : decode cX1_triesNow 35 = .ok (.getfield 67, 3) := dk_180 0 67 (dk_at dksX1_triesNow_1 12 rfl rfl)
theorem dX1_triesNow_38 : decode cX1_triesNow 38 = .ok (.aload_n 0, 1) := dk_42 (dk_at dksX1_triesNow_1 15 rfl rfl)
theorem dX1_triesNow_39 : decode cX1_triesNow 39 = .ok (.getfield 119, 3) := dk_180 0 119 (dk_at dksX1_triesNow_1 16 rfl rfl)
theorem dX1_triesNow_42 : decode cX1_triesNow 42 = .ok (.aload_n 0, 1) := dk_42 (dk_at dksX1_triesNow_1 19 rfl rfl)
theorem dX1_triesNow_43 : decode cX1_triesNow 43 = .ok (.getfield 45, 3) := dk_180 0 45 (dk_at dksX1_triesNow_1 20 rfl rfl)
theorem dX1_triesNow_46 : decode cX1_triesNow 46 = .ok (.getfield 175, 3) := dk_180 0 175 (dk_at dksX1_triesNow_2 0 rfl rfl)
theorem dX1_triesNow_49 : decode cX1_triesNow 49 = .ok (.iload_n 2, 1) := dk_28 (dk_at dksX1_triesNow_2 3 rfl rfl)
theorem dX1_triesNow_50 : decode cX1_triesNow 50 = .ok (.aaload, 1) := dk_50 (dk_at dksX1_triesNow_2 4 rfl rfl)
theorem dX1_triesNow_51 : decode cX1_triesNow 51 = .ok (.getfield 190, 3) := dk_180 0 190 (dk_at dksX1_triesNow_2 5 rfl rfl)
theorem dX1_triesNow_54 : decode cX1_triesNow 54 = .ok (.iastore, 1) := dk_79 (dk_at dksX1_triesNow_2 8 rfl rfl)
theorem dX1_triesNow_55 : decode cX1_triesNow 55 = .ok (.aload_n 0, 1) := dk_42 (dk_at dksX1_triesNow_2 9 rfl rfl)
theorem dX1_triesNow_56 : decode cX1_triesNow 56 = .ok (.getfield 70, 3) := dk_180 0 70 (dk_at dksX1_triesNow_2 10 rfl rfl)
theorem dX1_triesNow_59 : decode cX1_triesNow 59 = .ok (.aload_n 0, 1) := dk_42 (dk_at dksX1_triesNow_2 13 rfl rfl)
theorem dX1_triesNow_60 : decode cX1_triesNow 60 = .ok (.getfield 119, 3) := dk_180 0 119 (dk_at dksX1_triesNow_2 14 rfl rfl)
theorem dX1_triesNow_63 : decode cX1_triesNow 63 = .ok (.iload_n 1, 1) := dk_27 (dk_at dksX1_triesNow_2 17 rfl rfl)
theorem dX1_triesNow_64 : decode cX1_triesNow 64 = .ok (.bastore, 1) := dk_84 (dk_at dksX1_triesNow_2 18 rfl rfl)
theorem dX1_triesNow_65 : decode cX1_triesNow 65 = .ok (.aload_n 0, 1) := dk_42 (dk_at dksX1_triesNow_2 19 rfl rfl)
theorem dX1_triesNow_66 : decode cX1_triesNow 66 = .ok (.dup, 1) := dk_89 (dk_at dksX1_triesNow_2 20 rfl rfl)
theorem dX1_triesNow_67 : decode cX1_triesNow 67 = .ok (.getfield 119, 3) := dk_180 0 119 (dk_at dksX1_triesNow_2 21 rfl rfl)
theorem dX1_triesNow_70 : decode cX1_triesNow 70 = .ok (.iconst 1, 1) := dk_4 (dk_at dksX1_triesNow_3 0 rfl rfl)
theorem dX1_triesNow_71 : decode cX1_triesNow 71 = .ok (.iadd, 1) := dk_96 (dk_at dksX1_triesNow_3 1 rfl rfl)
theorem dX1_triesNow_72 : decode cX1_triesNow 72 = .ok (.putfield 119, 3) := dk_181 0 119 (dk_at dksX1_triesNow_3 2 rfl rfl)
theorem dX1_triesNow_75 : decode cX1_triesNow 75 = .ok (.aload_n 0, 1) := dk_42 (dk_at dksX1_triesNow_3 5 rfl rfl)
theorem dX1_triesNow_76 : decode cX1_triesNow 76 = .ok (.getfield 45, 3) := dk_180 0 45 (dk_at dksX1_triesNow_3 6 rfl rfl)
theorem dX1_triesNow_79 : decode cX1_triesNow 79 = .ok (.iload_n 1, 1) := dk_27 (dk_at dksX1_triesNow_3 9 rfl rfl)
theorem dX1_triesNow_80 : decode cX1_triesNow 80 = .ok (.invokestatic 236, 3) := dk_184 0 236 (dk_at dksX1_triesNow_3 10 rfl rfl)
theorem dX1_triesNow_83 : decode cX1_triesNow 83 = .ok (.invokevirtual 241, 3) := dk_182 0 241 (dk_at dksX1_triesNow_3 13 rfl rfl)
theorem dX1_triesNow_86 : decode cX1_triesNow 86 = .ok (.ireturn, 1) := dk_172 (dk_at dksX1_triesNow_3 16 rfl rfl)
abbrev cX1_tried : ByteArray := prog_1_method_23_code
def yX1_tried : MethodName := ⟨RX1, "tried", "(II)I"⟩
def dkwX1_tried_3 : List UInt8 := [180, 0, 70, 27, 51, 184, 0, 205, 172, 2, 172]
abbrev dktX1_tried_3 : List UInt8 := dkwX1_tried_3 ++ []
def dkwX1_tried_2 : List UInt8 := [42, 180, 0, 60, 27, 46, 172, 42, 180, 0, 64, 27, 46, 172, 42, 180, 0, 67, 27, 46, 172, 42]
abbrev dktX1_tried_2 : List UInt8 := dkwX1_tried_2 ++ dktX1_tried_3
def dkwX1_tried_1 : List UInt8 := [170, 0, 0, 0, 60, 0, 0, 0, 0, 0, 0, 0, 3, 0, 0, 0, 29, 0, 0, 0, 36, 0, 0, 0, 43, 0, 0, 0, 50]
abbrev dktX1_tried_1 : List UInt8 := dkwX1_tried_1 ++ dktX1_tried_2
def dkwX1_tried_0 : List UInt8 := [27, 133, 9, 42, 180, 0, 119, 4, 100, 133, 184, 0, 110, 154, 0, 5, 2, 172, 28]
abbrev dktX1_tried_0 : List UInt8 := dkwX1_tried_0 ++ dktX1_tried_1
theorem dksX1_tried_0 : cX1_tried.data.toList.drop 0 = dktX1_tried_0 := by decide +kernel
theorem dksX1_tried_1 : cX1_tried.data.toList.drop 19 = dktX1_tried_1 := dk_seg dksX1_tried_0 19 rfl rfl
theorem dksX1_tried_2 : cX1_tried.data.toList.drop 48 = dktX1_tried_2 := dk_seg dksX1_tried_1 29 rfl rfl
theorem dksX1_tried_3 : cX1_tried.data.toList.drop 70 = dktX1_tried_3 := dk_seg dksX1_tried_2 22 rfl rfl
theorem dX1_tried_0 : decode cX1_tried 0 = .ok (.iload_n 1, 1) := dk_27 (dk_at dksX1_tried_0 0 rfl rfl)
theorem dX1_tried_1 : decode cX1_tried 1 = .ok (.i2l, 1) := dk_133 (dk_at dksX1_tried_0 1 rfl rfl)
theorem dX1_tried_2 : decode cX1_tried 2 = .ok (.lconst 0, 1) := dk_9 (dk_at dksX1_tried_0 2 rfl rfl)
theorem dX1_tried_3 : decode cX1_tried 3 = .ok (.aload_n 0, 1) := dk_42 (dk_at dksX1_tried_0 3 rfl rfl)
theorem dX1_tried_4 : decode cX1_tried 4 = .ok (.getfield 119, 3) := dk_180 0 119 (dk_at dksX1_tried_0 4 rfl rfl)
theorem dX1_tried_7 : decode cX1_tried 7 = .ok (.iconst 1, 1) := dk_4 (dk_at dksX1_tried_0 7 rfl rfl)
theorem dX1_tried_8 : decode cX1_tried 8 = .ok (.isub, 1) := dk_100 (dk_at dksX1_tried_0 8 rfl rfl)
theorem dX1_tried_9 : decode cX1_tried 9 = .ok (.i2l, 1) := dk_133 (dk_at dksX1_tried_0 9 rfl rfl)
theorem dX1_tried_10 : decode cX1_tried 10 = .ok (.invokestatic 110, 3) := dk_184 0 110 (dk_at dksX1_tried_0 10 rfl rfl)
theorem dX1_tried_13 : decode cX1_tried 13 = .ok (.ifCond .ne 5, 3) := dk_154 0 5 (dk_at dksX1_tried_0 13 rfl rfl)
theorem dX1_tried_16 : decode cX1_tried 16 = .ok (.iconst (-1), 1) := dk_2 (dk_at dksX1_tried_0 16 rfl rfl)
theorem dX1_tried_17 : decode cX1_tried 17 = .ok (.ireturn, 1) := dk_172 (dk_at dksX1_tried_0 17 rfl rfl)
theorem dX1_tried_18 : decode cX1_tried 18 = .ok (.iload_n 2, 1) := dk_28 (dk_at dksX1_tried_0 18 rfl rfl)
theorem dX1_tried_19 : decode cX1_tried 19 = .ok (.tableswitch 60 0 3 #[29, 36, 43, 50], 29) := by decide +kernel
theorem dX1_tried_48 : decode cX1_tried 48 = .ok (.aload_n 0, 1) := dk_42 (dk_at dksX1_tried_2 0 rfl rfl)
theorem dX1_tried_49 : decode cX1_tried 49 = .ok (.getfield 60, 3) := dk_180 0 60 (dk_at dksX1_tried_2 1 rfl rfl)
theorem dX1_tried_52 : decode cX1_tried 52 = .ok (.iload_n 1, 1) := dk_27 (dk_at dksX1_tried_2 4 rfl rfl)
theorem dX1_tried_53 : decode cX1_tried 53 = .ok (.iaload, 1) := dk_46 (dk_at dksX1_tried_2 5 rfl rfl)
theorem dX1_tried_54 : decode cX1_tried 54 = .ok (.ireturn, 1) := dk_172 (dk_at dksX1_tried_2 6 rfl rfl)
theorem dX1_tried_55 : decode cX1_tried 55 = .ok (.aload_n 0, 1) := dk_42 (dk_at dksX1_tried_2 7 rfl rfl)
theorem dX1_tried_56 : decode cX1_tried 56 = .ok (.getfield 64, 3) := dk_180 0 64 (dk_at dksX1_tried_2 8 rfl rfl)
theorem dX1_tried_59 : decode cX1_tried 59 = .ok (.iload_n 1, 1) := dk_27 (dk_at dksX1_tried_2 11 rfl rfl)
theorem dX1_tried_60 : decode cX1_tried 60 = .ok (.iaload, 1) := dk_46 (dk_at dksX1_tried_2 12 rfl rfl)
theorem dX1_tried_61 : decode cX1_tried 61 = .ok (.ireturn, 1) := dk_172 (dk_at dksX1_tried_2 13 rfl rfl)
theorem dX1_tried_62 : decode cX1_tried 62 = .ok (.aload_n 0, 1) := dk_42 (dk_at dksX1_tried_2 14 rfl rfl)
theorem dX1_tried_63 : decode cX1_tried 63 = .ok (.getfield 67, 3) := dk_180 0 67 (dk_at dksX1_tried_2 15 rfl rfl)
theorem dX1_tried_66 : decode cX1_tried 66 = .ok (.iload_n 1, 1) := dk_27 (dk_at dksX1_tried_2 18 rfl rfl)
theorem dX1_tried_67 : decode cX1_tried 67 = .ok (.iaload, 1) := dk_46 (dk_at dksX1_tried_2 19 rfl rfl)
theorem dX1_tried_68 : decode cX1_tried 68 = .ok (.ireturn, 1) := dk_172 (dk_at dksX1_tried_2 20 rfl rfl)
theorem dX1_tried_69 : decode cX1_tried 69 = .ok (.aload_n 0, 1) := dk_42 (dk_at dksX1_tried_2 21 rfl rfl)
theorem dX1_tried_70 : decode cX1_tried 70 = .ok (.getfield 70, 3) := dk_180 0 70 (dk_at dksX1_tried_3 0 rfl rfl)
theorem dX1_tried_73 : decode cX1_tried 73 = .ok (.iload_n 1, 1) := dk_27 (dk_at dksX1_tried_3 3 rfl rfl)
theorem dX1_tried_74 : decode cX1_tried 74 = .ok (.baload, 1) := dk_51 (dk_at dksX1_tried_3 4 rfl rfl)
theorem dX1_tried_75 : decode cX1_tried 75 = .ok (.invokestatic 205, 3) := dk_184 0 205 (dk_at dksX1_tried_3 5 rfl rfl)
theorem dX1_tried_78 : decode cX1_tried 78 = .ok (.ireturn, 1) := dk_172 (dk_at dksX1_tried_3 8 rfl rfl)
theorem dX1_tried_79 : decode cX1_tried 79 = .ok (.iconst (-1), 1) := dk_2 (dk_at dksX1_tried_3 9 rfl rfl)
theorem dX1_tried_80 : decode cX1_tried 80 = .ok (.ireturn, 1) := dk_172 (dk_at dksX1_tried_3 10 rfl rfl)
abbrev cX1_place : ByteArray := prog_1_method_25_code
def yX1_place : MethodName := ⟨RX1, "place", "(I)I"⟩
def dkwX1_place_1 : List UInt8 := [182, 0, 254, 172]
abbrev dktX1_place_1 : List UInt8 := dkwX1_place_1 ++ []
def dkwX1_place_0 : List UInt8 := [42, 27, 182, 0, 151, 154, 0, 5, 2, 172, 42, 42, 180, 0, 45, 182, 0, 251, 42, 180, 0, 45, 27]
abbrev dktX1_place_0 : List UInt8 := dkwX1_place_0 ++ dktX1_place_1
theorem dksX1_place_0 : cX1_place.data.toList.drop 0 = dktX1_place_0 := by decide +kernel
theorem dksX1_place_1 : cX1_place.data.toList.drop 23 = dktX1_place_1 := dk_seg dksX1_place_0 23 rfl rfl
theorem dX1_place_0 : decode cX1_place 0 = .ok (.aload_n 0, 1) := dk_42 (dk_at dksX1_place_0 0 rfl rfl)
theorem dX1_place_1 : decode cX1_place 1 = .ok (.iload_n 1, 1) := dk_27 (dk_at dksX1_place_0 1 rfl rfl)
theorem dX1_place_2 : decode cX1_place 2 = .ok (.invokevirtual 151, 3) := dk_182 0 151 (dk_at dksX1_place_0 2 rfl rfl)
theorem dX1_place_5 : decode cX1_place 5 = .ok (.ifCond .ne 5, 3) := dk_154 0 5 (dk_at dksX1_place_0 5 rfl rfl)
theorem dX1_place_8 : decode cX1_place 8 = .ok (.iconst (-1), 1) := dk_2 (dk_at dksX1_place_0 8 rfl rfl)
theorem dX1_place_9 : decode cX1_place 9 = .ok (.ireturn, 1) := dk_172 (dk_at dksX1_place_0 9 rfl rfl)
theorem dX1_place_10 : decode cX1_place 10 = .ok (.aload_n 0, 1) := dk_42 (dk_at dksX1_place_0 10 rfl rfl)
theorem dX1_place_11 : decode cX1_place 11 = .ok (.aload_n 0, 1) := dk_42 (dk_at dksX1_place_0 11 rfl rfl)
theorem dX1_place_12 : decode cX1_place 12 = .ok (.getfield 45, 3) := dk_180 0 45 (dk_at dksX1_place_0 12 rfl rfl)
theorem dX1_place_15 : decode cX1_place 15 = .ok (.invokevirtual 251, 3) := dk_182 0 251 (dk_at dksX1_place_0 15 rfl rfl)
theorem dX1_place_18 : decode cX1_place 18 = .ok (.aload_n 0, 1) := dk_42 (dk_at dksX1_place_0 18 rfl rfl)
theorem dX1_place_19 : decode cX1_place 19 = .ok (.getfield 45, 3) := dk_180 0 45 (dk_at dksX1_place_0 19 rfl rfl)
theorem dX1_place_22 : decode cX1_place 22 = .ok (.iload_n 1, 1) := dk_27 (dk_at dksX1_place_0 22 rfl rfl)
theorem dX1_place_23 : decode cX1_place 23 = .ok (.invokevirtual 254, 3) := dk_182 0 254 (dk_at dksX1_place_1 0 rfl rfl)
theorem dX1_place_26 : decode cX1_place 26 = .ok (.ireturn, 1) := dk_172 (dk_at dksX1_place_1 3 rfl rfl)
abbrev cX1_tellPlaces : ByteArray := prog_1_method_24_code
def yX1_tellPlaces : MethodName := ⟨RX1, "tellPlaces", "(LNextLoad$Meet;)V"⟩
def dkwX1_tellPlaces_1 : List UInt8 := [133, 182, 0, 219, 132, 2, 1, 167, 255, 232, 177]
abbrev dktX1_tellPlaces_1 : List UInt8 := dkwX1_tellPlaces_1 ++ []
def dkwX1_tellPlaces_0 : List UInt8 := [42, 3, 181, 0, 103, 3, 61, 28, 42, 180, 0, 36, 182, 0, 106, 162, 0, 19, 42, 43, 28, 182, 0, 248]
abbrev dktX1_tellPlaces_0 : List UInt8 := dkwX1_tellPlaces_0 ++ dktX1_tellPlaces_1
theorem dksX1_tellPlaces_0 : cX1_tellPlaces.data.toList.drop 0 = dktX1_tellPlaces_0 := by decide +kernel
theorem dksX1_tellPlaces_1 : cX1_tellPlaces.data.toList.drop 24 = dktX1_tellPlaces_1 := dk_seg dksX1_tellPlaces_0 24 rfl rfl
theorem dX1_tellPlaces_0 : decode cX1_tellPlaces 0 = .ok (.aload_n 0, 1) := dk_42 (dk_at dksX1_tellPlaces_0 0 rfl rfl)
theorem dX1_tellPlaces_1 : decode cX1_tellPlaces 1 = .ok (.iconst 0, 1) := dk_3 (dk_at dksX1_tellPlaces_0 1 rfl rfl)
theorem dX1_tellPlaces_2 : decode cX1_tellPlaces 2 = .ok (.putfield 103, 3) := dk_181 0 103 (dk_at dksX1_tellPlaces_0 2 rfl rfl)
theorem dX1_tellPlaces_5 : decode cX1_tellPlaces 5 = .ok (.iconst 0, 1) := dk_3 (dk_at dksX1_tellPlaces_0 5 rfl rfl)
theorem dX1_tellPlaces_6 : decode cX1_tellPlaces 6 = .ok (.istore_n 2, 1) := dk_61 (dk_at dksX1_tellPlaces_0 6 rfl rfl)
theorem dX1_tellPlaces_7 : decode cX1_tellPlaces 7 = .ok (.iload_n 2, 1) := dk_28 (dk_at dksX1_tellPlaces_0 7 rfl rfl)
theorem dX1_tellPlaces_8 : decode cX1_tellPlaces 8 = .ok (.aload_n 0, 1) := dk_42 (dk_at dksX1_tellPlaces_0 8 rfl rfl)
theorem dX1_tellPlaces_9 : decode cX1_tellPlaces 9 = .ok (.getfield 36, 3) := dk_180 0 36 (dk_at dksX1_tellPlaces_0 9 rfl rfl)
theorem dX1_tellPlaces_12 : decode cX1_tellPlaces 12 = .ok (.invokevirtual 106, 3) := dk_182 0 106 (dk_at dksX1_tellPlaces_0 12 rfl rfl)
theorem dX1_tellPlaces_15 : decode cX1_tellPlaces 15 = .ok (.if_icmp .ge 19, 3) := dk_162 0 19 (dk_at dksX1_tellPlaces_0 15 rfl rfl)
theorem dX1_tellPlaces_18 : decode cX1_tellPlaces 18 = .ok (.aload_n 0, 1) := dk_42 (dk_at dksX1_tellPlaces_0 18 rfl rfl)
theorem dX1_tellPlaces_19 : decode cX1_tellPlaces 19 = .ok (.aload_n 1, 1) := dk_43 (dk_at dksX1_tellPlaces_0 19 rfl rfl)
theorem dX1_tellPlaces_20 : decode cX1_tellPlaces 20 = .ok (.iload_n 2, 1) := dk_28 (dk_at dksX1_tellPlaces_0 20 rfl rfl)
theorem dX1_tellPlaces_21 : decode cX1_tellPlaces 21 = .ok (.invokevirtual 248, 3) := dk_182 0 248 (dk_at dksX1_tellPlaces_0 21 rfl rfl)
theorem dX1_tellPlaces_24 : decode cX1_tellPlaces 24 = .ok (.i2l, 1) := dk_133 (dk_at dksX1_tellPlaces_1 0 rfl rfl)
theorem dX1_tellPlaces_25 : decode cX1_tellPlaces 25 = .ok (.invokevirtual 219, 3) := dk_182 0 219 (dk_at dksX1_tellPlaces_1 1 rfl rfl)
theorem dX1_tellPlaces_28 : decode cX1_tellPlaces 28 = .ok (.iinc 2 1, 3) := dk_132 2 1 (dk_at dksX1_tellPlaces_1 4 rfl rfl)
theorem dX1_tellPlaces_31 : decode cX1_tellPlaces 31 = .ok (.goto (-24), 3) := dk_167 255 232 (dk_at dksX1_tellPlaces_1 7 rfl rfl)
theorem dX1_tellPlaces_34 : decode cX1_tellPlaces 34 = .ok (.return_, 1) := dk_177 (dk_at dksX1_tellPlaces_1 10 rfl rfl)
abbrev cX1_slot : ByteArray := prog_1_method_26_code
def yX1_slot : MethodName := ⟨RX1, "slot", "(II)I"⟩
def dkwX1_slot_6 : List UInt8 := [167, 255, 178, 21, 5, 28, 160, 0, 6, 21, 4, 172, 132, 4, 1, 167, 255, 150, 16, 253, 172]
abbrev dktX1_slot_6 : List UInt8 := dkwX1_slot_6 ++ []
def dkwX1_slot_5 : List UInt8 := [21, 4, 182, 1, 1, 153, 0, 7, 4, 167, 0, 4, 3, 184, 0, 205, 96, 54, 5, 132, 6, 1]
abbrev dktX1_slot_5 : List UInt8 := dkwX1_slot_5 ++ dktX1_slot_6
def dkwX1_slot_4 : List UInt8 := [153, 0, 35, 42, 180, 0, 45, 21, 6, 42, 180, 0, 45, 180, 0, 175, 21, 6, 50, 180, 0, 190, 27]
abbrev dktX1_slot_4 : List UInt8 := dkwX1_slot_4 ++ dktX1_slot_5
def dkwX1_slot_3 : List UInt8 := [162, 0, 72, 21, 5, 21, 6, 27, 159, 0, 51, 42, 180, 0, 45, 180, 0, 175, 21, 6, 50, 182, 0, 202]
abbrev dktX1_slot_3 : List UInt8 := dkwX1_slot_3 ++ dktX1_slot_4
def dkwX1_slot_2 : List UInt8 := [21, 4, 16, 40, 163, 0, 105, 3, 54, 5, 3, 54, 6, 21, 6, 42, 180, 0, 36, 182, 0, 106]
abbrev dktX1_slot_2 : List UInt8 := dkwX1_slot_2 ++ dktX1_slot_3
def dkwX1_slot_1 : List UInt8 := [45, 182, 0, 202, 154, 0, 6, 16, 254, 172, 45, 42, 180, 0, 45, 180, 0, 193, 182, 0, 196, 54, 4]
abbrev dktX1_slot_1 : List UInt8 := dkwX1_slot_1 ++ dktX1_slot_2
def dkwX1_slot_0 : List UInt8 := [42, 27, 182, 0, 151, 153, 0, 7, 28, 156, 0, 5, 2, 172, 42, 180, 0, 45, 180, 0, 175, 27, 50, 78]
abbrev dktX1_slot_0 : List UInt8 := dkwX1_slot_0 ++ dktX1_slot_1
theorem dksX1_slot_0 : cX1_slot.data.toList.drop 0 = dktX1_slot_0 := by decide +kernel
theorem dksX1_slot_1 : cX1_slot.data.toList.drop 24 = dktX1_slot_1 := dk_seg dksX1_slot_0 24 rfl rfl
theorem dksX1_slot_2 : cX1_slot.data.toList.drop 47 = dktX1_slot_2 := dk_seg dksX1_slot_1 23 rfl rfl
theorem dksX1_slot_3 : cX1_slot.data.toList.drop 69 = dktX1_slot_3 := dk_seg dksX1_slot_2 22 rfl rfl
theorem dksX1_slot_4 : cX1_slot.data.toList.drop 93 = dktX1_slot_4 := dk_seg dksX1_slot_3 24 rfl rfl
theorem dksX1_slot_5 : cX1_slot.data.toList.drop 116 = dktX1_slot_5 := dk_seg dksX1_slot_4 23 rfl rfl
theorem dksX1_slot_6 : cX1_slot.data.toList.drop 138 = dktX1_slot_6 := dk_seg dksX1_slot_5 22 rfl rfl
theorem dX1_slot_0 : decode cX1_slot 0 = .ok (.aload_n 0, 1) := dk_42 (dk_at dksX1_slot_0 0 rfl rfl)
theorem dX1_slot_1 : decode cX1_slot 1 = .ok (.iload_n 1, 1) := dk_27 (dk_at dksX1_slot_0 1 rfl rfl)
theorem dX1_slot_2 : decode cX1_slot 2 = .ok (.invokevirtual 151, 3) := dk_182 0 151 (dk_at dksX1_slot_0 2 rfl rfl)
theorem dX1_slot_5 : decode cX1_slot 5 = .ok (.ifCond .eq 7, 3) := dk_153 0 7 (dk_at dksX1_slot_0 5 rfl rfl)
theorem dX1_slot_8 : decode cX1_slot 8 = .ok (.iload_n 2, 1) := dk_28 (dk_at dksX1_slot_0 8 rfl rfl)
theorem dX1_slot_9 : decode cX1_slot 9 = .ok (.ifCond .ge 5, 3) := dk_156 0 5 (dk_at dksX1_slot_0 9 rfl rfl)
theorem dX1_slot_12 : decode cX1_slot 12 = .ok (.iconst (-1), 1) := dk_2 (dk_at dksX1_slot_0 12 rfl rfl)
theorem dX1_slot_13 : decode cX1_slot 13 = .ok (.ireturn, 1) := dk_172 (dk_at dksX1_slot_0 13 rfl rfl)
theorem dX1_slot_14 : decode cX1_slot 14 = .ok (.aload_n 0, 1) := dk_42 (dk_at dksX1_slot_0 14 rfl rfl)
theorem dX1_slot_15 : decode cX1_slot 15 = .ok (.getfield 45, 3) := dk_180 0 45 (dk_at dksX1_slot_0 15 rfl rfl)
theorem dX1_slot_18 : decode cX1_slot 18 = .ok (.getfield 175, 3) := dk_180 0 175 (dk_at dksX1_slot_0 18 rfl rfl)
theorem dX1_slot_21 : decode cX1_slot 21 = .ok (.iload_n 1, 1) := dk_27 (dk_at dksX1_slot_0 21 rfl rfl)
theorem dX1_slot_22 : decode cX1_slot 22 = .ok (.aaload, 1) := dk_50 (dk_at dksX1_slot_0 22 rfl rfl)
theorem dX1_slot_23 : decode cX1_slot 23 = .ok (.astore_n 3, 1) := dk_78 (dk_at dksX1_slot_0 23 rfl rfl)
theorem dX1_slot_24 : decode cX1_slot 24 = .ok (.aload_n 3, 1) := dk_45 (dk_at dksX1_slot_1 0 rfl rfl)
theorem dX1_slot_25 : decode cX1_slot 25 = .ok (.invokevirtual 202, 3) := dk_182 0 202 (dk_at dksX1_slot_1 1 rfl rfl)
theorem dX1_slot_28 : decode cX1_slot 28 = .ok (.ifCond .ne 6, 3) := dk_154 0 6 (dk_at dksX1_slot_1 4 rfl rfl)
theorem dX1_slot_31 : decode cX1_slot 31 = .ok (.bipush (-2), 2) := dk_16 254 (dk_at dksX1_slot_1 7 rfl rfl)
theorem dX1_slot_33 : decode cX1_slot 33 = .ok (.ireturn, 1) := dk_172 (dk_at dksX1_slot_1 9 rfl rfl)
theorem dX1_slot_34 : decode cX1_slot 34 = .ok (.aload_n 3, 1) := dk_45 (dk_at dksX1_slot_1 10 rfl rfl)
theorem dX1_slot_35 : decode cX1_slot 35 = .ok (.aload_n 0, 1) := dk_42 (dk_at dksX1_slot_1 11 rfl rfl)
theorem dX1_slot_36 : decode cX1_slot 36 = .ok (.getfield 45, 3) := dk_180 0 45 (dk_at dksX1_slot_1 12 rfl rfl)
theorem dX1_slot_39 : decode cX1_slot 39 = .ok (.getfield 193, 3) := dk_180 0 193 (dk_at dksX1_slot_1 15 rfl rfl)
theorem dX1_slot_42 : decode cX1_slot 42 = .ok (.invokevirtual 196, 3) := dk_182 0 196 (dk_at dksX1_slot_1 18 rfl rfl)
theorem dX1_slot_45 : decode cX1_slot 45 = .ok (.istore 4, 2) := dk_54 4 (dk_at dksX1_slot_1 21 rfl rfl)
theorem dX1_slot_47 : decode cX1_slot 47 = .ok (.iload 4, 2) := dk_21 4 (dk_at dksX1_slot_2 0 rfl rfl)
theorem dX1_slot_49 : decode cX1_slot 49 = .ok (.bipush 40, 2) := dk_16 40 (dk_at dksX1_slot_2 2 rfl rfl)
theorem dX1_slot_51 : decode cX1_slot 51 = .ok (.if_icmp .gt 105, 3) := dk_163 0 105 (dk_at dksX1_slot_2 4 rfl rfl)
theorem dX1_slot_54 : decode cX1_slot 54 = .ok (.iconst 0, 1) := dk_3 (dk_at dksX1_slot_2 7 rfl rfl)
theorem dX1_slot_55 : decode cX1_slot 55 = .ok (.istore 5, 2) := dk_54 5 (dk_at dksX1_slot_2 8 rfl rfl)
theorem dX1_slot_57 : decode cX1_slot 57 = .ok (.iconst 0, 1) := dk_3 (dk_at dksX1_slot_2 10 rfl rfl)
theorem dX1_slot_58 : decode cX1_slot 58 = .ok (.istore 6, 2) := dk_54 6 (dk_at dksX1_slot_2 11 rfl rfl)
theorem dX1_slot_60 : decode cX1_slot 60 = .ok (.iload 6, 2) := dk_21 6 (dk_at dksX1_slot_2 13 rfl rfl)
theorem dX1_slot_62 : decode cX1_slot 62 = .ok (.aload_n 0, 1) := dk_42 (dk_at dksX1_slot_2 15 rfl rfl)
theorem dX1_slot_63 : decode cX1_slot 63 = .ok (.getfield 36, 3) := dk_180 0 36 (dk_at dksX1_slot_2 16 rfl rfl)
theorem dX1_slot_66 : decode cX1_slot 66 = .ok (.invokevirtual 106, 3) := dk_182 0 106 (dk_at dksX1_slot_2 19 rfl rfl)
theorem dX1_slot_69 : decode cX1_slot 69 = .ok (.if_icmp .ge 72, 3) := dk_162 0 72 (dk_at dksX1_slot_3 0 rfl rfl)
theorem dX1_slot_72 : decode cX1_slot 72 = .ok (.iload 5, 2) := dk_21 5 (dk_at dksX1_slot_3 3 rfl rfl)
theorem dX1_slot_74 : decode cX1_slot 74 = .ok (.iload 6, 2) := dk_21 6 (dk_at dksX1_slot_3 5 rfl rfl)
theorem dX1_slot_76 : decode cX1_slot 76 = .ok (.iload_n 1, 1) := dk_27 (dk_at dksX1_slot_3 7 rfl rfl)
theorem dX1_slot_77 : decode cX1_slot 77 = .ok (.if_icmp .eq 51, 3) := dk_159 0 51 (dk_at dksX1_slot_3 8 rfl rfl)
theorem dX1_slot_80 : decode cX1_slot 80 = .ok (.aload_n 0, 1) := dk_42 (dk_at dksX1_slot_3 11 rfl rfl)
theorem dX1_slot_81 : decode cX1_slot 81 = .ok (.getfield 45, 3) := dk_180 0 45 (dk_at dksX1_slot_3 12 rfl rfl)
theorem dX1_slot_84 : decode cX1_slot 84 = .ok (.getfield 175, 3) := dk_180 0 175 (dk_at dksX1_slot_3 15 rfl rfl)
theorem dX1_slot_87 : decode cX1_slot 87 = .ok (.iload 6, 2) := dk_21 6 (dk_at dksX1_slot_3 18 rfl rfl)
theorem dX1_slot_89 : decode cX1_slot 89 = .ok (.aaload, 1) := dk_50 (dk_at dksX1_slot_3 20 rfl rfl)
theorem dX1_slot_90 : decode cX1_slot 90 = .ok (.invokevirtual 202, 3) := dk_182 0 202 (dk_at dksX1_slot_3 21 rfl rfl)
theorem dX1_slot_93 : decode cX1_slot 93 = .ok (.ifCond .eq 35, 3) := dk_153 0 35 (dk_at dksX1_slot_4 0 rfl rfl)
theorem dX1_slot_96 : decode cX1_slot 96 = .ok (.aload_n 0, 1) := dk_42 (dk_at dksX1_slot_4 3 rfl rfl)
theorem dX1_slot_97 : decode cX1_slot 97 = .ok (.getfield 45, 3) := dk_180 0 45 (dk_at dksX1_slot_4 4 rfl rfl)
theorem dX1_slot_100 : decode cX1_slot 100 = .ok (.iload 6, 2) := dk_21 6 (dk_at dksX1_slot_4 7 rfl rfl)
theorem dX1_slot_102 : decode cX1_slot 102 = .ok (.aload_n 0, 1) := dk_42 (dk_at dksX1_slot_4 9 rfl rfl)
theorem dX1_slot_103 : decode cX1_slot 103 = .ok (.getfield 45, 3) := dk_180 0 45 (dk_at dksX1_slot_4 10 rfl rfl)
theorem dX1_slot_106 : decode cX1_slot 106 = .ok (.getfield 175, 3) := dk_180 0 175 (dk_at dksX1_slot_4 13 rfl rfl)
theorem dX1_slot_109 : decode cX1_slot 109 = .ok (.iload 6, 2) := dk_21 6 (dk_at dksX1_slot_4 16 rfl rfl)
theorem dX1_slot_111 : decode cX1_slot 111 = .ok (.aaload, 1) := dk_50 (dk_at dksX1_slot_4 18 rfl rfl)
theorem dX1_slot_112 : decode cX1_slot 112 = .ok (.getfield 190, 3) := dk_180 0 190 (dk_at dksX1_slot_4 19 rfl rfl)
theorem dX1_slot_115 : decode cX1_slot 115 = .ok (.iload_n 1, 1) := dk_27 (dk_at dksX1_slot_4 22 rfl rfl)
theorem dX1_slot_116 : decode cX1_slot 116 = .ok (.iload 4, 2) := dk_21 4 (dk_at dksX1_slot_5 0 rfl rfl)
theorem dX1_slot_118 : decode cX1_slot 118 = .ok (.invokevirtual 257, 3) := dk_182 1 1 (dk_at dksX1_slot_5 2 rfl rfl)
theorem dX1_slot_121 : decode cX1_slot 121 = .ok (.ifCond .eq 7, 3) := dk_153 0 7 (dk_at dksX1_slot_5 5 rfl rfl)
theorem dX1_slot_124 : decode cX1_slot 124 = .ok (.iconst 1, 1) := dk_4 (dk_at dksX1_slot_5 8 rfl rfl)
theorem dX1_slot_125 : decode cX1_slot 125 = .ok (.goto 4, 3) := dk_167 0 4 (dk_at dksX1_slot_5 9 rfl rfl)
theorem dX1_slot_128 : decode cX1_slot 128 = .ok (.iconst 0, 1) := dk_3 (dk_at dksX1_slot_5 12 rfl rfl)
theorem dX1_slot_129 : decode cX1_slot 129 = .ok (.invokestatic 205, 3) := dk_184 0 205 (dk_at dksX1_slot_5 13 rfl rfl)
theorem dX1_slot_132 : decode cX1_slot 132 = .ok (.iadd, 1) := dk_96 (dk_at dksX1_slot_5 16 rfl rfl)
theorem dX1_slot_133 : decode cX1_slot 133 = .ok (.istore 5, 2) := dk_54 5 (dk_at dksX1_slot_5 17 rfl rfl)
theorem dX1_slot_135 : decode cX1_slot 135 = .ok (.iinc 6 1, 3) := dk_132 6 1 (dk_at dksX1_slot_5 19 rfl rfl)
theorem dX1_slot_138 : decode cX1_slot 138 = .ok (.goto (-78), 3) := dk_167 255 178 (dk_at dksX1_slot_6 0 rfl rfl)
theorem dX1_slot_141 : decode cX1_slot 141 = .ok (.iload 5, 2) := dk_21 5 (dk_at dksX1_slot_6 3 rfl rfl)
theorem dX1_slot_143 : decode cX1_slot 143 = .ok (.iload_n 2, 1) := dk_28 (dk_at dksX1_slot_6 5 rfl rfl)
theorem dX1_slot_144 : decode cX1_slot 144 = .ok (.if_icmp .ne 6, 3) := dk_160 0 6 (dk_at dksX1_slot_6 6 rfl rfl)
theorem dX1_slot_147 : decode cX1_slot 147 = .ok (.iload 4, 2) := dk_21 4 (dk_at dksX1_slot_6 9 rfl rfl)
theorem dX1_slot_149 : decode cX1_slot 149 = .ok (.ireturn, 1) := dk_172 (dk_at dksX1_slot_6 11 rfl rfl)
theorem dX1_slot_150 : decode cX1_slot 150 = .ok (.iinc 4 1, 3) := dk_132 4 1 (dk_at dksX1_slot_6 12 rfl rfl)
theorem dX1_slot_153 : decode cX1_slot 153 = .ok (.goto (-106), 3) := dk_167 255 150 (dk_at dksX1_slot_6 15 rfl rfl)
theorem dX1_slot_156 : decode cX1_slot 156 = .ok (.bipush (-3), 2) := dk_16 253 (dk_at dksX1_slot_6 18 rfl rfl)
theorem dX1_slot_158 : decode cX1_slot 158 = .ok (.ireturn, 1) := dk_172 (dk_at dksX1_slot_6 20 rfl rfl)
abbrev cX1_needs : ByteArray := prog_1_method_27_code
def yX1_needs : MethodName := ⟨RX1, "needs", "(II)I"⟩
def dkwX1_needs_6 : List UInt8 := [167, 255, 215, 16, 253, 172]
abbrev dktX1_needs_6 : List UInt8 := dkwX1_needs_6 ++ []
def dkwX1_needs_5 : List UInt8 := [25, 4, 182, 0, 213, 25, 4, 180, 0, 209, 182, 1, 9, 153, 0, 6, 21, 6, 172, 132, 6, 1]
abbrev dktX1_needs_5 : List UInt8 := dkwX1_needs_5 ++ dktX1_needs_6
def dkwX1_needs_4 : List UInt8 := [182, 0, 196, 54, 6, 21, 6, 16, 40, 163, 0, 40, 42, 180, 0, 45, 27, 21, 5, 21, 6, 96, 3, 28]
abbrev dktX1_needs_4 : List UInt8 := dkwX1_needs_4 ++ dktX1_needs_5
def dkwX1_needs_3 : List UInt8 := [45, 180, 0, 185, 42, 180, 0, 45, 180, 0, 233, 46, 100, 54, 5, 45, 42, 180, 0, 45, 180, 0, 193]
abbrev dktX1_needs_3 : List UInt8 := dkwX1_needs_3 ++ dktX1_needs_4
def dkwX1_needs_2 : List UInt8 := [180, 0, 45, 180, 0, 175, 28, 50, 58, 4, 45, 180, 0, 190, 154, 0, 6, 16, 254, 172, 45, 182, 0, 213]
abbrev dktX1_needs_2 : List UInt8 := dkwX1_needs_2 ++ dktX1_needs_3
def dkwX1_needs_1 : List UInt8 := [180, 0, 45, 27, 28, 182, 1, 5, 153, 0, 5, 3, 172, 42, 180, 0, 45, 180, 0, 175, 27, 50, 78, 42]
abbrev dktX1_needs_1 : List UInt8 := dkwX1_needs_1 ++ dktX1_needs_2
def dkwX1_needs_0 : List UInt8 := [42, 27, 182, 0, 151, 153, 0, 16, 42, 28, 182, 0, 151, 153, 0, 8, 27, 28, 160, 0, 5, 2, 172, 42]
abbrev dktX1_needs_0 : List UInt8 := dkwX1_needs_0 ++ dktX1_needs_1
theorem dksX1_needs_0 : cX1_needs.data.toList.drop 0 = dktX1_needs_0 := by decide +kernel
theorem dksX1_needs_1 : cX1_needs.data.toList.drop 24 = dktX1_needs_1 := dk_seg dksX1_needs_0 24 rfl rfl
theorem dksX1_needs_2 : cX1_needs.data.toList.drop 48 = dktX1_needs_2 := dk_seg dksX1_needs_1 24 rfl rfl
theorem dksX1_needs_3 : cX1_needs.data.toList.drop 72 = dktX1_needs_3 := dk_seg dksX1_needs_2 24 rfl rfl
theorem dksX1_needs_4 : cX1_needs.data.toList.drop 95 = dktX1_needs_4 := dk_seg dksX1_needs_3 23 rfl rfl
theorem dksX1_needs_5 : cX1_needs.data.toList.drop 119 = dktX1_needs_5 := dk_seg dksX1_needs_4 24 rfl rfl
theorem dksX1_needs_6 : cX1_needs.data.toList.drop 141 = dktX1_needs_6 := dk_seg dksX1_needs_5 22 rfl rfl
theorem dX1_needs_0 : decode cX1_needs 0 = .ok (.aload_n 0, 1) := dk_42 (dk_at dksX1_needs_0 0 rfl rfl)
theorem dX1_needs_1 : decode cX1_needs 1 = .ok (.iload_n 1, 1) := dk_27 (dk_at dksX1_needs_0 1 rfl rfl)
theorem dX1_needs_2 : decode cX1_needs 2 = .ok (.invokevirtual 151, 3) := dk_182 0 151 (dk_at dksX1_needs_0 2 rfl rfl)
theorem dX1_needs_5 : decode cX1_needs 5 = .ok (.ifCond .eq 16, 3) := dk_153 0 16 (dk_at dksX1_needs_0 5 rfl rfl)
theorem dX1_needs_8 : decode cX1_needs 8 = .ok (.aload_n 0, 1) := dk_42 (dk_at dksX1_needs_0 8 rfl rfl)
theorem dX1_needs_9 : decode cX1_needs 9 = .ok (.iload_n 2, 1) := dk_28 (dk_at dksX1_needs_0 9 rfl rfl)
theorem dX1_needs_10 : decode cX1_needs 10 = .ok (.invokevirtual 151, 3) := dk_182 0 151 (dk_at dksX1_needs_0 10 rfl rfl)
theorem dX1_needs_13 : decode cX1_needs 13 = .ok (.ifCond .eq 8, 3) := dk_153 0 8 (dk_at dksX1_needs_0 13 rfl rfl)
theorem dX1_needs_16 : decode cX1_needs 16 = .ok (.iload_n 1, 1) := dk_27 (dk_at dksX1_needs_0 16 rfl rfl)
theorem dX1_needs_17 : decode cX1_needs 17 = .ok (.iload_n 2, 1) := dk_28 (dk_at dksX1_needs_0 17 rfl rfl)
theorem dX1_needs_18 : decode cX1_needs 18 = .ok (.if_icmp .ne 5, 3) := dk_160 0 5 (dk_at dksX1_needs_0 18 rfl rfl)
theorem dX1_needs_21 : decode cX1_needs 21 = .ok (.iconst (-1), 1) := dk_2 (dk_at dksX1_needs_0 21 rfl rfl)
theorem dX1_needs_22 : decode cX1_needs 22 = .ok (.ireturn, 1) := dk_172 (dk_at dksX1_needs_0 22 rfl rfl)
theorem dX1_needs_23 : decode cX1_needs 23 = .ok (.aload_n 0, 1) := dk_42 (dk_at dksX1_needs_0 23 rfl rfl)
theorem dX1_needs_24 : decode cX1_needs 24 = .ok (.getfield 45, 3) := dk_180 0 45 (dk_at dksX1_needs_1 0 rfl rfl)
theorem dX1_needs_27 : decode cX1_needs 27 = .ok (.iload_n 1, 1) := dk_27 (dk_at dksX1_needs_1 3 rfl rfl)
theorem dX1_needs_28 : decode cX1_needs 28 = .ok (.iload_n 2, 1) := dk_28 (dk_at dksX1_needs_1 4 rfl rfl)
theorem dX1_needs_29 : decode cX1_needs 29 = .ok (.invokevirtual 261, 3) := dk_182 1 5 (dk_at dksX1_needs_1 5 rfl rfl)
theorem dX1_needs_32 : decode cX1_needs 32 = .ok (.ifCond .eq 5, 3) := dk_153 0 5 (dk_at dksX1_needs_1 8 rfl rfl)
theorem dX1_needs_35 : decode cX1_needs 35 = .ok (.iconst 0, 1) := dk_3 (dk_at dksX1_needs_1 11 rfl rfl)
theorem dX1_needs_36 : decode cX1_needs 36 = .ok (.ireturn, 1) := dk_172 (dk_at dksX1_needs_1 12 rfl rfl)
theorem dX1_needs_37 : decode cX1_needs 37 = .ok (.aload_n 0, 1) := dk_42 (dk_at dksX1_needs_1 13 rfl rfl)
theorem dX1_needs_38 : decode cX1_needs 38 = .ok (.getfield 45, 3) := dk_180 0 45 (dk_at dksX1_needs_1 14 rfl rfl)
theorem dX1_needs_41 : decode cX1_needs 41 = .ok (.getfield 175, 3) := dk_180 0 175 (dk_at dksX1_needs_1 17 rfl rfl)
theorem dX1_needs_44 : decode cX1_needs 44 = .ok (.iload_n 1, 1) := dk_27 (dk_at dksX1_needs_1 20 rfl rfl)
theorem dX1_needs_45 : decode cX1_needs 45 = .ok (.aaload, 1) := dk_50 (dk_at dksX1_needs_1 21 rfl rfl)
theorem dX1_needs_46 : decode cX1_needs 46 = .ok (.astore_n 3, 1) := dk_78 (dk_at dksX1_needs_1 22 rfl rfl)
theorem dX1_needs_47 : decode cX1_needs 47 = .ok (.aload_n 0, 1) := dk_42 (dk_at dksX1_needs_1 23 rfl rfl)
theorem dX1_needs_48 : decode cX1_needs 48 = .ok (.getfield 45, 3) := dk_180 0 45 (dk_at dksX1_needs_2 0 rfl rfl)
theorem dX1_needs_51 : decode cX1_needs 51 = .ok (.getfield 175, 3) := dk_180 0 175 (dk_at dksX1_needs_2 3 rfl rfl)
theorem dX1_needs_54 : decode cX1_needs 54 = .ok (.iload_n 2, 1) := dk_28 (dk_at dksX1_needs_2 6 rfl rfl)
theorem dX1_needs_55 : decode cX1_needs 55 = .ok (.aaload, 1) := dk_50 (dk_at dksX1_needs_2 7 rfl rfl)
theorem dX1_needs_56 : decode cX1_needs 56 = .ok (.astore 4, 2) := dk_58 4 (dk_at dksX1_needs_2 8 rfl rfl)
theorem dX1_needs_58 : decode cX1_needs 58 = .ok (.aload_n 3, 1) := dk_45 (dk_at dksX1_needs_2 10 rfl rfl)
theorem dX1_needs_59 : decode cX1_needs 59 = .ok (.getfield 190, 3) := dk_180 0 190 (dk_at dksX1_needs_2 11 rfl rfl)
theorem dX1_needs_62 : decode cX1_needs 62 = .ok (.ifCond .ne 6, 3) := dk_154 0 6 (dk_at dksX1_needs_2 14 rfl rfl)
theorem dX1_needs_65 : decode cX1_needs 65 = .ok (.bipush (-2), 2) := dk_16 254 (dk_at dksX1_needs_2 17 rfl rfl)
theorem dX1_needs_67 : decode cX1_needs 67 = .ok (.ireturn, 1) := dk_172 (dk_at dksX1_needs_2 19 rfl rfl)
theorem dX1_needs_68 : decode cX1_needs 68 = .ok (.aload_n 3, 1) := dk_45 (dk_at dksX1_needs_2 20 rfl rfl)
theorem dX1_needs_69 : decode cX1_needs 69 = .ok (.invokevirtual 213, 3) := dk_182 0 213 (dk_at dksX1_needs_2 21 rfl rfl)
theorem dX1_needs_72 : decode cX1_needs 72 = .ok (.aload_n 3, 1) := dk_45 (dk_at dksX1_needs_3 0 rfl rfl)
theorem dX1_needs_73 : decode cX1_needs 73 = .ok (.getfield 185, 3) := dk_180 0 185 (dk_at dksX1_needs_3 1 rfl rfl)
theorem dX1_needs_76 : decode cX1_needs 76 = .ok (.aload_n 0, 1) := dk_42 (dk_at dksX1_needs_3 4 rfl rfl)
theorem dX1_needs_77 : decode cX1_needs 77 = .ok (.getfield 45, 3) := dk_180 0 45 (dk_at dksX1_needs_3 5 rfl rfl)
theorem dX1_needs_80 : decode cX1_needs 80 = .ok (.getfield 233, 3) := dk_180 0 233 (dk_at dksX1_needs_3 8 rfl rfl)
theorem dX1_needs_83 : decode cX1_needs 83 = .ok (.iaload, 1) := dk_46 (dk_at dksX1_needs_3 11 rfl rfl)
theorem dX1_needs_84 : decode cX1_needs 84 = .ok (.isub, 1) := dk_100 (dk_at dksX1_needs_3 12 rfl rfl)
theorem dX1_needs_85 : decode cX1_needs 85 = .ok (.istore 5, 2) := dk_54 5 (dk_at dksX1_needs_3 13 rfl rfl)
theorem dX1_needs_87 : decode cX1_needs 87 = .ok (.aload_n 3, 1) := dk_45 (dk_at dksX1_needs_3 15 rfl rfl)
theorem dX1_needs_88 : decode cX1_needs 88 = .ok (.aload_n 0, 1) := dk_42 (dk_at dksX1_needs_3 16 rfl rfl)
theorem dX1_needs_89 : decode cX1_needs 89 = .ok (.getfield 45, 3) := dk_180 0 45 (dk_at dksX1_needs_3 17 rfl rfl)
theorem dX1_needs_92 : decode cX1_needs 92 = .ok (.getfield 193, 3) := dk_180 0 193 (dk_at dksX1_needs_3 20 rfl rfl)
theorem dX1_needs_95 : decode cX1_needs 95 = .ok (.invokevirtual 196, 3) := dk_182 0 196 (dk_at dksX1_needs_4 0 rfl rfl)
theorem dX1_needs_98 : decode cX1_needs 98 = .ok (.istore 6, 2) := dk_54 6 (dk_at dksX1_needs_4 3 rfl rfl)
theorem dX1_needs_100 : decode cX1_needs 100 = .ok (.iload 6, 2) := dk_21 6 (dk_at dksX1_needs_4 5 rfl rfl)
theorem dX1_needs_102 : decode cX1_needs 102 = .ok (.bipush 40, 2) := dk_16 40 (dk_at dksX1_needs_4 7 rfl rfl)
theorem dX1_needs_104 : decode cX1_needs 104 = .ok (.if_icmp .gt 40, 3) := dk_163 0 40 (dk_at dksX1_needs_4 9 rfl rfl)
theorem dX1_needs_107 : decode cX1_needs 107 = .ok (.aload_n 0, 1) := dk_42 (dk_at dksX1_needs_4 12 rfl rfl)
theorem dX1_needs_108 : decode cX1_needs 108 = .ok (.getfield 45, 3) := dk_180 0 45 (dk_at dksX1_needs_4 13 rfl rfl)
theorem dX1_needs_111 : decode cX1_needs 111 = .ok (.iload_n 1, 1) := dk_27 (dk_at dksX1_needs_4 16 rfl rfl)
theorem dX1_needs_112 : decode cX1_needs 112 = .ok (.iload 5, 2) := dk_21 5 (dk_at dksX1_needs_4 17 rfl rfl)
theorem dX1_needs_114 : decode cX1_needs 114 = .ok (.iload 6, 2) := dk_21 6 (dk_at dksX1_needs_4 19 rfl rfl)
theorem dX1_needs_116 : decode cX1_needs 116 = .ok (.iadd, 1) := dk_96 (dk_at dksX1_needs_4 21 rfl rfl)
theorem dX1_needs_117 : decode cX1_needs 117 = .ok (.iconst 0, 1) := dk_3 (dk_at dksX1_needs_4 22 rfl rfl)
theorem dX1_needs_118 : decode cX1_needs 118 = .ok (.iload_n 2, 1) := dk_28 (dk_at dksX1_needs_4 23 rfl rfl)
theorem dX1_needs_119 : decode cX1_needs 119 = .ok (.aload 4, 2) := dk_25 4 (dk_at dksX1_needs_5 0 rfl rfl)
theorem dX1_needs_121 : decode cX1_needs 121 = .ok (.invokevirtual 213, 3) := dk_182 0 213 (dk_at dksX1_needs_5 2 rfl rfl)
theorem dX1_needs_124 : decode cX1_needs 124 = .ok (.aload 4, 2) := dk_25 4 (dk_at dksX1_needs_5 5 rfl rfl)
theorem dX1_needs_126 : decode cX1_needs 126 = .ok (.getfield 209, 3) := dk_180 0 209 (dk_at dksX1_needs_5 7 rfl rfl)
theorem dX1_needs_129 : decode cX1_needs 129 = .ok (.invokevirtual 265, 3) := dk_182 1 9 (dk_at dksX1_needs_5 10 rfl rfl)
theorem dX1_needs_132 : decode cX1_needs 132 = .ok (.ifCond .eq 6, 3) := dk_153 0 6 (dk_at dksX1_needs_5 13 rfl rfl)
theorem dX1_needs_135 : decode cX1_needs 135 = .ok (.iload 6, 2) := dk_21 6 (dk_at dksX1_needs_5 16 rfl rfl)
theorem dX1_needs_137 : decode cX1_needs 137 = .ok (.ireturn, 1) := dk_172 (dk_at dksX1_needs_5 18 rfl rfl)
theorem dX1_needs_138 : decode cX1_needs 138 = .ok (.iinc 6 1, 3) := dk_132 6 1 (dk_at dksX1_needs_5 19 rfl rfl)
theorem dX1_needs_141 : decode cX1_needs 141 = .ok (.goto (-41), 3) := dk_167 255 215 (dk_at dksX1_needs_6 0 rfl rfl)
theorem dX1_needs_144 : decode cX1_needs 144 = .ok (.bipush (-3), 2) := dk_16 253 (dk_at dksX1_needs_6 3 rfl rfl)
theorem dX1_needs_146 : decode cX1_needs 146 = .ok (.ireturn, 1) := dk_172 (dk_at dksX1_needs_6 5 rfl rfl)
abbrev cX1_mass : ByteArray := prog_1_method_35_code
def yX1_mass : MethodName := ⟨RX1, "mass", "(I)I"⟩
def dkwX1_mass_1 : List UInt8 := [2, 172]
abbrev dktX1_mass_1 : List UInt8 := dkwX1_mass_1 ++ []
def dkwX1_mass_0 : List UInt8 := [42, 27, 182, 0, 151, 153, 0, 19, 42, 27, 187, 1, 48, 89, 183, 1, 50, 182, 1, 27, 136, 167, 0, 4]
abbrev dktX1_mass_0 : List UInt8 := dkwX1_mass_0 ++ dktX1_mass_1
theorem dksX1_mass_0 : cX1_mass.data.toList.drop 0 = dktX1_mass_0 := by decide +kernel
theorem dksX1_mass_1 : cX1_mass.data.toList.drop 24 = dktX1_mass_1 := dk_seg dksX1_mass_0 24 rfl rfl
theorem dX1_mass_0 : decode cX1_mass 0 = .ok (.aload_n 0, 1) := dk_42 (dk_at dksX1_mass_0 0 rfl rfl)
theorem dX1_mass_1 : decode cX1_mass 1 = .ok (.iload_n 1, 1) := dk_27 (dk_at dksX1_mass_0 1 rfl rfl)
theorem dX1_mass_2 : decode cX1_mass 2 = .ok (.invokevirtual 151, 3) := dk_182 0 151 (dk_at dksX1_mass_0 2 rfl rfl)
theorem dX1_mass_5 : decode cX1_mass 5 = .ok (.ifCond .eq 19, 3) := dk_153 0 19 (dk_at dksX1_mass_0 5 rfl rfl)
theorem dX1_mass_8 : decode cX1_mass 8 = .ok (.aload_n 0, 1) := dk_42 (dk_at dksX1_mass_0 8 rfl rfl)
theorem dX1_mass_9 : decode cX1_mass 9 = .ok (.iload_n 1, 1) := dk_27 (dk_at dksX1_mass_0 9 rfl rfl)
theorem dX1_mass_10 : decode cX1_mass 10 = .ok (.new 304, 3) := dk_187 1 48 (dk_at dksX1_mass_0 10 rfl rfl)
theorem dX1_mass_13 : decode cX1_mass 13 = .ok (.dup, 1) := dk_89 (dk_at dksX1_mass_0 13 rfl rfl)
theorem dX1_mass_14 : decode cX1_mass 14 = .ok (.invokespecial 306, 3) := dk_183 1 50 (dk_at dksX1_mass_0 14 rfl rfl)
theorem dX1_mass_17 : decode cX1_mass 17 = .ok (.invokevirtual 283, 3) := dk_182 1 27 (dk_at dksX1_mass_0 17 rfl rfl)
theorem dX1_mass_20 : decode cX1_mass 20 = .ok (.l2i, 1) := dk_136 (dk_at dksX1_mass_0 20 rfl rfl)
theorem dX1_mass_21 : decode cX1_mass 21 = .ok (.goto 4, 3) := dk_167 0 4 (dk_at dksX1_mass_0 21 rfl rfl)
theorem dX1_mass_24 : decode cX1_mass 24 = .ok (.iconst (-1), 1) := dk_2 (dk_at dksX1_mass_1 0 rfl rfl)
theorem dX1_mass_25 : decode cX1_mass 25 = .ok (.ireturn, 1) := dk_172 (dk_at dksX1_mass_1 1 rfl rfl)
abbrev cX1_byPlan : ByteArray := prog_1_method_29_code
def yX1_byPlan : MethodName := ⟨RX1, "byPlan", "(ILNextLoad$Aim;)J"⟩
def dkwX1_byPlan_1 : List UInt8 := [180, 0, 45, 180, 0, 175, 27, 50, 42, 180, 0, 45, 180, 0, 175, 27, 50, 180, 0, 190, 182, 1, 18, 173]
abbrev dktX1_byPlan_1 : List UInt8 := dkwX1_byPlan_1 ++ []
def dkwX1_byPlan_0 : List UInt8 := [42, 180, 0, 77, 42, 180, 0, 36, 27, 182, 0, 162, 192, 0, 2, 44, 182, 1, 14, 42, 180, 0, 77, 42]
abbrev dktX1_byPlan_0 : List UInt8 := dkwX1_byPlan_0 ++ dktX1_byPlan_1
theorem dksX1_byPlan_0 : cX1_byPlan.data.toList.drop 0 = dktX1_byPlan_0 := by decide +kernel
theorem dksX1_byPlan_1 : cX1_byPlan.data.toList.drop 24 = dktX1_byPlan_1 := dk_seg dksX1_byPlan_0 24 rfl rfl
theorem dX1_byPlan_0 : decode cX1_byPlan 0 = .ok (.aload_n 0, 1) := dk_42 (dk_at dksX1_byPlan_0 0 rfl rfl)
theorem dX1_byPlan_1 : decode cX1_byPlan 1 = .ok (.getfield 77, 3) := dk_180 0 77 (dk_at dksX1_byPlan_0 1 rfl rfl)
theorem dX1_byPlan_4 : decode cX1_byPlan 4 = .ok (.aload_n 0, 1) := dk_42 (dk_at dksX1_byPlan_0 4 rfl rfl)
theorem dX1_byPlan_5 : decode cX1_byPlan 5 = .ok (.getfield 36, 3) := dk_180 0 36 (dk_at dksX1_byPlan_0 5 rfl rfl)
theorem dX1_byPlan_8 : decode cX1_byPlan 8 = .ok (.iload_n 1, 1) := dk_27 (dk_at dksX1_byPlan_0 8 rfl rfl)
theorem dX1_byPlan_9 : decode cX1_byPlan 9 = .ok (.invokevirtual 162, 3) := dk_182 0 162 (dk_at dksX1_byPlan_0 9 rfl rfl)
theorem dX1_byPlan_12 : decode cX1_byPlan 12 = .ok (.checkcast 2, 3) := dk_192 0 2 (dk_at dksX1_byPlan_0 12 rfl rfl)
theorem dX1_byPlan_15 : decode cX1_byPlan 15 = .ok (.aload_n 2, 1) := dk_44 (dk_at dksX1_byPlan_0 15 rfl rfl)
theorem dX1_byPlan_16 : decode cX1_byPlan 16 = .ok (.invokevirtual 270, 3) := dk_182 1 14 (dk_at dksX1_byPlan_0 16 rfl rfl)
theorem dX1_byPlan_19 : decode cX1_byPlan 19 = .ok (.aload_n 0, 1) := dk_42 (dk_at dksX1_byPlan_0 19 rfl rfl)
theorem dX1_byPlan_20 : decode cX1_byPlan 20 = .ok (.getfield 77, 3) := dk_180 0 77 (dk_at dksX1_byPlan_0 20 rfl rfl)
theorem dX1_byPlan_23 : decode cX1_byPlan 23 = .ok (.aload_n 0, 1) := dk_42 (dk_at dksX1_byPlan_0 23 rfl rfl)
theorem dX1_byPlan_24 : decode cX1_byPlan 24 = .ok (.getfield 45, 3) := dk_180 0 45 (dk_at dksX1_byPlan_1 0 rfl rfl)
theorem dX1_byPlan_27 : decode cX1_byPlan 27 = .ok (.getfield 175, 3) := dk_180 0 175 (dk_at dksX1_byPlan_1 3 rfl rfl)
theorem dX1_byPlan_30 : decode cX1_byPlan 30 = .ok (.iload_n 1, 1) := dk_27 (dk_at dksX1_byPlan_1 6 rfl rfl)
theorem dX1_byPlan_31 : decode cX1_byPlan 31 = .ok (.aaload, 1) := dk_50 (dk_at dksX1_byPlan_1 7 rfl rfl)
theorem dX1_byPlan_32 : decode cX1_byPlan 32 = .ok (.aload_n 0, 1) := dk_42 (dk_at dksX1_byPlan_1 8 rfl rfl)
theorem dX1_byPlan_33 : decode cX1_byPlan 33 = .ok (.getfield 45, 3) := dk_180 0 45 (dk_at dksX1_byPlan_1 9 rfl rfl)
theorem dX1_byPlan_36 : decode cX1_byPlan 36 = .ok (.getfield 175, 3) := dk_180 0 175 (dk_at dksX1_byPlan_1 12 rfl rfl)
theorem dX1_byPlan_39 : decode cX1_byPlan 39 = .ok (.iload_n 1, 1) := dk_27 (dk_at dksX1_byPlan_1 15 rfl rfl)
theorem dX1_byPlan_40 : decode cX1_byPlan 40 = .ok (.aaload, 1) := dk_50 (dk_at dksX1_byPlan_1 16 rfl rfl)
theorem dX1_byPlan_41 : decode cX1_byPlan 41 = .ok (.getfield 190, 3) := dk_180 0 190 (dk_at dksX1_byPlan_1 17 rfl rfl)
theorem dX1_byPlan_44 : decode cX1_byPlan 44 = .ok (.invokevirtual 274, 3) := dk_182 1 18 (dk_at dksX1_byPlan_1 20 rfl rfl)
theorem dX1_byPlan_47 : decode cX1_byPlan 47 = .ok (.lreturn, 1) := dk_173 (dk_at dksX1_byPlan_1 23 rfl rfl)
abbrev cX1_mixed : ByteArray := prog_1_method_28_code
def yX1_mixed : MethodName := ⟨RX1, "mixed", "(IJJ)J"⟩
def dkwX1_mixed_0 : List UInt8 := [26, 133, 31, 105, 17, 3, 232, 26, 100, 133, 33, 105, 97, 20, 1, 12, 109, 173]
abbrev dktX1_mixed_0 : List UInt8 := dkwX1_mixed_0 ++ []
theorem dksX1_mixed_0 : cX1_mixed.data.toList.drop 0 = dktX1_mixed_0 := by decide +kernel
theorem dX1_mixed_0 : decode cX1_mixed 0 = .ok (.iload_n 0, 1) := dk_26 (dk_at dksX1_mixed_0 0 rfl rfl)
theorem dX1_mixed_1 : decode cX1_mixed 1 = .ok (.i2l, 1) := dk_133 (dk_at dksX1_mixed_0 1 rfl rfl)
theorem dX1_mixed_2 : decode cX1_mixed 2 = .ok (.lload_n 1, 1) := dk_31 (dk_at dksX1_mixed_0 2 rfl rfl)
theorem dX1_mixed_3 : decode cX1_mixed 3 = .ok (.lmul, 1) := dk_105 (dk_at dksX1_mixed_0 3 rfl rfl)
theorem dX1_mixed_4 : decode cX1_mixed 4 = .ok (.sipush 1000, 3) := dk_17 3 232 (dk_at dksX1_mixed_0 4 rfl rfl)
theorem dX1_mixed_7 : decode cX1_mixed 7 = .ok (.iload_n 0, 1) := dk_26 (dk_at dksX1_mixed_0 7 rfl rfl)
theorem dX1_mixed_8 : decode cX1_mixed 8 = .ok (.isub, 1) := dk_100 (dk_at dksX1_mixed_0 8 rfl rfl)
theorem dX1_mixed_9 : decode cX1_mixed 9 = .ok (.i2l, 1) := dk_133 (dk_at dksX1_mixed_0 9 rfl rfl)
theorem dX1_mixed_10 : decode cX1_mixed 10 = .ok (.lload_n 3, 1) := dk_33 (dk_at dksX1_mixed_0 10 rfl rfl)
theorem dX1_mixed_11 : decode cX1_mixed 11 = .ok (.lmul, 1) := dk_105 (dk_at dksX1_mixed_0 11 rfl rfl)
theorem dX1_mixed_12 : decode cX1_mixed 12 = .ok (.ladd, 1) := dk_97 (dk_at dksX1_mixed_0 12 rfl rfl)
theorem dX1_mixed_13 : decode cX1_mixed 13 = .ok (.ldc2_w 268, 3) := dk_20 1 12 (dk_at dksX1_mixed_0 13 rfl rfl)
theorem dX1_mixed_16 : decode cX1_mixed 16 = .ok (.ldiv, 1) := dk_109 (dk_at dksX1_mixed_0 16 rfl rfl)
theorem dX1_mixed_17 : decode cX1_mixed 17 = .ok (.lreturn, 1) := dk_173 (dk_at dksX1_mixed_0 17 rfl rfl)
abbrev cX1_chance : ByteArray := prog_1_method_37_code
def yX1_chance : MethodName := ⟨RX1, "chance", "(II)I"⟩
def dkwX1_chance_1 : List UInt8 := [183, 1, 26, 182, 1, 27, 136, 167, 0, 4, 2, 172]
abbrev dktX1_chance_1 : List UInt8 := dkwX1_chance_1 ++ []
def dkwX1_chance_0 : List UInt8 := [42, 27, 182, 0, 151, 153, 0, 27, 28, 184, 1, 53, 153, 0, 20, 42, 27, 187, 1, 24, 89, 28]
abbrev dktX1_chance_0 : List UInt8 := dkwX1_chance_0 ++ dktX1_chance_1
theorem dksX1_chance_0 : cX1_chance.data.toList.drop 0 = dktX1_chance_0 := by decide +kernel
theorem dksX1_chance_1 : cX1_chance.data.toList.drop 22 = dktX1_chance_1 := dk_seg dksX1_chance_0 22 rfl rfl
theorem dX1_chance_0 : decode cX1_chance 0 = .ok (.aload_n 0, 1) := dk_42 (dk_at dksX1_chance_0 0 rfl rfl)
theorem dX1_chance_1 : decode cX1_chance 1 = .ok (.iload_n 1, 1) := dk_27 (dk_at dksX1_chance_0 1 rfl rfl)
theorem dX1_chance_2 : decode cX1_chance 2 = .ok (.invokevirtual 151, 3) := dk_182 0 151 (dk_at dksX1_chance_0 2 rfl rfl)
theorem dX1_chance_5 : decode cX1_chance 5 = .ok (.ifCond .eq 27, 3) := dk_153 0 27 (dk_at dksX1_chance_0 5 rfl rfl)
theorem dX1_chance_8 : decode cX1_chance 8 = .ok (.iload_n 2, 1) := dk_28 (dk_at dksX1_chance_0 8 rfl rfl)
theorem dX1_chance_9 : decode cX1_chance 9 = .ok (.invokestatic 309, 3) := dk_184 1 53 (dk_at dksX1_chance_0 9 rfl rfl)
theorem dX1_chance_12 : decode cX1_chance 12 = .ok (.ifCond .eq 20, 3) := dk_153 0 20 (dk_at dksX1_chance_0 12 rfl rfl)
theorem dX1_chance_15 : decode cX1_chance 15 = .ok (.aload_n 0, 1) := dk_42 (dk_at dksX1_chance_0 15 rfl rfl)
theorem dX1_chance_16 : decode cX1_chance 16 = .ok (.iload_n 1, 1) := dk_27 (dk_at dksX1_chance_0 16 rfl rfl)
theorem dX1_chance_17 : decode cX1_chance 17 = .ok (.new 280, 3) := dk_187 1 24 (dk_at dksX1_chance_0 17 rfl rfl)
theorem dX1_chance_20 : decode cX1_chance 20 = .ok (.dup, 1) := dk_89 (dk_at dksX1_chance_0 20 rfl rfl)
theorem dX1_chance_21 : decode cX1_chance 21 = .ok (.iload_n 2, 1) := dk_28 (dk_at dksX1_chance_0 21 rfl rfl)
theorem dX1_chance_22 : decode cX1_chance 22 = .ok (.invokespecial 282, 3) := dk_183 1 26 (dk_at dksX1_chance_1 0 rfl rfl)
theorem dX1_chance_25 : decode cX1_chance 25 = .ok (.invokevirtual 283, 3) := dk_182 1 27 (dk_at dksX1_chance_1 3 rfl rfl)
theorem dX1_chance_28 : decode cX1_chance 28 = .ok (.l2i, 1) := dk_136 (dk_at dksX1_chance_1 6 rfl rfl)
theorem dX1_chance_29 : decode cX1_chance 29 = .ok (.goto 4, 3) := dk_167 0 4 (dk_at dksX1_chance_1 7 rfl rfl)
theorem dX1_chance_32 : decode cX1_chance 32 = .ok (.iconst (-1), 1) := dk_2 (dk_at dksX1_chance_1 10 rfl rfl)
theorem dX1_chance_33 : decode cX1_chance 33 = .ok (.ireturn, 1) := dk_172 (dk_at dksX1_chance_1 11 rfl rfl)
abbrev cX1_isGoal : ByteArray := prog_1_method_36_code
def yX1_isGoal : MethodName := ⟨RX1, "isGoal", "(I)Z"⟩
def dkwX1_isGoal_0 : List UInt8 := [26, 133, 9, 20, 1, 51, 184, 0, 110, 172]
abbrev dktX1_isGoal_0 : List UInt8 := dkwX1_isGoal_0 ++ []
theorem dksX1_isGoal_0 : cX1_isGoal.data.toList.drop 0 = dktX1_isGoal_0 := by decide +kernel
theorem dX1_isGoal_0 : decode cX1_isGoal 0 = .ok (.iload_n 0, 1) := dk_26 (dk_at dksX1_isGoal_0 0 rfl rfl)
theorem dX1_isGoal_1 : decode cX1_isGoal 1 = .ok (.i2l, 1) := dk_133 (dk_at dksX1_isGoal_0 1 rfl rfl)
theorem dX1_isGoal_2 : decode cX1_isGoal 2 = .ok (.lconst 0, 1) := dk_9 (dk_at dksX1_isGoal_0 2 rfl rfl)
theorem dX1_isGoal_3 : decode cX1_isGoal 3 = .ok (.ldc2_w 307, 3) := dk_20 1 51 (dk_at dksX1_isGoal_0 3 rfl rfl)
theorem dX1_isGoal_6 : decode cX1_isGoal 6 = .ok (.invokestatic 110, 3) := dk_184 0 110 (dk_at dksX1_isGoal_0 6 rfl rfl)
theorem dX1_isGoal_9 : decode cX1_isGoal 9 = .ok (.ireturn, 1) := dk_172 (dk_at dksX1_isGoal_0 9 rfl rfl)
abbrev cX1_likeliest : ByteArray := prog_1_method_38_code
def yX1_likeliest : MethodName := ⟨RX1, "likeliest", "(I)I"⟩
def dkwX1_likeliest_4 : List UInt8 := [47, 182, 0, 219, 28, 172]
abbrev dktX1_likeliest_4 : List UInt8 := dkwX1_likeliest_4 ++ []
def dkwX1_likeliest_3 : List UInt8 := [132, 5, 1, 167, 255, 207, 42, 3, 181, 0, 103, 42, 33, 182, 0, 219, 42, 42, 180, 0, 90, 27, 50, 4]
abbrev dktX1_likeliest_3 : List UInt8 := dkwX1_likeliest_3 ++ dktX1_likeliest_4
def dkwX1_likeliest_2 : List UInt8 := [4, 96, 47, 101, 55, 6, 22, 6, 33, 148, 157, 0, 6, 167, 0, 9, 21, 5, 61, 22, 6, 66]
abbrev dktX1_likeliest_2 : List UInt8 := dkwX1_likeliest_2 ++ dktX1_likeliest_3
def dkwX1_likeliest_1 : List UInt8 := [21, 5, 16, 120, 163, 0, 48, 42, 180, 0, 90, 27, 50, 21, 5, 47, 42, 180, 0, 90, 27, 50, 21, 5]
abbrev dktX1_likeliest_1 : List UInt8 := dkwX1_likeliest_1 ++ dktX1_likeliest_2
def dkwX1_likeliest_0 : List UInt8 := [42, 27, 182, 0, 151, 154, 0, 5, 2, 172, 42, 27, 182, 1, 31, 3, 61, 20, 1, 56, 66, 3, 54, 5]
abbrev dktX1_likeliest_0 : List UInt8 := dkwX1_likeliest_0 ++ dktX1_likeliest_1
theorem dksX1_likeliest_0 : cX1_likeliest.data.toList.drop 0 = dktX1_likeliest_0 := by decide +kernel
theorem dksX1_likeliest_1 : cX1_likeliest.data.toList.drop 24 = dktX1_likeliest_1 := dk_seg dksX1_likeliest_0 24 rfl rfl
theorem dksX1_likeliest_2 : cX1_likeliest.data.toList.drop 48 = dktX1_likeliest_2 := dk_seg dksX1_likeliest_1 24 rfl rfl
theorem dksX1_likeliest_3 : cX1_likeliest.data.toList.drop 70 = dktX1_likeliest_3 := dk_seg dksX1_likeliest_2 22 rfl rfl
theorem dksX1_likeliest_4 : cX1_likeliest.data.toList.drop 94 = dktX1_likeliest_4 := dk_seg dksX1_likeliest_3 24 rfl rfl
theorem dX1_likeliest_0 : decode cX1_likeliest 0 = .ok (.aload_n 0, 1) := dk_42 (dk_at dksX1_likeliest_0 0 rfl rfl)
theorem dX1_likeliest_1 : decode cX1_likeliest 1 = .ok (.iload_n 1, 1) := dk_27 (dk_at dksX1_likeliest_0 1 rfl rfl)
theorem dX1_likeliest_2 : decode cX1_likeliest 2 = .ok (.invokevirtual 151, 3) := dk_182 0 151 (dk_at dksX1_likeliest_0 2 rfl rfl)
theorem dX1_likeliest_5 : decode cX1_likeliest 5 = .ok (.ifCond .ne 5, 3) := dk_154 0 5 (dk_at dksX1_likeliest_0 5 rfl rfl)
theorem dX1_likeliest_8 : decode cX1_likeliest 8 = .ok (.iconst (-1), 1) := dk_2 (dk_at dksX1_likeliest_0 8 rfl rfl)
theorem dX1_likeliest_9 : decode cX1_likeliest 9 = .ok (.ireturn, 1) := dk_172 (dk_at dksX1_likeliest_0 9 rfl rfl)
theorem dX1_likeliest_10 : decode cX1_likeliest 10 = .ok (.aload_n 0, 1) := dk_42 (dk_at dksX1_likeliest_0 10 rfl rfl)
theorem dX1_likeliest_11 : decode cX1_likeliest 11 = .ok (.iload_n 1, 1) := dk_27 (dk_at dksX1_likeliest_0 11 rfl rfl)
theorem dX1_likeliest_12 : decode cX1_likeliest 12 = .ok (.invokevirtual 287, 3) := dk_182 1 31 (dk_at dksX1_likeliest_0 12 rfl rfl)
theorem dX1_likeliest_15 : decode cX1_likeliest 15 = .ok (.iconst 0, 1) := dk_3 (dk_at dksX1_likeliest_0 15 rfl rfl)
theorem dX1_likeliest_16 : decode cX1_likeliest 16 = .ok (.istore_n 2, 1) := dk_61 (dk_at dksX1_likeliest_0 16 rfl rfl)
theorem dX1_likeliest_17 : decode cX1_likeliest 17 = .ok (.ldc2_w 312, 3) := dk_20 1 56 (dk_at dksX1_likeliest_0 17 rfl rfl)
theorem dX1_likeliest_20 : decode cX1_likeliest 20 = .ok (.lstore_n 3, 1) := dk_66 (dk_at dksX1_likeliest_0 20 rfl rfl)
theorem dX1_likeliest_21 : decode cX1_likeliest 21 = .ok (.iconst 0, 1) := dk_3 (dk_at dksX1_likeliest_0 21 rfl rfl)
theorem dX1_likeliest_22 : decode cX1_likeliest 22 = .ok (.istore 5, 2) := dk_54 5 (dk_at dksX1_likeliest_0 22 rfl rfl)
theorem dX1_likeliest_24 : decode cX1_likeliest 24 = .ok (.iload 5, 2) := dk_21 5 (dk_at dksX1_likeliest_1 0 rfl rfl)
theorem dX1_likeliest_26 : decode cX1_likeliest 26 = .ok (.bipush 120, 2) := dk_16 120 (dk_at dksX1_likeliest_1 2 rfl rfl)
theorem dX1_likeliest_28 : decode cX1_likeliest 28 = .ok (.if_icmp .gt 48, 3) := dk_163 0 48 (dk_at dksX1_likeliest_1 4 rfl rfl)
theorem dX1_likeliest_31 : decode cX1_likeliest 31 = .ok (.aload_n 0, 1) := dk_42 (dk_at dksX1_likeliest_1 7 rfl rfl)
theorem dX1_likeliest_32 : decode cX1_likeliest 32 = .ok (.getfield 90, 3) := dk_180 0 90 (dk_at dksX1_likeliest_1 8 rfl rfl)
theorem dX1_likeliest_35 : decode cX1_likeliest 35 = .ok (.iload_n 1, 1) := dk_27 (dk_at dksX1_likeliest_1 11 rfl rfl)
theorem dX1_likeliest_36 : decode cX1_likeliest 36 = .ok (.aaload, 1) := dk_50 (dk_at dksX1_likeliest_1 12 rfl rfl)
theorem dX1_likeliest_37 : decode cX1_likeliest 37 = .ok (.iload 5, 2) := dk_21 5 (dk_at dksX1_likeliest_1 13 rfl rfl)
theorem dX1_likeliest_39 : decode cX1_likeliest 39 = .ok (.laload, 1) := dk_47 (dk_at dksX1_likeliest_1 15 rfl rfl)
theorem dX1_likeliest_40 : decode cX1_likeliest 40 = .ok (.aload_n 0, 1) := dk_42 (dk_at dksX1_likeliest_1 16 rfl rfl)
theorem dX1_likeliest_41 : decode cX1_likeliest 41 = .ok (.getfield 90, 3) := dk_180 0 90 (dk_at dksX1_likeliest_1 17 rfl rfl)
theorem dX1_likeliest_44 : decode cX1_likeliest 44 = .ok (.iload_n 1, 1) := dk_27 (dk_at dksX1_likeliest_1 20 rfl rfl)
theorem dX1_likeliest_45 : decode cX1_likeliest 45 = .ok (.aaload, 1) := dk_50 (dk_at dksX1_likeliest_1 21 rfl rfl)
theorem dX1_likeliest_46 : decode cX1_likeliest 46 = .ok (.iload 5, 2) := dk_21 5 (dk_at dksX1_likeliest_1 22 rfl rfl)
theorem dX1_likeliest_48 : decode cX1_likeliest 48 = .ok (.iconst 1, 1) := dk_4 (dk_at dksX1_likeliest_2 0 rfl rfl)
theorem dX1_likeliest_49 : decode cX1_likeliest 49 = .ok (.iadd, 1) := dk_96 (dk_at dksX1_likeliest_2 1 rfl rfl)
theorem dX1_likeliest_50 : decode cX1_likeliest 50 = .ok (.laload, 1) := dk_47 (dk_at dksX1_likeliest_2 2 rfl rfl)
theorem dX1_likeliest_51 : decode cX1_likeliest 51 = .ok (.lsub, 1) := dk_101 (dk_at dksX1_likeliest_2 3 rfl rfl)
theorem dX1_likeliest_52 : decode cX1_likeliest 52 = .ok (.lstore 6, 2) := dk_55 6 (dk_at dksX1_likeliest_2 4 rfl rfl)
theorem dX1_likeliest_54 : decode cX1_likeliest 54 = .ok (.lload 6, 2) := dk_22 6 (dk_at dksX1_likeliest_2 6 rfl rfl)
theorem dX1_likeliest_56 : decode cX1_likeliest 56 = .ok (.lload_n 3, 1) := dk_33 (dk_at dksX1_likeliest_2 8 rfl rfl)
theorem dX1_likeliest_57 : decode cX1_likeliest 57 = .ok (.lcmp, 1) := dk_148 (dk_at dksX1_likeliest_2 9 rfl rfl)
theorem dX1_likeliest_58 : decode cX1_likeliest 58 = .ok (.ifCond .gt 6, 3) := dk_157 0 6 (dk_at dksX1_likeliest_2 10 rfl rfl)
theorem dX1_likeliest_61 : decode cX1_likeliest 61 = .ok (.goto 9, 3) := dk_167 0 9 (dk_at dksX1_likeliest_2 13 rfl rfl)
theorem dX1_likeliest_64 : decode cX1_likeliest 64 = .ok (.iload 5, 2) := dk_21 5 (dk_at dksX1_likeliest_2 16 rfl rfl)
theorem dX1_likeliest_66 : decode cX1_likeliest 66 = .ok (.istore_n 2, 1) := dk_61 (dk_at dksX1_likeliest_2 18 rfl rfl)
theorem dX1_likeliest_67 : decode cX1_likeliest 67 = .ok (.lload 6, 2) := dk_22 6 (dk_at dksX1_likeliest_2 19 rfl rfl)
theorem dX1_likeliest_69 : decode cX1_likeliest 69 = .ok (.lstore_n 3, 1) := dk_66 (dk_at dksX1_likeliest_2 21 rfl rfl)
theorem dX1_likeliest_70 : decode cX1_likeliest 70 = .ok (.iinc 5 1, 3) := dk_132 5 1 (dk_at dksX1_likeliest_3 0 rfl rfl)
theorem dX1_likeliest_73 : decode cX1_likeliest 73 = .ok (.goto (-49), 3) := dk_167 255 207 (dk_at dksX1_likeliest_3 3 rfl rfl)
theorem dX1_likeliest_76 : decode cX1_likeliest 76 = .ok (.aload_n 0, 1) := dk_42 (dk_at dksX1_likeliest_3 6 rfl rfl)
theorem dX1_likeliest_77 : decode cX1_likeliest 77 = .ok (.iconst 0, 1) := dk_3 (dk_at dksX1_likeliest_3 7 rfl rfl)
theorem dX1_likeliest_78 : decode cX1_likeliest 78 = .ok (.putfield 103, 3) := dk_181 0 103 (dk_at dksX1_likeliest_3 8 rfl rfl)
theorem dX1_likeliest_81 : decode cX1_likeliest 81 = .ok (.aload_n 0, 1) := dk_42 (dk_at dksX1_likeliest_3 11 rfl rfl)
theorem dX1_likeliest_82 : decode cX1_likeliest 82 = .ok (.lload_n 3, 1) := dk_33 (dk_at dksX1_likeliest_3 12 rfl rfl)
theorem dX1_likeliest_83 : decode cX1_likeliest 83 = .ok (.invokevirtual 219, 3) := dk_182 0 219 (dk_at dksX1_likeliest_3 13 rfl rfl)
theorem dX1_likeliest_86 : decode cX1_likeliest 86 = .ok (.aload_n 0, 1) := dk_42 (dk_at dksX1_likeliest_3 16 rfl rfl)
theorem dX1_likeliest_87 : decode cX1_likeliest 87 = .ok (.aload_n 0, 1) := dk_42 (dk_at dksX1_likeliest_3 17 rfl rfl)
theorem dX1_likeliest_88 : decode cX1_likeliest 88 = .ok (.getfield 90, 3) := dk_180 0 90 (dk_at dksX1_likeliest_3 18 rfl rfl)
theorem dX1_likeliest_91 : decode cX1_likeliest 91 = .ok (.iload_n 1, 1) := dk_27 (dk_at dksX1_likeliest_3 21 rfl rfl)
theorem dX1_likeliest_92 : decode cX1_likeliest 92 = .ok (.aaload, 1) := dk_50 (dk_at dksX1_likeliest_3 22 rfl rfl)
theorem dX1_likeliest_93 : decode cX1_likeliest 93 = .ok (.iconst 1, 1) := dk_4 (dk_at dksX1_likeliest_3 23 rfl rfl)
theorem dX1_likeliest_94 : decode cX1_likeliest 94 = .ok (.laload, 1) := dk_47 (dk_at dksX1_likeliest_4 0 rfl rfl)
theorem dX1_likeliest_95 : decode cX1_likeliest 95 = .ok (.invokevirtual 219, 3) := dk_182 0 219 (dk_at dksX1_likeliest_4 1 rfl rfl)
theorem dX1_likeliest_98 : decode cX1_likeliest 98 = .ok (.iload_n 2, 1) := dk_28 (dk_at dksX1_likeliest_4 4 rfl rfl)
theorem dX1_likeliest_99 : decode cX1_likeliest 99 = .ok (.ireturn, 1) := dk_172 (dk_at dksX1_likeliest_4 5 rfl rfl)
abbrev cX1_laysChance : ByteArray := prog_1_method_31_code
def yX1_laysChance : MethodName := ⟨RX1, "laysChance", "(I)V"⟩
def dkwX1_laysChance_1 : List UInt8 := [183, 1, 26, 182, 1, 27, 80, 132, 2, 1, 167, 255, 226, 177]
abbrev dktX1_laysChance_1 : List UInt8 := dkwX1_laysChance_1 ++ []
def dkwX1_laysChance_0 : List UInt8 := [3, 61, 28, 16, 121, 163, 0, 30, 42, 180, 0, 90, 27, 50, 28, 42, 27, 187, 1, 24, 89, 28]
abbrev dktX1_laysChance_0 : List UInt8 := dkwX1_laysChance_0 ++ dktX1_laysChance_1
theorem dksX1_laysChance_0 : cX1_laysChance.data.toList.drop 0 = dktX1_laysChance_0 := by decide +kernel
theorem dksX1_laysChance_1 : cX1_laysChance.data.toList.drop 22 = dktX1_laysChance_1 := dk_seg dksX1_laysChance_0 22 rfl rfl
theorem dX1_laysChance_0 : decode cX1_laysChance 0 = .ok (.iconst 0, 1) := dk_3 (dk_at dksX1_laysChance_0 0 rfl rfl)
theorem dX1_laysChance_1 : decode cX1_laysChance 1 = .ok (.istore_n 2, 1) := dk_61 (dk_at dksX1_laysChance_0 1 rfl rfl)
theorem dX1_laysChance_2 : decode cX1_laysChance 2 = .ok (.iload_n 2, 1) := dk_28 (dk_at dksX1_laysChance_0 2 rfl rfl)
theorem dX1_laysChance_3 : decode cX1_laysChance 3 = .ok (.bipush 121, 2) := dk_16 121 (dk_at dksX1_laysChance_0 3 rfl rfl)
theorem dX1_laysChance_5 : decode cX1_laysChance 5 = .ok (.if_icmp .gt 30, 3) := dk_163 0 30 (dk_at dksX1_laysChance_0 5 rfl rfl)
theorem dX1_laysChance_8 : decode cX1_laysChance 8 = .ok (.aload_n 0, 1) := dk_42 (dk_at dksX1_laysChance_0 8 rfl rfl)
theorem dX1_laysChance_9 : decode cX1_laysChance 9 = .ok (.getfield 90, 3) := dk_180 0 90 (dk_at dksX1_laysChance_0 9 rfl rfl)
theorem dX1_laysChance_12 : decode cX1_laysChance 12 = .ok (.iload_n 1, 1) := dk_27 (dk_at dksX1_laysChance_0 12 rfl rfl)
theorem dX1_laysChance_13 : decode cX1_laysChance 13 = .ok (.aaload, 1) := dk_50 (dk_at dksX1_laysChance_0 13 rfl rfl)
theorem dX1_laysChance_14 : decode cX1_laysChance 14 = .ok (.iload_n 2, 1) := dk_28 (dk_at dksX1_laysChance_0 14 rfl rfl)
theorem dX1_laysChance_15 : decode cX1_laysChance 15 = .ok (.aload_n 0, 1) := dk_42 (dk_at dksX1_laysChance_0 15 rfl rfl)
theorem dX1_laysChance_16 : decode cX1_laysChance 16 = .ok (.iload_n 1, 1) := dk_27 (dk_at dksX1_laysChance_0 16 rfl rfl)
theorem dX1_laysChance_17 : decode cX1_laysChance 17 = .ok (.new 280, 3) := dk_187 1 24 (dk_at dksX1_laysChance_0 17 rfl rfl)
theorem dX1_laysChance_20 : decode cX1_laysChance 20 = .ok (.dup, 1) := dk_89 (dk_at dksX1_laysChance_0 20 rfl rfl)
theorem dX1_laysChance_21 : decode cX1_laysChance 21 = .ok (.iload_n 2, 1) := dk_28 (dk_at dksX1_laysChance_0 21 rfl rfl)
theorem dX1_laysChance_22 : decode cX1_laysChance 22 = .ok (.invokespecial 282, 3) := dk_183 1 26 (dk_at dksX1_laysChance_1 0 rfl rfl)
theorem dX1_laysChance_25 : decode cX1_laysChance 25 = .ok (.invokevirtual 283, 3) := dk_182 1 27 (dk_at dksX1_laysChance_1 3 rfl rfl)
theorem dX1_laysChance_28 : decode cX1_laysChance 28 = .ok (.lastore, 1) := dk_80 (dk_at dksX1_laysChance_1 6 rfl rfl)
theorem dX1_laysChance_29 : decode cX1_laysChance 29 = .ok (.iinc 2 1, 3) := dk_132 2 1 (dk_at dksX1_laysChance_1 7 rfl rfl)
theorem dX1_laysChance_32 : decode cX1_laysChance 32 = .ok (.goto (-30), 3) := dk_167 255 226 (dk_at dksX1_laysChance_1 10 rfl rfl)
theorem dX1_laysChance_35 : decode cX1_laysChance 35 = .ok (.return_, 1) := dk_177 (dk_at dksX1_laysChance_1 13 rfl rfl)
abbrev cX1_beats : ByteArray := prog_1_method_39_code
def yX1_beats : MethodName := ⟨RX1, "beats", "(II)I"⟩
def dkwX1_beats_1 : List UInt8 := [2, 172]
abbrev dktX1_beats_1 : List UInt8 := dkwX1_beats_1 ++ []
def dkwX1_beats_0 : List UInt8 := [42, 27, 28, 182, 1, 58, 153, 0, 18, 42, 27, 42, 27, 28, 182, 1, 39, 182, 1, 27, 136, 167, 0, 4]
abbrev dktX1_beats_0 : List UInt8 := dkwX1_beats_0 ++ dktX1_beats_1
theorem dksX1_beats_0 : cX1_beats.data.toList.drop 0 = dktX1_beats_0 := by decide +kernel
theorem dksX1_beats_1 : cX1_beats.data.toList.drop 24 = dktX1_beats_1 := dk_seg dksX1_beats_0 24 rfl rfl
theorem dX1_beats_0 : decode cX1_beats 0 = .ok (.aload_n 0, 1) := dk_42 (dk_at dksX1_beats_0 0 rfl rfl)
theorem dX1_beats_1 : decode cX1_beats 1 = .ok (.iload_n 1, 1) := dk_27 (dk_at dksX1_beats_0 1 rfl rfl)
theorem dX1_beats_2 : decode cX1_beats 2 = .ok (.iload_n 2, 1) := dk_28 (dk_at dksX1_beats_0 2 rfl rfl)
theorem dX1_beats_3 : decode cX1_beats 3 = .ok (.invokevirtual 314, 3) := dk_182 1 58 (dk_at dksX1_beats_0 3 rfl rfl)
theorem dX1_beats_6 : decode cX1_beats 6 = .ok (.ifCond .eq 18, 3) := dk_153 0 18 (dk_at dksX1_beats_0 6 rfl rfl)
theorem dX1_beats_9 : decode cX1_beats 9 = .ok (.aload_n 0, 1) := dk_42 (dk_at dksX1_beats_0 9 rfl rfl)
theorem dX1_beats_10 : decode cX1_beats 10 = .ok (.iload_n 1, 1) := dk_27 (dk_at dksX1_beats_0 10 rfl rfl)
theorem dX1_beats_11 : decode cX1_beats 11 = .ok (.aload_n 0, 1) := dk_42 (dk_at dksX1_beats_0 11 rfl rfl)
theorem dX1_beats_12 : decode cX1_beats 12 = .ok (.iload_n 1, 1) := dk_27 (dk_at dksX1_beats_0 12 rfl rfl)
theorem dX1_beats_13 : decode cX1_beats 13 = .ok (.iload_n 2, 1) := dk_28 (dk_at dksX1_beats_0 13 rfl rfl)
theorem dX1_beats_14 : decode cX1_beats 14 = .ok (.invokevirtual 295, 3) := dk_182 1 39 (dk_at dksX1_beats_0 14 rfl rfl)
theorem dX1_beats_17 : decode cX1_beats 17 = .ok (.invokevirtual 283, 3) := dk_182 1 27 (dk_at dksX1_beats_0 17 rfl rfl)
theorem dX1_beats_20 : decode cX1_beats 20 = .ok (.l2i, 1) := dk_136 (dk_at dksX1_beats_0 20 rfl rfl)
theorem dX1_beats_21 : decode cX1_beats 21 = .ok (.goto 4, 3) := dk_167 0 4 (dk_at dksX1_beats_0 21 rfl rfl)
theorem dX1_beats_24 : decode cX1_beats 24 = .ok (.iconst (-1), 1) := dk_2 (dk_at dksX1_beats_1 0 rfl rfl)
theorem dX1_beats_25 : decode cX1_beats 25 = .ok (.ireturn, 1) := dk_172 (dk_at dksX1_beats_1 1 rfl rfl)
abbrev cX1_areTwo : ByteArray := prog_1_method_34_code
def yX1_areTwo : MethodName := ⟨RX1, "areTwo", "(II)Z"⟩
def dkwX1_areTwo_1 : List UInt8 := [167, 0, 4, 3, 172]
abbrev dktX1_areTwo_1 : List UInt8 := dkwX1_areTwo_1 ++ []
def dkwX1_areTwo_0 : List UInt8 := [42, 27, 182, 0, 151, 153, 0, 20, 42, 28, 182, 0, 151, 153, 0, 12, 27, 28, 159, 0, 7, 4]
abbrev dktX1_areTwo_0 : List UInt8 := dkwX1_areTwo_0 ++ dktX1_areTwo_1
theorem dksX1_areTwo_0 : cX1_areTwo.data.toList.drop 0 = dktX1_areTwo_0 := by decide +kernel
theorem dksX1_areTwo_1 : cX1_areTwo.data.toList.drop 22 = dktX1_areTwo_1 := dk_seg dksX1_areTwo_0 22 rfl rfl
theorem dX1_areTwo_0 : decode cX1_areTwo 0 = .ok (.aload_n 0, 1) := dk_42 (dk_at dksX1_areTwo_0 0 rfl rfl)
theorem dX1_areTwo_1 : decode cX1_areTwo 1 = .ok (.iload_n 1, 1) := dk_27 (dk_at dksX1_areTwo_0 1 rfl rfl)
theorem dX1_areTwo_2 : decode cX1_areTwo 2 = .ok (.invokevirtual 151, 3) := dk_182 0 151 (dk_at dksX1_areTwo_0 2 rfl rfl)
theorem dX1_areTwo_5 : decode cX1_areTwo 5 = .ok (.ifCond .eq 20, 3) := dk_153 0 20 (dk_at dksX1_areTwo_0 5 rfl rfl)
theorem dX1_areTwo_8 : decode cX1_areTwo 8 = .ok (.aload_n 0, 1) := dk_42 (dk_at dksX1_areTwo_0 8 rfl rfl)
theorem dX1_areTwo_9 : decode cX1_areTwo 9 = .ok (.iload_n 2, 1) := dk_28 (dk_at dksX1_areTwo_0 9 rfl rfl)
theorem dX1_areTwo_10 : decode cX1_areTwo 10 = .ok (.invokevirtual 151, 3) := dk_182 0 151 (dk_at dksX1_areTwo_0 10 rfl rfl)
theorem dX1_areTwo_13 : decode cX1_areTwo 13 = .ok (.ifCond .eq 12, 3) := dk_153 0 12 (dk_at dksX1_areTwo_0 13 rfl rfl)
theorem dX1_areTwo_16 : decode cX1_areTwo 16 = .ok (.iload_n 1, 1) := dk_27 (dk_at dksX1_areTwo_0 16 rfl rfl)
theorem dX1_areTwo_17 : decode cX1_areTwo 17 = .ok (.iload_n 2, 1) := dk_28 (dk_at dksX1_areTwo_0 17 rfl rfl)
theorem dX1_areTwo_18 : decode cX1_areTwo 18 = .ok (.if_icmp .eq 7, 3) := dk_159 0 7 (dk_at dksX1_areTwo_0 18 rfl rfl)
theorem dX1_areTwo_21 : decode cX1_areTwo 21 = .ok (.iconst 1, 1) := dk_4 (dk_at dksX1_areTwo_0 21 rfl rfl)
theorem dX1_areTwo_22 : decode cX1_areTwo 22 = .ok (.goto 4, 3) := dk_167 0 4 (dk_at dksX1_areTwo_1 0 rfl rfl)
theorem dX1_areTwo_25 : decode cX1_areTwo 25 = .ok (.iconst 0, 1) := dk_3 (dk_at dksX1_areTwo_1 3 rfl rfl)
theorem dX1_areTwo_26 : decode cX1_areTwo 26 = .ok (.ireturn, 1) := dk_172 (dk_at dksX1_areTwo_1 4 rfl rfl)
abbrev cX1_beat : ByteArray := prog_1_method_32_code
def yX1_beat : MethodName := ⟨RX1, "beat", "(II)LNextLoad$Beat;"⟩
def dkwX1_beat_1 : List UInt8 := [3, 182, 1, 9, 183, 1, 36, 176]
abbrev dktX1_beat_1 : List UInt8 := dkwX1_beat_1 ++ []
def dkwX1_beat_0 : List UInt8 := [42, 28, 182, 1, 31, 187, 1, 34, 89, 42, 180, 0, 90, 28, 50, 42, 180, 0, 45, 27, 4, 3, 28, 4]
abbrev dktX1_beat_0 : List UInt8 := dkwX1_beat_0 ++ dktX1_beat_1
theorem dksX1_beat_0 : cX1_beat.data.toList.drop 0 = dktX1_beat_0 := by decide +kernel
theorem dksX1_beat_1 : cX1_beat.data.toList.drop 24 = dktX1_beat_1 := dk_seg dksX1_beat_0 24 rfl rfl
theorem dX1_beat_0 : decode cX1_beat 0 = .ok (.aload_n 0, 1) := dk_42 (dk_at dksX1_beat_0 0 rfl rfl)
theorem dX1_beat_1 : decode cX1_beat 1 = .ok (.iload_n 2, 1) := dk_28 (dk_at dksX1_beat_0 1 rfl rfl)
theorem dX1_beat_2 : decode cX1_beat 2 = .ok (.invokevirtual 287, 3) := dk_182 1 31 (dk_at dksX1_beat_0 2 rfl rfl)
theorem dX1_beat_5 : decode cX1_beat 5 = .ok (.new 290, 3) := dk_187 1 34 (dk_at dksX1_beat_0 5 rfl rfl)
theorem dX1_beat_8 : decode cX1_beat 8 = .ok (.dup, 1) := dk_89 (dk_at dksX1_beat_0 8 rfl rfl)
theorem dX1_beat_9 : decode cX1_beat 9 = .ok (.aload_n 0, 1) := dk_42 (dk_at dksX1_beat_0 9 rfl rfl)
theorem dX1_beat_10 : decode cX1_beat 10 = .ok (.getfield 90, 3) := dk_180 0 90 (dk_at dksX1_beat_0 10 rfl rfl)
theorem dX1_beat_13 : decode cX1_beat 13 = .ok (.iload_n 2, 1) := dk_28 (dk_at dksX1_beat_0 13 rfl rfl)
theorem dX1_beat_14 : decode cX1_beat 14 = .ok (.aaload, 1) := dk_50 (dk_at dksX1_beat_0 14 rfl rfl)
theorem dX1_beat_15 : decode cX1_beat 15 = .ok (.aload_n 0, 1) := dk_42 (dk_at dksX1_beat_0 15 rfl rfl)
theorem dX1_beat_16 : decode cX1_beat 16 = .ok (.getfield 45, 3) := dk_180 0 45 (dk_at dksX1_beat_0 16 rfl rfl)
theorem dX1_beat_19 : decode cX1_beat 19 = .ok (.iload_n 1, 1) := dk_27 (dk_at dksX1_beat_0 19 rfl rfl)
theorem dX1_beat_20 : decode cX1_beat 20 = .ok (.iconst 1, 1) := dk_4 (dk_at dksX1_beat_0 20 rfl rfl)
theorem dX1_beat_21 : decode cX1_beat 21 = .ok (.iconst 0, 1) := dk_3 (dk_at dksX1_beat_0 21 rfl rfl)
theorem dX1_beat_22 : decode cX1_beat 22 = .ok (.iload_n 2, 1) := dk_28 (dk_at dksX1_beat_0 22 rfl rfl)
theorem dX1_beat_23 : decode cX1_beat 23 = .ok (.iconst 1, 1) := dk_4 (dk_at dksX1_beat_0 23 rfl rfl)
theorem dX1_beat_24 : decode cX1_beat 24 = .ok (.iconst 0, 1) := dk_3 (dk_at dksX1_beat_1 0 rfl rfl)
theorem dX1_beat_25 : decode cX1_beat 25 = .ok (.invokevirtual 265, 3) := dk_182 1 9 (dk_at dksX1_beat_1 1 rfl rfl)
theorem dX1_beat_28 : decode cX1_beat 28 = .ok (.invokespecial 292, 3) := dk_183 1 36 (dk_at dksX1_beat_1 4 rfl rfl)
theorem dX1_beat_31 : decode cX1_beat 31 = .ok (.areturn, 1) := dk_176 (dk_at dksX1_beat_1 7 rfl rfl)
abbrev cX1_wins : ByteArray := prog_1_method_40_code
def yX1_wins : MethodName := ⟨RX1, "wins", "(I)I"⟩
def dkwX1_wins_2 : List UInt8 := [167, 255, 228, 42, 180, 0, 56, 27, 47, 136, 172]
abbrev dktX1_wins_2 : List UInt8 := dkwX1_wins_2 ++ []
def dkwX1_wins_1 : List UInt8 := [182, 0, 106, 162, 0, 23, 42, 42, 28, 42, 28, 182, 1, 61, 182, 1, 27, 182, 0, 219, 132, 2, 1]
abbrev dktX1_wins_1 : List UInt8 := dkwX1_wins_1 ++ dktX1_wins_2
def dkwX1_wins_0 : List UInt8 := [42, 27, 182, 0, 151, 154, 0, 5, 2, 172, 42, 3, 181, 0, 103, 3, 61, 28, 42, 180, 0, 36]
abbrev dktX1_wins_0 : List UInt8 := dkwX1_wins_0 ++ dktX1_wins_1
theorem dksX1_wins_0 : cX1_wins.data.toList.drop 0 = dktX1_wins_0 := by decide +kernel
theorem dksX1_wins_1 : cX1_wins.data.toList.drop 22 = dktX1_wins_1 := dk_seg dksX1_wins_0 22 rfl rfl
theorem dksX1_wins_2 : cX1_wins.data.toList.drop 45 = dktX1_wins_2 := dk_seg dksX1_wins_1 23 rfl rfl
theorem dX1_wins_0 : decode cX1_wins 0 = .ok (.aload_n 0, 1) := dk_42 (dk_at dksX1_wins_0 0 rfl rfl)
theorem dX1_wins_1 : decode cX1_wins 1 = .ok (.iload_n 1, 1) := dk_27 (dk_at dksX1_wins_0 1 rfl rfl)
theorem dX1_wins_2 : decode cX1_wins 2 = .ok (.invokevirtual 151, 3) := dk_182 0 151 (dk_at dksX1_wins_0 2 rfl rfl)
theorem dX1_wins_5 : decode cX1_wins 5 = .ok (.ifCond .ne 5, 3) := dk_154 0 5 (dk_at dksX1_wins_0 5 rfl rfl)
theorem dX1_wins_8 : decode cX1_wins 8 = .ok (.iconst (-1), 1) := dk_2 (dk_at dksX1_wins_0 8 rfl rfl)
theorem dX1_wins_9 : decode cX1_wins 9 = .ok (.ireturn, 1) := dk_172 (dk_at dksX1_wins_0 9 rfl rfl)
theorem dX1_wins_10 : decode cX1_wins 10 = .ok (.aload_n 0, 1) := dk_42 (dk_at dksX1_wins_0 10 rfl rfl)
theorem dX1_wins_11 : decode cX1_wins 11 = .ok (.iconst 0, 1) := dk_3 (dk_at dksX1_wins_0 11 rfl rfl)
theorem dX1_wins_12 : decode cX1_wins 12 = .ok (.putfield 103, 3) := dk_181 0 103 (dk_at dksX1_wins_0 12 rfl rfl)
theorem dX1_wins_15 : decode cX1_wins 15 = .ok (.iconst 0, 1) := dk_3 (dk_at dksX1_wins_0 15 rfl rfl)
theorem dX1_wins_16 : decode cX1_wins 16 = .ok (.istore_n 2, 1) := dk_61 (dk_at dksX1_wins_0 16 rfl rfl)
theorem dX1_wins_17 : decode cX1_wins 17 = .ok (.iload_n 2, 1) := dk_28 (dk_at dksX1_wins_0 17 rfl rfl)
theorem dX1_wins_18 : decode cX1_wins 18 = .ok (.aload_n 0, 1) := dk_42 (dk_at dksX1_wins_0 18 rfl rfl)
theorem dX1_wins_19 : decode cX1_wins 19 = .ok (.getfield 36, 3) := dk_180 0 36 (dk_at dksX1_wins_0 19 rfl rfl)
theorem dX1_wins_22 : decode cX1_wins 22 = .ok (.invokevirtual 106, 3) := dk_182 0 106 (dk_at dksX1_wins_1 0 rfl rfl)
theorem dX1_wins_25 : decode cX1_wins 25 = .ok (.if_icmp .ge 23, 3) := dk_162 0 23 (dk_at dksX1_wins_1 3 rfl rfl)
theorem dX1_wins_28 : decode cX1_wins 28 = .ok (.aload_n 0, 1) := dk_42 (dk_at dksX1_wins_1 6 rfl rfl)
theorem dX1_wins_29 : decode cX1_wins 29 = .ok (.aload_n 0, 1) := dk_42 (dk_at dksX1_wins_1 7 rfl rfl)
theorem dX1_wins_30 : decode cX1_wins 30 = .ok (.iload_n 2, 1) := dk_28 (dk_at dksX1_wins_1 8 rfl rfl)
theorem dX1_wins_31 : decode cX1_wins 31 = .ok (.aload_n 0, 1) := dk_42 (dk_at dksX1_wins_1 9 rfl rfl)
theorem dX1_wins_32 : decode cX1_wins 32 = .ok (.iload_n 2, 1) := dk_28 (dk_at dksX1_wins_1 10 rfl rfl)
theorem dX1_wins_33 : decode cX1_wins 33 = .ok (.invokevirtual 317, 3) := dk_182 1 61 (dk_at dksX1_wins_1 11 rfl rfl)
theorem dX1_wins_36 : decode cX1_wins 36 = .ok (.invokevirtual 283, 3) := dk_182 1 27 (dk_at dksX1_wins_1 14 rfl rfl)
theorem dX1_wins_39 : decode cX1_wins 39 = .ok (.invokevirtual 219, 3) := dk_182 0 219 (dk_at dksX1_wins_1 17 rfl rfl)
theorem dX1_wins_42 : decode cX1_wins 42 = .ok (.iinc 2 1, 3) := dk_132 2 1 (dk_at dksX1_wins_1 20 rfl rfl)
theorem dX1_wins_45 : decode cX1_wins 45 = .ok (.goto (-28), 3) := dk_167 255 228 (dk_at dksX1_wins_2 0 rfl rfl)
theorem dX1_wins_48 : decode cX1_wins 48 = .ok (.aload_n 0, 1) := dk_42 (dk_at dksX1_wins_2 3 rfl rfl)
theorem dX1_wins_49 : decode cX1_wins 49 = .ok (.getfield 56, 3) := dk_180 0 56 (dk_at dksX1_wins_2 4 rfl rfl)
theorem dX1_wins_52 : decode cX1_wins 52 = .ok (.iload_n 1, 1) := dk_27 (dk_at dksX1_wins_2 7 rfl rfl)
theorem dX1_wins_53 : decode cX1_wins 53 = .ok (.laload, 1) := dk_47 (dk_at dksX1_wins_2 8 rfl rfl)
theorem dX1_wins_54 : decode cX1_wins 54 = .ok (.l2i, 1) := dk_136 (dk_at dksX1_wins_2 9 rfl rfl)
theorem dX1_wins_55 : decode cX1_wins 55 = .ok (.ireturn, 1) := dk_172 (dk_at dksX1_wins_2 10 rfl rfl)
abbrev cX1_win : ByteArray := prog_1_method_33_code
def yX1_win : MethodName := ⟨RX1, "win", "(I)LNextLoad$Win;"⟩
def dkwX1_win_2 : List UInt8 := [132, 4, 1, 167, 255, 219, 187, 1, 43, 89, 44, 29, 183, 1, 45, 176]
abbrev dktX1_win_2 : List UInt8 := dkwX1_win_2 ++ []
def dkwX1_win_1 : List UInt8 := [21, 4, 27, 160, 0, 6, 167, 0, 16, 44, 29, 42, 27, 21, 4, 182, 1, 39, 83, 132, 3, 1]
abbrev dktX1_win_1 : List UInt8 := dkwX1_win_1 ++ dktX1_win_2
def dkwX1_win_0 : List UInt8 := [16, 6, 189, 1, 34, 77, 3, 62, 3, 54, 4, 21, 4, 42, 180, 0, 36, 182, 0, 106, 162, 0, 31]
abbrev dktX1_win_0 : List UInt8 := dkwX1_win_0 ++ dktX1_win_1
theorem dksX1_win_0 : cX1_win.data.toList.drop 0 = dktX1_win_0 := by decide +kernel
theorem dksX1_win_1 : cX1_win.data.toList.drop 23 = dktX1_win_1 := dk_seg dksX1_win_0 23 rfl rfl
theorem dksX1_win_2 : cX1_win.data.toList.drop 45 = dktX1_win_2 := dk_seg dksX1_win_1 22 rfl rfl
theorem dX1_win_0 : decode cX1_win 0 = .ok (.bipush 6, 2) := dk_16 6 (dk_at dksX1_win_0 0 rfl rfl)
theorem dX1_win_2 : decode cX1_win 2 = .ok (.anewarray 290, 3) := dk_189 1 34 (dk_at dksX1_win_0 2 rfl rfl)
theorem dX1_win_5 : decode cX1_win 5 = .ok (.astore_n 2, 1) := dk_77 (dk_at dksX1_win_0 5 rfl rfl)
theorem dX1_win_6 : decode cX1_win 6 = .ok (.iconst 0, 1) := dk_3 (dk_at dksX1_win_0 6 rfl rfl)
theorem dX1_win_7 : decode cX1_win 7 = .ok (.istore_n 3, 1) := dk_62 (dk_at dksX1_win_0 7 rfl rfl)
theorem dX1_win_8 : decode cX1_win 8 = .ok (.iconst 0, 1) := dk_3 (dk_at dksX1_win_0 8 rfl rfl)
theorem dX1_win_9 : decode cX1_win 9 = .ok (.istore 4, 2) := dk_54 4 (dk_at dksX1_win_0 9 rfl rfl)
theorem dX1_win_11 : decode cX1_win 11 = .ok (.iload 4, 2) := dk_21 4 (dk_at dksX1_win_0 11 rfl rfl)
theorem dX1_win_13 : decode cX1_win 13 = .ok (.aload_n 0, 1) := dk_42 (dk_at dksX1_win_0 13 rfl rfl)
theorem dX1_win_14 : decode cX1_win 14 = .ok (.getfield 36, 3) := dk_180 0 36 (dk_at dksX1_win_0 14 rfl rfl)
theorem dX1_win_17 : decode cX1_win 17 = .ok (.invokevirtual 106, 3) := dk_182 0 106 (dk_at dksX1_win_0 17 rfl rfl)
theorem dX1_win_20 : decode cX1_win 20 = .ok (.if_icmp .ge 31, 3) := dk_162 0 31 (dk_at dksX1_win_0 20 rfl rfl)
theorem dX1_win_23 : decode cX1_win 23 = .ok (.iload 4, 2) := dk_21 4 (dk_at dksX1_win_1 0 rfl rfl)
theorem dX1_win_25 : decode cX1_win 25 = .ok (.iload_n 1, 1) := dk_27 (dk_at dksX1_win_1 2 rfl rfl)
theorem dX1_win_26 : decode cX1_win 26 = .ok (.if_icmp .ne 6, 3) := dk_160 0 6 (dk_at dksX1_win_1 3 rfl rfl)
theorem dX1_win_29 : decode cX1_win 29 = .ok (.goto 16, 3) := dk_167 0 16 (dk_at dksX1_win_1 6 rfl rfl)
theorem dX1_win_32 : decode cX1_win 32 = .ok (.aload_n 2, 1) := dk_44 (dk_at dksX1_win_1 9 rfl rfl)
theorem dX1_win_33 : decode cX1_win 33 = .ok (.iload_n 3, 1) := dk_29 (dk_at dksX1_win_1 10 rfl rfl)
theorem dX1_win_34 : decode cX1_win 34 = .ok (.aload_n 0, 1) := dk_42 (dk_at dksX1_win_1 11 rfl rfl)
theorem dX1_win_35 : decode cX1_win 35 = .ok (.iload_n 1, 1) := dk_27 (dk_at dksX1_win_1 12 rfl rfl)
theorem dX1_win_36 : decode cX1_win 36 = .ok (.iload 4, 2) := dk_21 4 (dk_at dksX1_win_1 13 rfl rfl)
theorem dX1_win_38 : decode cX1_win 38 = .ok (.invokevirtual 295, 3) := dk_182 1 39 (dk_at dksX1_win_1 15 rfl rfl)
theorem dX1_win_41 : decode cX1_win 41 = .ok (.aastore, 1) := dk_83 (dk_at dksX1_win_1 18 rfl rfl)
theorem dX1_win_42 : decode cX1_win 42 = .ok (.iinc 3 1, 3) := dk_132 3 1 (dk_at dksX1_win_1 19 rfl rfl)
theorem dX1_win_45 : decode cX1_win 45 = .ok (.iinc 4 1, 3) := dk_132 4 1 (dk_at dksX1_win_2 0 rfl rfl)
theorem dX1_win_48 : decode cX1_win 48 = .ok (.goto (-37), 3) := dk_167 255 219 (dk_at dksX1_win_2 3 rfl rfl)
theorem dX1_win_51 : decode cX1_win 51 = .ok (.new 299, 3) := dk_187 1 43 (dk_at dksX1_win_2 6 rfl rfl)
theorem dX1_win_54 : decode cX1_win 54 = .ok (.dup, 1) := dk_89 (dk_at dksX1_win_2 9 rfl rfl)
theorem dX1_win_55 : decode cX1_win 55 = .ok (.aload_n 2, 1) := dk_44 (dk_at dksX1_win_2 10 rfl rfl)
theorem dX1_win_56 : decode cX1_win 56 = .ok (.iload_n 3, 1) := dk_29 (dk_at dksX1_win_2 11 rfl rfl)
theorem dX1_win_57 : decode cX1_win 57 = .ok (.invokespecial 301, 3) := dk_183 1 45 (dk_at dksX1_win_2 12 rfl rfl)
theorem dX1_win_60 : decode cX1_win 60 = .ok (.areturn, 1) := dk_176 (dk_at dksX1_win_2 15 rfl rfl)