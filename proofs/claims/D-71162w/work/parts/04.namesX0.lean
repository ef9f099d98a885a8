/-! BaizeCorps -/
set_option maxRecDepth 100000
def RX0 : String := "BaizeCorps"
def TX0 : u_T := fun k => match k with
  | 0 => ("BaizeCorps", "table", "LBaizeCorps$Table;", true)
  | 1 => ("BaizeCorps", "now", "LBaizeCorps$Table;", true)
  | 2 => ("BaizeCorps", "images", "[LBaizeCorps$Table;", true)
  | 3 => ("BaizeCorps", "signs", "I", false)
  | 4 => ("BaizeCorps", "sign", "[C", true)
  | 5 => ("BaizeCorps", "reason", "I", false)
  | 6 => ("BaizeCorps", "acts", "I", false)
  | 7 => ("BaizeCorps", "candourAt", "I", false)
  | 8 => ("BaizeCorps", "path", "LBaizeCorps$Path;", true)
  | 9 => ("BaizeCorps", "met", "[Z", true)
  | 10 => ("BaizeCorps", "reached", "[I", true)
  | 11 => ("BaizeCorps", "firstWay", "[I", true)
  | 12 => ("BaizeCorps", "queue", "[I", true)
  | 13 => ("BaizeCorps", "queued", "I", false)
  | 14 => ("BaizeCorps", "fitting", "[I", true)
  | 15 => ("BaizeCorps", "byCell", "[I", true)
  | 16 => ("BaizeCorps", "wins", "[Z", true)
  | _ => ("BaizeCorps", "ways", "[J", true)
def tyX0 : Nat → FieldType := fun k => match k with
  | 0 => .object "BaizeCorps$Table"
  | 1 => .object "BaizeCorps$Table"
  | 2 => .array (.object "BaizeCorps$Table")
  | 3 => .int
  | 4 => .array .char
  | 5 => .int
  | 6 => .int
  | 7 => .int
  | 8 => .object "BaizeCorps$Path"
  | 9 => .array .boolean
  | 10 => .array .int
  | 11 => .array .int
  | 12 => .array .int
  | 13 => .int
  | 14 => .array .int
  | 15 => .array .int
  | 16 => .array .boolean
  | _ => .array .long
abbrev wsX00 : List Cond := u_ws RX0 TX0 18
set_option maxRecDepth 100000 in
theorem nmX0 : ∀ a, a < 18 → ∀ b, b < 18 → a ≠ b → (TX0 a).2.1 ≠ (TX0 b).2.1 := by decide +kernel
set_option maxRecDepth 100000 in
theorem tyX0_ok : ∀ k, k < 18 → parseFieldDescriptor (TX0 k).2.2.1 = some (tyX0 k) := by decide +kernel
abbrev cX0_init : ByteArray := prog_1_method_7_code
def yX0_init : MethodName := ⟨RX0, "<init>", "()V"⟩
def dkwX0_init_6 : List UInt8 := [132, 1, 1, 167, 255, 235, 177]
abbrev dktX0_init_6 : List UInt8 := dkwX0_init_6 ++ []
def dkwX0_init_5 : List UInt8 := [181, 0, 61, 3, 60, 27, 5, 162, 0, 22, 42, 180, 0, 23, 27, 187, 0, 13, 89, 183, 0, 15, 83]
abbrev dktX0_init_5 : List UInt8 := dkwX0_init_5 ++ dktX0_init_6
def dkwX0_init_4 : List UInt8 := [42, 16, 45, 188, 10, 181, 0, 55, 42, 17, 7, 208, 188, 4, 181, 0, 58, 42, 16, 81, 188, 11]
abbrev dktX0_init_4 : List UInt8 := dkwX0_init_4 ++ dktX0_init_5
def dkwX0_init_3 : List UInt8 := [16, 45, 188, 10, 181, 0, 46, 42, 16, 45, 188, 10, 181, 0, 49, 42, 17, 1, 194, 188, 10, 181, 0, 52]
abbrev dktX0_init_3 : List UInt8 := dkwX0_init_3 ++ dktX0_init_4
def dkwX0_init_2 : List UInt8 := [183, 0, 33, 181, 0, 34, 42, 16, 45, 188, 4, 181, 0, 38, 42, 16, 45, 188, 10, 181, 0, 42, 42]
abbrev dktX0_init_2 : List UInt8 := dkwX0_init_2 ++ dktX0_init_3
def dkwX0_init_1 : List UInt8 := [181, 0, 20, 42, 5, 189, 0, 13, 181, 0, 23, 42, 16, 60, 188, 5, 181, 0, 27, 42, 187, 0, 31, 89]
abbrev dktX0_init_1 : List UInt8 := dkwX0_init_1 ++ dktX0_init_2
def dkwX0_init_0 : List UInt8 := [42, 183, 0, 7, 42, 187, 0, 13, 89, 183, 0, 15, 181, 0, 16, 42, 187, 0, 13, 89, 183, 0, 15]
abbrev dktX0_init_0 : List UInt8 := dkwX0_init_0 ++ dktX0_init_1
theorem dksX0_init_0 : cX0_init.data.toList.drop 0 = dktX0_init_0 := by decide +kernel
theorem dksX0_init_1 : cX0_init.data.toList.drop 23 = dktX0_init_1 := dk_seg dksX0_init_0 23 rfl rfl
theorem dksX0_init_2 : cX0_init.data.toList.drop 47 = dktX0_init_2 := dk_seg dksX0_init_1 24 rfl rfl
theorem dksX0_init_3 : cX0_init.data.toList.drop 70 = dktX0_init_3 := dk_seg dksX0_init_2 23 rfl rfl
theorem dksX0_init_4 : cX0_init.data.toList.drop 94 = dktX0_init_4 := dk_seg dksX0_init_3 24 rfl rfl
theorem dksX0_init_5 : cX0_init.data.toList.drop 116 = dktX0_init_5 := dk_seg dksX0_init_4 22 rfl rfl
theorem dksX0_init_6 : cX0_init.data.toList.drop 139 = dktX0_init_6 := dk_seg dksX0_init_5 23 rfl rfl
theorem dX0_init_0 : decode cX0_init 0 = .ok (.aload_n 0, 1) := dk_42 (dk_at dksX0_init_0 0 rfl rfl)
theorem dX0_init_1 : decode cX0_init 1 = .ok (.invokespecial 7, 3) := dk_183 0 7 (dk_at dksX0_init_0 1 rfl rfl)
theorem dX0_init_4 : decode cX0_init 4 = .ok (.aload_n 0, 1) := dk_42 (dk_at dksX0_init_0 4 rfl rfl)
theorem dX0_init_5 : decode cX0_init 5 = .ok (.new 13, 3) := dk_187 0 13 (dk_at dksX0_init_0 5 rfl rfl)
theorem dX0_init_8 : decode cX0_init 8 = .ok (.dup, 1) := dk_89 (dk_at dksX0_init_0 8 rfl rfl)
theorem dX0_init_9 : decode cX0_init 9 = .ok (.invokespecial 15, 3) := dk_183 0 15 (dk_at dksX0_init_0 9 rfl rfl)
theorem dX0_init_12 : decode cX0_init 12 = .ok (.putfield 16, 3) := dk_181 0 16 (dk_at dksX0_init_0 12 rfl rfl)
theorem dX0_init_15 : decode cX0_init 15 = .ok (.aload_n 0, 1) := dk_42 (dk_at dksX0_init_0 15 rfl rfl)
theorem dX0_init_16 : decode cX0_init 16 = .ok (.new 13, 3) := dk_187 0 13 (dk_at dksX0_init_0 16 rfl rfl)
theorem dX0_init_19 : decode cX0_init 19 = .ok (.dup, 1) := dk_89 (dk_at dksX0_init_0 19 rfl rfl)
theorem dX0_init_20 : decode cX0_init 20 = .ok (.invokespecial 15, 3) := dk_183 0 15 (dk_at dksX0_init_0 20 rfl rfl)
theorem dX0_init_23 : decode cX0_init 23 = .ok (.putfield 20, 3) := dk_181 0 20 (dk_at dksX0_init_1 0 rfl rfl)
theorem dX0_init_26 : decode cX0_init 26 = .ok (.aload_n 0, 1) := dk_42 (dk_at dksX0_init_1 3 rfl rfl)
theorem dX0_init_27 : decode cX0_init 27 = .ok (.iconst 2, 1) := dk_5 (dk_at dksX0_init_1 4 rfl rfl)
theorem dX0_init_28 : decode cX0_init 28 = .ok (.anewarray 13, 3) := dk_189 0 13 (dk_at dksX0_init_1 5 rfl rfl)
theorem dX0_init_31 : decode cX0_init 31 = .ok (.putfield 23, 3) := dk_181 0 23 (dk_at dksX0_init_1 8 rfl rfl)
theorem dX0_init_34 : decode cX0_init 34 = .ok (.aload_n 0, 1) := dk_42 (dk_at dksX0_init_1 11 rfl rfl)
theorem dX0_init_35 : decode cX0_init 35 = .ok (.bipush 60, 2) := dk_16 60 (dk_at dksX0_init_1 12 rfl rfl)
theorem dX0_init_37 : decode cX0_init 37 = .ok (.newarray .char, 2) := dk_188_5 (dk_at dksX0_init_1 14 rfl rfl)
theorem dX0_init_39 : decode cX0_init 39 = .ok (.putfield 27, 3) := dk_181 0 27 (dk_at dksX0_init_1 16 rfl rfl)
theorem dX0_init_42 : decode cX0_init 42 = .ok (.aload_n 0, 1) := dk_42 (dk_at dksX0_init_1 19 rfl rfl)
theorem dX0_init_43 : decode cX0_init 43 = .ok (.new 31, 3) := dk_187 0 31 (dk_at dksX0_init_1 20 rfl rfl)
theorem dX0_init_46 : decode cX0_init 46 = .ok (.dup, 1) := dk_89 (dk_at dksX0_init_1 23 rfl rfl)
theorem dX0_init_47 : decode cX0_init 47 = .ok (.invokespecial 33, 3) := dk_183 0 33 (dk_at dksX0_init_2 0 rfl rfl)
theorem dX0_init_50 : decode cX0_init 50 = .ok (.putfield 34, 3) := dk_181 0 34 (dk_at dksX0_init_2 3 rfl rfl)
theorem dX0_init_53 : decode cX0_init 53 = .ok (.aload_n 0, 1) := dk_42 (dk_at dksX0_init_2 6 rfl rfl)
theorem dX0_init_54 : decode cX0_init 54 = .ok (.bipush 45, 2) := dk_16 45 (dk_at dksX0_init_2 7 rfl rfl)
theorem dX0_init_56 : decode cX0_init 56 = .ok (.newarray .boolean, 2) := dk_188_4 (dk_at dksX0_init_2 9 rfl rfl)
theorem dX0_init_58 : decode cX0_init 58 = .ok (.putfield 38, 3) := dk_181 0 38 (dk_at dksX0_init_2 11 rfl rfl)
theorem dX0_init_61 : decode cX0_init 61 = .ok (.aload_n 0, 1) := dk_42 (dk_at dksX0_init_2 14 rfl rfl)
theorem dX0_init_62 : decode cX0_init 62 = .ok (.bipush 45, 2) := dk_16 45 (dk_at dksX0_init_2 15 rfl rfl)
theorem dX0_init_64 : decode cX0_init 64 = .ok (.newarray .int, 2) := dk_188_10 (dk_at dksX0_init_2 17 rfl rfl)
theorem dX0_init_66 : decode cX0_init 66 = .ok (.putfield 42, 3) := dk_181 0 42 (dk_at dksX0_init_2 19 rfl rfl)
theorem dX0_init_69 : decode cX0_init 69 = .ok (.aload_n 0, 1) := dk_42 (dk_at dksX0_init_2 22 rfl rfl)
theorem dX0_init_70 : decode cX0_init 70 = .ok (.bipush 45, 2) := dk_16 45 (dk_at dksX0_init_3 0 rfl rfl)
theorem dX0_init_72 : decode cX0_init 72 = .ok (.newarray .int, 2) := dk_188_10 (dk_at dksX0_init_3 2 rfl rfl)
theorem dX0_init_74 : decode cX0_init 74 = .ok (.putfield 46, 3) := dk_181 0 46 (dk_at dksX0_init_3 4 rfl rfl)
theorem dX0_init_77 : decode cX0_init 77 = .ok (.aload_n 0, 1) := dk_42 (dk_at dksX0_init_3 7 rfl rfl)
theorem dX0_init_78 : decode cX0_init 78 = .ok (.bipush 45, 2) := dk_16 45 (dk_at dksX0_init_3 8 rfl rfl)
theorem dX0_init_80 : decode cX0_init 80 = .ok (.newarray .int, 2) := dk_188_10 (dk_at dksX0_init_3 10 rfl rfl)
theorem dX0_init_82 : decode cX0_init 82 = .ok (.putfield 49, 3) := dk_181 0 49 (dk_at dksX0_init_3 12 rfl rfl)
theorem dX0_init_85 : decode cX0_init 85 = .ok (.aload_n 0, 1) := dk_42 (dk_at dksX0_init_3 15 rfl rfl)
theorem dX0_init_86 : decode cX0_init 86 = .ok (.sipush 450, 3) := dk_17 1 194 (dk_at dksX0_init_3 16 rfl rfl)
theorem dX0_init_89 : decode cX0_init 89 = .ok (.newarray .int, 2) := dk_188_10 (dk_at dksX0_init_3 19 rfl rfl)
theorem dX0_init_91 : decode cX0_init 91 = .ok (.putfield 52, 3) := dk_181 0 52 (dk_at dksX0_init_3 21 rfl rfl)
theorem dX0_init_94 : decode cX0_init 94 = .ok (.aload_n 0, 1) := dk_42 (dk_at dksX0_init_4 0 rfl rfl)
theorem dX0_init_95 : decode cX0_init 95 = .ok (.bipush 45, 2) := dk_16 45 (dk_at dksX0_init_4 1 rfl rfl)
theorem dX0_init_97 : decode cX0_init 97 = .ok (.newarray .int, 2) := dk_188_10 (dk_at dksX0_init_4 3 rfl rfl)
theorem dX0_init_99 : decode cX0_init 99 = .ok (.putfield 55, 3) := dk_181 0 55 (dk_at dksX0_init_4 5 rfl rfl)
theorem dX0_init_102 : decode cX0_init 102 = .ok (.aload_n 0, 1) := dk_42 (dk_at dksX0_init_4 8 rfl rfl)
theorem dX0_init_103 : decode cX0_init 103 = .ok (.sipush 2000, 3) := dk_17 7 208 (dk_at dksX0_init_4 9 rfl rfl)
theorem dX0_init_106 : decode cX0_init 106 = .ok (.newarray .boolean, 2) := dk_188_4 (dk_at dksX0_init_4 12 rfl rfl)
theorem dX0_init_108 : decode cX0_init 108 = .ok (.putfield 58, 3) := dk_181 0 58 (dk_at dksX0_init_4 14 rfl rfl)
theorem dX0_init_111 : decode cX0_init 111 = .ok (.aload_n 0, 1) := dk_42 (dk_at dksX0_init_4 17 rfl rfl)
theorem dX0_init_112 : decode cX0_init 112 = .ok (.bipush 81, 2) := dk_16 81 (dk_at dksX0_init_4 18 rfl rfl)
theorem dX0_init_114 : decode cX0_init 114 = .ok (.newarray .long, 2) := dk_188_11 (dk_at dksX0_init_4 20 rfl rfl)
theorem dX0_init_116 : decode cX0_init 116 = .ok (.putfield 61, 3) := dk_181 0 61 (dk_at dksX0_init_5 0 rfl rfl)
theorem dX0_init_119 : decode cX0_init 119 = .ok (.iconst 0, 1) := dk_3 (dk_at dksX0_init_5 3 rfl rfl)
theorem dX0_init_120 : decode cX0_init 120 = .ok (.istore_n 1, 1) := dk_60 (dk_at dksX0_init_5 4 rfl rfl)
theorem dX0_init_121 : decode cX0_init 121 = .ok (.iload_n 1, 1) := dk_27 (dk_at dksX0_init_5 5 rfl rfl)
theorem dX0_init_122 : decode cX0_init 122 = .ok (.iconst 2, 1) := dk_5 (dk_at dksX0_init_5 6 rfl rfl)
theorem dX0_init_123 : decode cX0_init 123 = .ok (.if_icmp .ge 22, 3) := dk_162 0 22 (dk_at dksX0_init_5 7 rfl rfl)
theorem dX0_init_126 : decode cX0_init 126 = .ok (.aload_n 0, 1) := dk_42 (dk_at dksX0_init_5 10 rfl rfl)
theorem dX0_init_127 : decode cX0_init 127 = .ok (.getfield 23, 3) := dk_180 0 23 (dk_at dksX0_init_5 11 rfl rfl)
theorem dX0_init_130 : decode cX0_init 130 = .ok (.iload_n 1, 1) := dk_27 (dk_at dksX0_init_5 14 rfl rfl)
theorem dX0_init_131 : decode cX0_init 131 = .ok (.new 13, 3) := dk_187 0 13 (dk_at dksX0_init_5 15 rfl rfl)
theorem dX0_init_134 : decode cX0_init 134 = .ok (.dup, 1) := dk_89 (dk_at dksX0_init_5 18 rfl rfl)
theorem dX0_init_135 : decode cX0_init 135 = .ok (.invokespecial 15, 3) := dk_183 0 15 (dk_at dksX0_init_5 19 rfl rfl)
theorem dX0_init_138 : decode cX0_init 138 = .ok (.aastore, 1) := dk_83 (dk_at dksX0_init_5 22 rfl rfl)
theorem dX0_init_139 : decode cX0_init 139 = .ok (.iinc 1 1, 3) := dk_132 1 1 (dk_at dksX0_init_6 0 rfl rfl)
theorem dX0_init_142 : decode cX0_init 142 = .ok (.goto (-21), 3) := dk_167 255 235 (dk_at dksX0_init_6 3 rfl rfl)
theorem dX0_init_145 : decode cX0_init 145 = .ok (.return_, 1) := dk_177 (dk_at dksX0_init_6 6 rfl rfl)
abbrev cX0_spotOf : ByteArray := prog_1_method_6_code
def yX0_spotOf : MethodName := ⟨RX0, "spotOf", "(I)I"⟩
def dkwX0_spotOf_0 : List UInt8 := [26, 154, 0, 8, 16, 10, 167, 0, 15, 26, 4, 160, 0, 8, 16, 16, 167, 0, 5, 16, 24, 172]
abbrev dktX0_spotOf_0 : List UInt8 := dkwX0_spotOf_0 ++ []
theorem dksX0_spotOf_0 : cX0_spotOf.data.toList.drop 0 = dktX0_spotOf_0 := by decide +kernel
theorem dX0_spotOf_0 : decode cX0_spotOf 0 = .ok (.iload_n 0, 1) := dk_26 (dk_at dksX0_spotOf_0 0 rfl rfl)
theorem dX0_spotOf_1 : decode cX0_spotOf 1 = .ok (.ifCond .ne 8, 3) := dk_154 0 8 (dk_at dksX0_spotOf_0 1 rfl rfl)
theorem dX0_spotOf_4 : decode cX0_spotOf 4 = .ok (.bipush 10, 2) := dk_16 10 (dk_at dksX0_spotOf_0 4 rfl rfl)
theorem dX0_spotOf_6 : decode cX0_spotOf 6 = .ok (.goto 15, 3) := dk_167 0 15 (dk_at dksX0_spotOf_0 6 rfl rfl)
theorem dX0_spotOf_9 : decode cX0_spotOf 9 = .ok (.iload_n 0, 1) := dk_26 (dk_at dksX0_spotOf_0 9 rfl rfl)
theorem dX0_spotOf_10 : decode cX0_spotOf 10 = .ok (.iconst 1, 1) := dk_4 (dk_at dksX0_spotOf_0 10 rfl rfl)
theorem dX0_spotOf_11 : decode cX0_spotOf 11 = .ok (.if_icmp .ne 8, 3) := dk_160 0 8 (dk_at dksX0_spotOf_0 11 rfl rfl)
theorem dX0_spotOf_14 : decode cX0_spotOf 14 = .ok (.bipush 16, 2) := dk_16 16 (dk_at dksX0_spotOf_0 14 rfl rfl)
theorem dX0_spotOf_16 : decode cX0_spotOf 16 = .ok (.goto 5, 3) := dk_167 0 5 (dk_at dksX0_spotOf_0 16 rfl rfl)
theorem dX0_spotOf_19 : decode cX0_spotOf 19 = .ok (.bipush 24, 2) := dk_16 24 (dk_at dksX0_spotOf_0 19 rfl rfl)
theorem dX0_spotOf_21 : decode cX0_spotOf 21 = .ok (.ireturn, 1) := dk_172 (dk_at dksX0_spotOf_0 21 rfl rfl)
abbrev cX0_ball : ByteArray := prog_1_method_8_code
def yX0_ball : MethodName := ⟨RX0, "ball", "(II)I"⟩
def dkwX0_ball_3 : List UInt8 := [180, 0, 16, 180, 0, 79, 27, 28, 156, 0, 8, 16, 250, 167, 0, 4, 28, 79, 21, 4, 172]
abbrev dktX0_ball_3 : List UInt8 := dkwX0_ball_3 ++ []
def dkwX0_ball_2 : List UInt8 := [155, 0, 11, 29, 27, 159, 0, 6, 16, 253, 172, 42, 180, 0, 16, 180, 0, 79, 27, 46, 54, 4, 42]
abbrev dktX0_ball_2 : List UInt8 := dkwX0_ball_2 ++ dktX0_ball_3
def dkwX0_ball_1 : List UInt8 := [153, 0, 5, 2, 172, 28, 156, 0, 7, 27, 167, 0, 11, 42, 180, 0, 16, 28, 182, 0, 75, 62, 29]
abbrev dktX0_ball_1 : List UInt8 := dkwX0_ball_1 ++ dktX0_ball_2
def dkwX0_ball_0 : List UInt8 := [27, 184, 0, 65, 153, 0, 22, 28, 2, 159, 0, 19, 28, 184, 0, 69, 153, 0, 10, 28, 184, 0, 72]
abbrev dktX0_ball_0 : List UInt8 := dkwX0_ball_0 ++ dktX0_ball_1
theorem dksX0_ball_0 : cX0_ball.data.toList.drop 0 = dktX0_ball_0 := by decide +kernel
theorem dksX0_ball_1 : cX0_ball.data.toList.drop 23 = dktX0_ball_1 := dk_seg dksX0_ball_0 23 rfl rfl
theorem dksX0_ball_2 : cX0_ball.data.toList.drop 46 = dktX0_ball_2 := dk_seg dksX0_ball_1 23 rfl rfl
theorem dksX0_ball_3 : cX0_ball.data.toList.drop 69 = dktX0_ball_3 := dk_seg dksX0_ball_2 23 rfl rfl
theorem dX0_ball_0 : decode cX0_ball 0 = .ok (.iload_n 1, 1) := dk_27 (dk_at dksX0_ball_0 0 rfl rfl)
theorem dX0_ball_1 : decode cX0_ball 1 = .ok (.invokestatic 65, 3) := dk_184 0 65 (dk_at dksX0_ball_0 1 rfl rfl)
theorem dX0_ball_4 : decode cX0_ball 4 = .ok (.ifCond .eq 22, 3) := dk_153 0 22 (dk_at dksX0_ball_0 4 rfl rfl)
theorem dX0_ball_7 : decode cX0_ball 7 = .ok (.iload_n 2, 1) := dk_28 (dk_at dksX0_ball_0 7 rfl rfl)
theorem dX0_ball_8 : decode cX0_ball 8 = .ok (.iconst (-1), 1) := dk_2 (dk_at dksX0_ball_0 8 rfl rfl)
theorem dX0_ball_9 : decode cX0_ball 9 = .ok (.if_icmp .eq 19, 3) := dk_159 0 19 (dk_at dksX0_ball_0 9 rfl rfl)
theorem dX0_ball_12 : decode cX0_ball 12 = .ok (.iload_n 2, 1) := dk_28 (dk_at dksX0_ball_0 12 rfl rfl)
theorem dX0_ball_13 : decode cX0_ball 13 = .ok (.invokestatic 69, 3) := dk_184 0 69 (dk_at dksX0_ball_0 13 rfl rfl)
theorem dX0_ball_16 : decode cX0_ball 16 = .ok (.ifCond .eq 10, 3) := dk_153 0 10 (dk_at dksX0_ball_0 16 rfl rfl)
theorem dX0_ball_19 : decode cX0_ball 19 = .ok (.iload_n 2, 1) := dk_28 (dk_at dksX0_ball_0 19 rfl rfl)
theorem dX0_ball_20 : decode cX0_ball 20 = .ok (.invokestatic 72, 3) := dk_184 0 72 (dk_at dksX0_ball_0 20 rfl rfl)
theorem dX0_ball_23 : decode cX0_ball 23 = .ok (.ifCond .eq 5, 3) := dk_153 0 5 (dk_at dksX0_ball_1 0 rfl rfl)
theorem dX0_ball_26 : decode cX0_ball 26 = .ok (.iconst (-1), 1) := dk_2 (dk_at dksX0_ball_1 3 rfl rfl)
theorem dX0_ball_27 : decode cX0_ball 27 = .ok (.ireturn, 1) := dk_172 (dk_at dksX0_ball_1 4 rfl rfl)
theorem dX0_ball_28 : decode cX0_ball 28 = .ok (.iload_n 2, 1) := dk_28 (dk_at dksX0_ball_1 5 rfl rfl)
theorem dX0_ball_29 : decode cX0_ball 29 = .ok (.ifCond .ge 7, 3) := dk_156 0 7 (dk_at dksX0_ball_1 6 rfl rfl)
theorem dX0_ball_32 : decode cX0_ball 32 = .ok (.iload_n 1, 1) := dk_27 (dk_at dksX0_ball_1 9 rfl rfl)
theorem dX0_ball_33 : decode cX0_ball 33 = .ok (.goto 11, 3) := dk_167 0 11 (dk_at dksX0_ball_1 10 rfl rfl)
theorem dX0_ball_36 : decode cX0_ball 36 = .ok (.aload_n 0, 1) := dk_42 (dk_at dksX0_ball_1 13 rfl rfl)
theorem dX0_ball_37 : decode cX0_ball 37 = .ok (.getfield 16, 3) := dk_180 0 16 (dk_at dksX0_ball_1 14 rfl rfl)
theorem dX0_ball_40 : decode cX0_ball 40 = .ok (.iload_n 2, 1) := dk_28 (dk_at dksX0_ball_1 17 rfl rfl)
theorem dX0_ball_41 : decode cX0_ball 41 = .ok (.invokevirtual 75, 3) := dk_182 0 75 (dk_at dksX0_ball_1 18 rfl rfl)
theorem dX0_ball_44 : decode cX0_ball 44 = .ok (.istore_n 3, 1) := dk_62 (dk_at dksX0_ball_1 21 rfl rfl)
theorem dX0_ball_45 : decode cX0_ball 45 = .ok (.iload_n 3, 1) := dk_29 (dk_at dksX0_ball_1 22 rfl rfl)
theorem dX0_ball_46 : decode cX0_ball 46 = .ok (.ifCond .lt 11, 3) := dk_155 0 11 (dk_at dksX0_ball_2 0 rfl rfl)
theorem dX0_ball_49 : decode cX0_ball 49 = .ok (.iload_n 3, 1) := dk_29 (dk_at dksX0_ball_2 3 rfl rfl)
theorem dX0_ball_50 : decode cX0_ball 50 = .ok (.iload_n 1, 1) := dk_27 (dk_at dksX0_ball_2 4 rfl rfl)
theorem dX0_ball_51 : decode cX0_ball 51 = .ok (.if_icmp .eq 6, 3) := dk_159 0 6 (dk_at dksX0_ball_2 5 rfl rfl)
theorem dX0_ball_54 : decode cX0_ball 54 = .ok (.bipush (-3), 2) := dk_16 253 (dk_at dksX0_ball_2 8 rfl rfl)
theorem dX0_ball_56 : decode cX0_ball 56 = .ok (.ireturn, 1) := dk_172 (dk_at dksX0_ball_2 10 rfl rfl)
theorem dX0_ball_57 : decode cX0_ball 57 = .ok (.aload_n 0, 1) := dk_42 (dk_at dksX0_ball_2 11 rfl rfl)
theorem dX0_ball_58 : decode cX0_ball 58 = .ok (.getfield 16, 3) := dk_180 0 16 (dk_at dksX0_ball_2 12 rfl rfl)
theorem dX0_ball_61 : decode cX0_ball 61 = .ok (.getfield 79, 3) := dk_180 0 79 (dk_at dksX0_ball_2 15 rfl rfl)
theorem dX0_ball_64 : decode cX0_ball 64 = .ok (.iload_n 1, 1) := dk_27 (dk_at dksX0_ball_2 18 rfl rfl)
theorem dX0_ball_65 : decode cX0_ball 65 = .ok (.iaload, 1) := dk_46 (dk_at dksX0_ball_2 19 rfl rfl)
theorem dX0_ball_66 : decode cX0_ball 66 = .ok (.istore 4, 2) := dk_54 4 (dk_at dksX0_ball_2 20 rfl rfl)
theorem dX0_ball_68 : decode cX0_ball 68 = .ok (.aload_n 0, 1) := dk_42 (dk_at dksX0_ball_2 22 rfl rfl)
theorem dX0_ball_69 : decode cX0_ball 69 = .ok (.getfield 16, 3) := dk_180 0 16 (dk_at dksX0_ball_3 0 rfl rfl)
theorem dX0_ball_72 : decode cX0_ball 72 = .ok (.getfield 79, 3) := dk_180 0 79 (dk_at dksX0_ball_3 3 rfl rfl)
theorem dX0_ball_75 : decode cX0_ball 75 = .ok (.iload_n 1, 1) := dk_27 (dk_at dksX0_ball_3 6 rfl rfl)
theorem dX0_ball_76 : decode cX0_ball 76 = .ok (.iload_n 2, 1) := dk_28 (dk_at dksX0_ball_3 7 rfl rfl)
theorem dX0_ball_77 : decode cX0_ball 77 = .ok (.ifCond .ge 8, 3) := dk_156 0 8 (dk_at dksX0_ball_3 8 rfl rfl)
theorem dX0_ball_80 : decode cX0_ball 80 = .ok (.bipush (-6), 2) := dk_16 250 (dk_at dksX0_ball_3 11 rfl rfl)
theorem dX0_ball_82 : decode cX0_ball 82 = .ok (.goto 4, 3) := dk_167 0 4 (dk_at dksX0_ball_3 13 rfl rfl)
theorem dX0_ball_85 : decode cX0_ball 85 = .ok (.iload_n 2, 1) := dk_28 (dk_at dksX0_ball_3 16 rfl rfl)
theorem dX0_ball_86 : decode cX0_ball 86 = .ok (.iastore, 1) := dk_79 (dk_at dksX0_ball_3 17 rfl rfl)
theorem dX0_ball_87 : decode cX0_ball 87 = .ok (.iload 4, 2) := dk_21 4 (dk_at dksX0_ball_3 18 rfl rfl)
theorem dX0_ball_89 : decode cX0_ball 89 = .ok (.ireturn, 1) := dk_172 (dk_at dksX0_ball_3 20 rfl rfl)
abbrev cX0_isBall : ByteArray := prog_1_method_3_code
def yX0_isBall : MethodName := ⟨RX0, "isBall", "(I)Z"⟩
def dkwX0_isBall_0 : List UInt8 := [26, 3, 5, 184, 0, 3, 172]
abbrev dktX0_isBall_0 : List UInt8 := dkwX0_isBall_0 ++ []
theorem dksX0_isBall_0 : cX0_isBall.data.toList.drop 0 = dktX0_isBall_0 := by decide +kernel
theorem dX0_isBall_0 : decode cX0_isBall 0 = .ok (.iload_n 0, 1) := dk_26 (dk_at dksX0_isBall_0 0 rfl rfl)
theorem dX0_isBall_1 : decode cX0_isBall 1 = .ok (.iconst 0, 1) := dk_3 (dk_at dksX0_isBall_0 1 rfl rfl)
theorem dX0_isBall_2 : decode cX0_isBall 2 = .ok (.iconst 2, 1) := dk_5 (dk_at dksX0_isBall_0 2 rfl rfl)
theorem dX0_isBall_3 : decode cX0_isBall 3 = .ok (.invokestatic 3, 3) := dk_184 0 3 (dk_at dksX0_isBall_0 3 rfl rfl)
theorem dX0_isBall_6 : decode cX0_isBall 6 = .ok (.ireturn, 1) := dk_172 (dk_at dksX0_isBall_0 6 rfl rfl)
abbrev cX0_isIn : ByteArray := prog_1_method_1_code
def yX0_isIn : MethodName := ⟨RX0, "isIn", "(III)Z"⟩
def dkwX0_isIn_0 : List UInt8 := [26, 27, 161, 0, 12, 26, 28, 163, 0, 7, 4, 167, 0, 4, 3, 172]
abbrev dktX0_isIn_0 : List UInt8 := dkwX0_isIn_0 ++ []
theorem dksX0_isIn_0 : cX0_isIn.data.toList.drop 0 = dktX0_isIn_0 := by decide +kernel
theorem dX0_isIn_0 : decode cX0_isIn 0 = .ok (.iload_n 0, 1) := dk_26 (dk_at dksX0_isIn_0 0 rfl rfl)
theorem dX0_isIn_1 : decode cX0_isIn 1 = .ok (.iload_n 1, 1) := dk_27 (dk_at dksX0_isIn_0 1 rfl rfl)
theorem dX0_isIn_2 : decode cX0_isIn 2 = .ok (.if_icmp .lt 12, 3) := dk_161 0 12 (dk_at dksX0_isIn_0 2 rfl rfl)
theorem dX0_isIn_5 : decode cX0_isIn 5 = .ok (.iload_n 0, 1) := dk_26 (dk_at dksX0_isIn_0 5 rfl rfl)
theorem dX0_isIn_6 : decode cX0_isIn 6 = .ok (.iload_n 2, 1) := dk_28 (dk_at dksX0_isIn_0 6 rfl rfl)
theorem dX0_isIn_7 : decode cX0_isIn 7 = .ok (.if_icmp .gt 7, 3) := dk_163 0 7 (dk_at dksX0_isIn_0 7 rfl rfl)
theorem dX0_isIn_10 : decode cX0_isIn 10 = .ok (.iconst 1, 1) := dk_4 (dk_at dksX0_isIn_0 10 rfl rfl)
theorem dX0_isIn_11 : decode cX0_isIn 11 = .ok (.goto 4, 3) := dk_167 0 4 (dk_at dksX0_isIn_0 11 rfl rfl)
theorem dX0_isIn_14 : decode cX0_isIn 14 = .ok (.iconst 0, 1) := dk_3 (dk_at dksX0_isIn_0 14 rfl rfl)
theorem dX0_isIn_15 : decode cX0_isIn 15 = .ok (.ireturn, 1) := dk_172 (dk_at dksX0_isIn_0 15 rfl rfl)
abbrev cX0_isCell : ByteArray := prog_1_method_5_code
def yX0_isCell : MethodName := ⟨RX0, "isCell", "(I)Z"⟩
def dkwX0_isCell_0 : List UInt8 := [26, 3, 16, 44, 184, 0, 3, 172]
abbrev dktX0_isCell_0 : List UInt8 := dkwX0_isCell_0 ++ []
theorem dksX0_isCell_0 : cX0_isCell.data.toList.drop 0 = dktX0_isCell_0 := by decide +kernel
theorem dX0_isCell_0 : decode cX0_isCell 0 = .ok (.iload_n 0, 1) := dk_26 (dk_at dksX0_isCell_0 0 rfl rfl)
theorem dX0_isCell_1 : decode cX0_isCell 1 = .ok (.iconst 0, 1) := dk_3 (dk_at dksX0_isCell_0 1 rfl rfl)
theorem dX0_isCell_2 : decode cX0_isCell 2 = .ok (.bipush 44, 2) := dk_16 44 (dk_at dksX0_isCell_0 2 rfl rfl)
theorem dX0_isCell_4 : decode cX0_isCell 4 = .ok (.invokestatic 3, 3) := dk_184 0 3 (dk_at dksX0_isCell_0 4 rfl rfl)
theorem dX0_isCell_7 : decode cX0_isCell 7 = .ok (.ireturn, 1) := dk_172 (dk_at dksX0_isCell_0 7 rfl rfl)
abbrev cX0_isPocket : ByteArray := prog_1_method_4_code
def yX0_isPocket : MethodName := ⟨RX0, "isPocket", "(I)Z"⟩
def dkwX0_isPocket_1 : List UInt8 := [167, 0, 4, 3, 172]
abbrev dktX0_isPocket_1 : List UInt8 := dkwX0_isPocket_1 ++ []
def dkwX0_isPocket_0 : List UInt8 := [26, 16, 9, 108, 60, 27, 153, 0, 8, 27, 7, 160, 0, 16, 26, 16, 9, 112, 7, 112, 154, 0, 7, 4]
abbrev dktX0_isPocket_0 : List UInt8 := dkwX0_isPocket_0 ++ dktX0_isPocket_1
theorem dksX0_isPocket_0 : cX0_isPocket.data.toList.drop 0 = dktX0_isPocket_0 := by decide +kernel
theorem dksX0_isPocket_1 : cX0_isPocket.data.toList.drop 24 = dktX0_isPocket_1 := dk_seg dksX0_isPocket_0 24 rfl rfl
theorem dX0_isPocket_0 : decode cX0_isPocket 0 = .ok (.iload_n 0, 1) := dk_26 (dk_at dksX0_isPocket_0 0 rfl rfl)
theorem dX0_isPocket_1 : decode cX0_isPocket 1 = .ok (.bipush 9, 2) := dk_16 9 (dk_at dksX0_isPocket_0 1 rfl rfl)
theorem dX0_isPocket_3 : decode cX0_isPocket 3 = .ok (.idiv, 1) := dk_108 (dk_at dksX0_isPocket_0 3 rfl rfl)
theorem dX0_isPocket_4 : decode cX0_isPocket 4 = .ok (.istore_n 1, 1) := dk_60 (dk_at dksX0_isPocket_0 4 rfl rfl)
theorem dX0_isPocket_5 : decode cX0_isPocket 5 = .ok (.iload_n 1, 1) := dk_27 (dk_at dksX0_isPocket_0 5 rfl rfl)
theorem dX0_isPocket_6 : decode cX0_isPocket 6 = .ok (.ifCond .eq 8, 3) := dk_153 0 8 (dk_at dksX0_isPocket_0 6 rfl rfl)
theorem dX0_isPocket_9 : decode cX0_isPocket 9 = .ok (.iload_n 1, 1) := dk_27 (dk_at dksX0_isPocket_0 9 rfl rfl)
theorem dX0_isPocket_10 : decode cX0_isPocket 10 = .ok (.iconst 4, 1) := dk_7 (dk_at dksX0_isPocket_0 10 rfl rfl)
theorem dX0_isPocket_11 : decode cX0_isPocket 11 = .ok (.if_icmp .ne 16, 3) := dk_160 0 16 (dk_at dksX0_isPocket_0 11 rfl rfl)
theorem dX0_isPocket_14 : decode cX0_isPocket 14 = .ok (.iload_n 0, 1) := dk_26 (dk_at dksX0_isPocket_0 14 rfl rfl)
theorem dX0_isPocket_15 : decode cX0_isPocket 15 = .ok (.bipush 9, 2) := dk_16 9 (dk_at dksX0_isPocket_0 15 rfl rfl)
theorem dX0_isPocket_17 : decode cX0_isPocket 17 = .ok (.irem, 1) := dk_112 (dk_at dksX0_isPocket_0 17 rfl rfl)
theorem dX0_isPocket_18 : decode cX0_isPocket 18 = .ok (.iconst 4, 1) := dk_7 (dk_at dksX0_isPocket_0 18 rfl rfl)
theorem dX0_isPocket_19 : decode cX0_isPocket 19 = .ok (.irem, 1) := dk_112 (dk_at dksX0_isPocket_0 19 rfl rfl)
theorem dX0_isPocket_20 : decode cX0_isPocket 20 = .ok (.ifCond .ne 7, 3) := dk_154 0 7 (dk_at dksX0_isPocket_0 20 rfl rfl)
theorem dX0_isPocket_23 : decode cX0_isPocket 23 = .ok (.iconst 1, 1) := dk_4 (dk_at dksX0_isPocket_0 23 rfl rfl)
theorem dX0_isPocket_24 : decode cX0_isPocket 24 = .ok (.goto 4, 3) := dk_167 0 4 (dk_at dksX0_isPocket_1 0 rfl rfl)
theorem dX0_isPocket_27 : decode cX0_isPocket 27 = .ok (.iconst 0, 1) := dk_3 (dk_at dksX0_isPocket_1 3 rfl rfl)
theorem dX0_isPocket_28 : decode cX0_isPocket 28 = .ok (.ireturn, 1) := dk_172 (dk_at dksX0_isPocket_1 4 rfl rfl)
abbrev cX0_score : ByteArray := prog_1_method_9_code
def yX0_score : MethodName := ⟨RX0, "score", "(II)I"⟩
def dkwX0_score_2 : List UInt8 := [181, 0, 82, 42, 180, 0, 16, 28, 181, 0, 86, 29, 172]
abbrev dktX0_score_2 : List UInt8 := dkwX0_score_2 ++ []
def dkwX0_score_1 : List UInt8 := [16, 100, 42, 180, 0, 16, 180, 0, 82, 104, 42, 180, 0, 16, 180, 0, 86, 96, 62, 42, 180, 0, 16, 27]
abbrev dktX0_score_1 : List UInt8 := dkwX0_score_1 ++ dktX0_score_2
def dkwX0_score_0 : List UInt8 := [27, 3, 16, 99, 184, 0, 3, 153, 0, 13, 28, 3, 16, 99, 184, 0, 3, 154, 0, 6, 16, 254, 172]
abbrev dktX0_score_0 : List UInt8 := dkwX0_score_0 ++ dktX0_score_1
theorem dksX0_score_0 : cX0_score.data.toList.drop 0 = dktX0_score_0 := by decide +kernel
theorem dksX0_score_1 : cX0_score.data.toList.drop 23 = dktX0_score_1 := dk_seg dksX0_score_0 23 rfl rfl
theorem dksX0_score_2 : cX0_score.data.toList.drop 47 = dktX0_score_2 := dk_seg dksX0_score_1 24 rfl rfl
theorem dX0_score_0 : decode cX0_score 0 = .ok (.iload_n 1, 1) := dk_27 (dk_at dksX0_score_0 0 rfl rfl)
theorem dX0_score_1 : decode cX0_score 1 = .ok (.iconst 0, 1) := dk_3 (dk_at dksX0_score_0 1 rfl rfl)
theorem dX0_score_2 : decode cX0_score 2 = .ok (.bipush 99, 2) := dk_16 99 (dk_at dksX0_score_0 2 rfl rfl)
theorem dX0_score_4 : decode cX0_score 4 = .ok (.invokestatic 3, 3) := dk_184 0 3 (dk_at dksX0_score_0 4 rfl rfl)
theorem dX0_score_7 : decode cX0_score 7 = .ok (.ifCond .eq 13, 3) := dk_153 0 13 (dk_at dksX0_score_0 7 rfl rfl)
theorem dX0_score_10 : decode cX0_score 10 = .ok (.iload_n 2, 1) := dk_28 (dk_at dksX0_score_0 10 rfl rfl)
theorem dX0_score_11 : decode cX0_score 11 = .ok (.iconst 0, 1) := dk_3 (dk_at dksX0_score_0 11 rfl rfl)
theorem dX0_score_12 : decode cX0_score 12 = .ok (.bipush 99, 2) := dk_16 99 (dk_at dksX0_score_0 12 rfl rfl)
theorem dX0_score_14 : decode cX0_score 14 = .ok (.invokestatic 3, 3) := dk_184 0 3 (dk_at dksX0_score_0 14 rfl rfl)
theorem dX0_score_17 : decode cX0_score 17 = .ok (.ifCond .ne 6, 3) := dk_154 0 6 (dk_at dksX0_score_0 17 rfl rfl)
theorem dX0_score_20 : decode cX0_score 20 = .ok (.bipush (-2), 2) := dk_16 254 (dk_at dksX0_score_0 20 rfl rfl)
theorem dX0_score_22 : decode cX0_score 22 = .ok (.ireturn, 1) := dk_172 (dk_at dksX0_score_0 22 rfl rfl)
theorem dX0_score_23 : decode cX0_score 23 = .ok (.bipush 100, 2) := dk_16 100 (dk_at dksX0_score_1 0 rfl rfl)
theorem dX0_score_25 : decode cX0_score 25 = .ok (.aload_n 0, 1) := dk_42 (dk_at dksX0_score_1 2 rfl rfl)
theorem dX0_score_26 : decode cX0_score 26 = .ok (.getfield 16, 3) := dk_180 0 16 (dk_at dksX0_score_1 3 rfl rfl)
theorem dX0_score_29 : decode cX0_score 29 = .ok (.getfield 82, 3) := dk_180 0 82 (dk_at dksX0_score_1 6 rfl rfl)
theorem dX0_score_32 : decode cX0_score 32 = .ok (.imul, 1) := dk_104 (dk_at dksX0_score_1 9 rfl rfl)
theorem dX0_score_33 : decode cX0_score 33 = .ok (.aload_n 0, 1) := dk_42 (dk_at dksX0_score_1 10 rfl rfl)
theorem dX0_score_34 : decode cX0_score 34 = .ok (.getfield 16, 3) := dk_180 0 16 (dk_at dksX0_score_1 11 rfl rfl)
theorem dX0_score_37 : decode cX0_score 37 = .ok (.getfield 86, 3) := dk_180 0 86 (dk_at dksX0_score_1 14 rfl rfl)
theorem dX0_score_40 : decode cX0_score 40 = .ok (.iadd, 1) := dk_96 (dk_at dksX0_score_1 17 rfl rfl)
theorem dX0_score_41 : decode cX0_score 41 = .ok (.istore_n 3, 1) := dk_62 (dk_at dksX0_score_1 18 rfl rfl)
theorem dX0_score_42 : decode cX0_score 42 = .ok (.aload_n 0, 1) := dk_42 (dk_at dksX0_score_1 19 rfl rfl)
theorem dX0_score_43 : decode cX0_score 43 = .ok (.getfield 16, 3) := dk_180 0 16 (dk_at dksX0_score_1 20 rfl rfl)
theorem dX0_score_46 : decode cX0_score 46 = .ok (.iload_n 1, 1) := dk_27 (dk_at dksX0_score_1 23 rfl rfl)
theorem dX0_score_47 : decode cX0_score 47 = .ok (.putfield 82, 3) := dk_181 0 82 (dk_at dksX0_score_2 0 rfl rfl)
theorem dX0_score_50 : decode cX0_score 50 = .ok (.aload_n 0, 1) := dk_42 (dk_at dksX0_score_2 3 rfl rfl)
theorem dX0_score_51 : decode cX0_score 51 = .ok (.getfield 16, 3) := dk_180 0 16 (dk_at dksX0_score_2 4 rfl rfl)
theorem dX0_score_54 : decode cX0_score 54 = .ok (.iload_n 2, 1) := dk_28 (dk_at dksX0_score_2 7 rfl rfl)
theorem dX0_score_55 : decode cX0_score 55 = .ok (.putfield 86, 3) := dk_181 0 86 (dk_at dksX0_score_2 8 rfl rfl)
theorem dX0_score_58 : decode cX0_score 58 = .ok (.iload_n 3, 1) := dk_29 (dk_at dksX0_score_2 11 rfl rfl)
theorem dX0_score_59 : decode cX0_score 59 = .ok (.ireturn, 1) := dk_172 (dk_at dksX0_score_2 12 rfl rfl)
abbrev cX0_say : ByteArray := prog_1_method_10_code
def yX0_say : MethodName := ⟨RX0, "say", "(I)I"⟩
def dkwX0_say_2 : List UInt8 := [42, 180, 0, 89, 172]
abbrev dktX0_say_2 : List UInt8 := dkwX0_say_2 ++ []
def dkwX0_say_1 : List UInt8 := [16, 252, 172, 42, 180, 0, 27, 42, 180, 0, 89, 27, 146, 85, 42, 89, 180, 0, 89, 4, 96, 181, 0, 89]
abbrev dktX0_say_1 : List UInt8 := dkwX0_say_1 ++ dktX0_say_2
def dkwX0_say_0 : List UInt8 := [27, 16, 33, 16, 126, 184, 0, 3, 154, 0, 6, 16, 254, 172, 42, 180, 0, 89, 16, 60, 160, 0, 6]
abbrev dktX0_say_0 : List UInt8 := dkwX0_say_0 ++ dktX0_say_1
theorem dksX0_say_0 : cX0_say.data.toList.drop 0 = dktX0_say_0 := by decide +kernel
theorem dksX0_say_1 : cX0_say.data.toList.drop 23 = dktX0_say_1 := dk_seg dksX0_say_0 23 rfl rfl
theorem dksX0_say_2 : cX0_say.data.toList.drop 47 = dktX0_say_2 := dk_seg dksX0_say_1 24 rfl rfl
theorem dX0_say_0 : decode cX0_say 0 = .ok (.iload_n 1, 1) := dk_27 (dk_at dksX0_say_0 0 rfl rfl)
theorem dX0_say_1 : decode cX0_say 1 = .ok (.bipush 33, 2) := dk_16 33 (dk_at dksX0_say_0 1 rfl rfl)
theorem dX0_say_3 : decode cX0_say 3 = .ok (.bipush 126, 2) := dk_16 126 (dk_at dksX0_say_0 3 rfl rfl)
theorem dX0_say_5 : decode cX0_say 5 = .ok (.invokestatic 3, 3) := dk_184 0 3 (dk_at dksX0_say_0 5 rfl rfl)
theorem dX0_say_8 : decode cX0_say 8 = .ok (.ifCond .ne 6, 3) := dk_154 0 6 (dk_at dksX0_say_0 8 rfl rfl)
theorem dX0_say_11 : decode cX0_say 11 = .ok (.bipush (-2), 2) := dk_16 254 (dk_at dksX0_say_0 11 rfl rfl)
theorem dX0_say_13 : decode cX0_say 13 = .ok (.ireturn, 1) := dk_172 (dk_at dksX0_say_0 13 rfl rfl)
theorem dX0_say_14 : decode cX0_say 14 = .ok (.aload_n 0, 1) := dk_42 (dk_at dksX0_say_0 14 rfl rfl)
theorem dX0_say_15 : decode cX0_say 15 = .ok (.getfield 89, 3) := dk_180 0 89 (dk_at dksX0_say_0 15 rfl rfl)
theorem dX0_say_18 : decode cX0_say 18 = .ok (.bipush 60, 2) := dk_16 60 (dk_at dksX0_say_0 18 rfl rfl)
theorem dX0_say_20 : decode cX0_say 20 = .ok (.if_icmp .ne 6, 3) := dk_160 0 6 (dk_at dksX0_say_0 20 rfl rfl)
theorem dX0_say_23 : decode cX0_say 23 = .ok (.bipush (-4), 2) := dk_16 252 (dk_at dksX0_say_1 0 rfl rfl)
theorem dX0_say_25 : decode cX0_say 25 = .ok (.ireturn, 1) := dk_172 (dk_at dksX0_say_1 2 rfl rfl)
theorem dX0_say_26 : decode cX0_say 26 = .ok (.aload_n 0, 1) := dk_42 (dk_at dksX0_say_1 3 rfl rfl)
theorem dX0_say_27 : decode cX0_say 27 = .ok (.getfield 27, 3) := dk_180 0 27 (dk_at dksX0_say_1 4 rfl rfl)
theorem dX0_say_30 : decode cX0_say 30 = .ok (.aload_n 0, 1) := dk_42 (dk_at dksX0_say_1 7 rfl rfl)
theorem dX0_say_31 : decode cX0_say 31 = .ok (.getfield 89, 3) := dk_180 0 89 (dk_at dksX0_say_1 8 rfl rfl)
theorem dX0_say_34 : decode cX0_say 34 = .ok (.iload_n 1, 1) := dk_27 (dk_at dksX0_say_1 11 rfl rfl)
theorem dX0_say_35 : decode cX0_say 35 = .ok (.i2c, 1) := dk_146 (dk_at dksX0_say_1 12 rfl rfl)
theorem dX0_say_36 : decode cX0_say 36 = .ok (.castore, 1) := dk_85 (dk_at dksX0_say_1 13 rfl rfl)
theorem dX0_say_37 : decode cX0_say 37 = .ok (.aload_n 0, 1) := dk_42 (dk_at dksX0_say_1 14 rfl rfl)
theorem dX0_say_38 : decode cX0_say 38 = .ok (.dup, 1) := dk_89 (dk_at dksX0_say_1 15 rfl rfl)
theorem dX0_say_39 : decode cX0_say 39 = .ok (.getfield 89, 3) := dk_180 0 89 (dk_at dksX0_say_1 16 rfl rfl)
theorem dX0_say_42 : decode cX0_say 42 = .ok (.iconst 1, 1) := dk_4 (dk_at dksX0_say_1 19 rfl rfl)
theorem dX0_say_43 : decode cX0_say 43 = .ok (.iadd, 1) := dk_96 (dk_at dksX0_say_1 20 rfl rfl)
theorem dX0_say_44 : decode cX0_say 44 = .ok (.putfield 89, 3) := dk_181 0 89 (dk_at dksX0_say_1 21 rfl rfl)
theorem dX0_say_47 : decode cX0_say 47 = .ok (.aload_n 0, 1) := dk_42 (dk_at dksX0_say_2 0 rfl rfl)
theorem dX0_say_48 : decode cX0_say 48 = .ok (.getfield 89, 3) := dk_180 0 89 (dk_at dksX0_say_2 1 rfl rfl)
theorem dX0_say_51 : decode cX0_say 51 = .ok (.ireturn, 1) := dk_172 (dk_at dksX0_say_2 4 rfl rfl)
abbrev cX0_wipe : ByteArray := prog_1_method_11_code
def yX0_wipe : MethodName := ⟨RX0, "wipe", "()I"⟩
def dkwX0_wipe_0 : List UInt8 := [42, 180, 0, 89, 60, 42, 3, 181, 0, 89, 27, 172]
abbrev dktX0_wipe_0 : List UInt8 := dkwX0_wipe_0 ++ []
theorem dksX0_wipe_0 : cX0_wipe.data.toList.drop 0 = dktX0_wipe_0 := by decide +kernel
theorem dX0_wipe_0 : decode cX0_wipe 0 = .ok (.aload_n 0, 1) := dk_42 (dk_at dksX0_wipe_0 0 rfl rfl)
theorem dX0_wipe_1 : decode cX0_wipe 1 = .ok (.getfield 89, 3) := dk_180 0 89 (dk_at dksX0_wipe_0 1 rfl rfl)
theorem dX0_wipe_4 : decode cX0_wipe 4 = .ok (.istore_n 1, 1) := dk_60 (dk_at dksX0_wipe_0 4 rfl rfl)
theorem dX0_wipe_5 : decode cX0_wipe 5 = .ok (.aload_n 0, 1) := dk_42 (dk_at dksX0_wipe_0 5 rfl rfl)
theorem dX0_wipe_6 : decode cX0_wipe 6 = .ok (.iconst 0, 1) := dk_3 (dk_at dksX0_wipe_0 6 rfl rfl)
theorem dX0_wipe_7 : decode cX0_wipe 7 = .ok (.putfield 89, 3) := dk_181 0 89 (dk_at dksX0_wipe_0 7 rfl rfl)
theorem dX0_wipe_10 : decode cX0_wipe 10 = .ok (.iload_n 1, 1) := dk_27 (dk_at dksX0_wipe_0 10 rfl rfl)
theorem dX0_wipe_11 : decode cX0_wipe 11 = .ok (.ireturn, 1) := dk_172 (dk_at dksX0_wipe_0 11 rfl rfl)
abbrev cX0_fault : ByteArray := prog_1_method_14_code
def yX0_fault : MethodName := ⟨RX0, "fault", "()I"⟩
theorem dX0_fault_0 : decode cX0_fault 0 = .ok (.aload_n 0, 1) := by decide +kernel
theorem dX0_fault_1 : decode cX0_fault 1 = .ok (.invokevirtual 96, 3) := by decide +kernel
theorem dX0_fault_4 : decode cX0_fault 4 = .ok (.ireturn, 1) := by decide +kernel
abbrev cX0_faultOf : ByteArray := prog_1_method_13_code
def yX0_faultOf : MethodName := ⟨RX0, "faultOf", "()I"⟩
def dkwX0_faultOf_2 : List UInt8 := [172]
abbrev dktX0_faultOf_2 : List UInt8 := dkwX0_faultOf_2 ++ []
def dkwX0_faultOf_1 : List UInt8 := [156, 0, 5, 28, 172, 132, 2, 1, 167, 255, 228, 27, 154, 0, 8, 16, 250, 167, 0, 7, 42, 180, 0, 89]
abbrev dktX0_faultOf_1 : List UInt8 := dkwX0_faultOf_1 ++ dktX0_faultOf_2
def dkwX0_faultOf_0 : List UInt8 := [3, 60, 3, 61, 28, 42, 180, 0, 89, 162, 0, 26, 27, 42, 180, 0, 27, 28, 52, 184, 0, 92, 60, 27]
abbrev dktX0_faultOf_0 : List UInt8 := dkwX0_faultOf_0 ++ dktX0_faultOf_1
theorem dksX0_faultOf_0 : cX0_faultOf.data.toList.drop 0 = dktX0_faultOf_0 := by decide +kernel
theorem dksX0_faultOf_1 : cX0_faultOf.data.toList.drop 24 = dktX0_faultOf_1 := dk_seg dksX0_faultOf_0 24 rfl rfl
theorem dksX0_faultOf_2 : cX0_faultOf.data.toList.drop 48 = dktX0_faultOf_2 := dk_seg dksX0_faultOf_1 24 rfl rfl
theorem dX0_faultOf_0 : decode cX0_faultOf 0 = .ok (.iconst 0, 1) := dk_3 (dk_at dksX0_faultOf_0 0 rfl rfl)
theorem dX0_faultOf_1 : decode cX0_faultOf 1 = .ok (.istore_n 1, 1) := dk_60 (dk_at dksX0_faultOf_0 1 rfl rfl)
theorem dX0_faultOf_2 : decode cX0_faultOf 2 = .ok (.iconst 0, 1) := dk_3 (dk_at dksX0_faultOf_0 2 rfl rfl)
theorem dX0_faultOf_3 : decode cX0_faultOf 3 = .ok (.istore_n 2, 1) := dk_61 (dk_at dksX0_faultOf_0 3 rfl rfl)
theorem dX0_faultOf_4 : decode cX0_faultOf 4 = .ok (.iload_n 2, 1) := dk_28 (dk_at dksX0_faultOf_0 4 rfl rfl)
theorem dX0_faultOf_5 : decode cX0_faultOf 5 = .ok (.aload_n 0, 1) := dk_42 (dk_at dksX0_faultOf_0 5 rfl rfl)
theorem dX0_faultOf_6 : decode cX0_faultOf 6 = .ok (.getfield 89, 3) := dk_180 0 89 (dk_at dksX0_faultOf_0 6 rfl rfl)
theorem dX0_faultOf_9 : decode cX0_faultOf 9 = .ok (.if_icmp .ge 26, 3) := dk_162 0 26 (dk_at dksX0_faultOf_0 9 rfl rfl)
theorem dX0_faultOf_12 : decode cX0_faultOf 12 = .ok (.iload_n 1, 1) := dk_27 (dk_at dksX0_faultOf_0 12 rfl rfl)
theorem dX0_faultOf_13 : decode cX0_faultOf 13 = .ok (.aload_n 0, 1) := dk_42 (dk_at dksX0_faultOf_0 13 rfl rfl)
theorem dX0_faultOf_14 : decode cX0_faultOf 14 = .ok (.getfield 27, 3) := dk_180 0 27 (dk_at dksX0_faultOf_0 14 rfl rfl)
theorem dX0_faultOf_17 : decode cX0_faultOf 17 = .ok (.iload_n 2, 1) := dk_28 (dk_at dksX0_faultOf_0 17 rfl rfl)
theorem dX0_faultOf_18 : decode cX0_faultOf 18 = .ok (.caload, 1) := dk_52 (dk_at dksX0_faultOf_0 18 rfl rfl)
theorem dX0_faultOf_19 : decode cX0_faultOf 19 = .ok (.invokestatic 92, 3) := dk_184 0 92 (dk_at dksX0_faultOf_0 19 rfl rfl)
theorem dX0_faultOf_22 : decode cX0_faultOf 22 = .ok (.istore_n 1, 1) := dk_60 (dk_at dksX0_faultOf_0 22 rfl rfl)
theorem dX0_faultOf_23 : decode cX0_faultOf 23 = .ok (.iload_n 1, 1) := dk_27 (dk_at dksX0_faultOf_0 23 rfl rfl)
theorem dX0_faultOf_24 : decode cX0_faultOf 24 = .ok (.ifCond .ge 5, 3) := dk_156 0 5 (dk_at dksX0_faultOf_1 0 rfl rfl)
theorem dX0_faultOf_27 : decode cX0_faultOf 27 = .ok (.iload_n 2, 1) := dk_28 (dk_at dksX0_faultOf_1 3 rfl rfl)
theorem dX0_faultOf_28 : decode cX0_faultOf 28 = .ok (.ireturn, 1) := dk_172 (dk_at dksX0_faultOf_1 4 rfl rfl)
theorem dX0_faultOf_29 : decode cX0_faultOf 29 = .ok (.iinc 2 1, 3) := dk_132 2 1 (dk_at dksX0_faultOf_1 5 rfl rfl)
theorem dX0_faultOf_32 : decode cX0_faultOf 32 = .ok (.goto (-28), 3) := dk_167 255 228 (dk_at dksX0_faultOf_1 8 rfl rfl)
theorem dX0_faultOf_35 : decode cX0_faultOf 35 = .ok (.iload_n 1, 1) := dk_27 (dk_at dksX0_faultOf_1 11 rfl rfl)
theorem dX0_faultOf_36 : decode cX0_faultOf 36 = .ok (.ifCond .ne 8, 3) := dk_154 0 8 (dk_at dksX0_faultOf_1 12 rfl rfl)
theorem dX0_faultOf_39 : decode cX0_faultOf 39 = .ok (.bipush (-6), 2) := dk_16 250 (dk_at dksX0_faultOf_1 15 rfl rfl)
theorem dX0_faultOf_41 : decode cX0_faultOf 41 = .ok (.goto 7, 3) := dk_167 0 7 (dk_at dksX0_faultOf_1 17 rfl rfl)
theorem dX0_faultOf_44 : decode cX0_faultOf 44 = .ok (.aload_n 0, 1) := dk_42 (dk_at dksX0_faultOf_1 20 rfl rfl)
theorem dX0_faultOf_45 : decode cX0_faultOf 45 = .ok (.getfield 89, 3) := dk_180 0 89 (dk_at dksX0_faultOf_1 21 rfl rfl)
theorem dX0_faultOf_48 : decode cX0_faultOf 48 = .ok (.ireturn, 1) := dk_172 (dk_at dksX0_faultOf_2 0 rfl rfl)
abbrev cX0_step : ByteArray := prog_1_method_12_code
def yX0_step : MethodName := ⟨RX0, "step", "(IC)I"⟩
def dkwX0_step_5 : List UInt8 := [153, 0, 7, 3, 167, 0, 5, 16, 250, 172]
abbrev dktX0_step_5 : List UInt8 := dkwX0_step_5 ++ []
def dkwX0_step_4 : List UInt8 := [167, 0, 15, 27, 16, 94, 160, 0, 7, 3, 167, 0, 5, 16, 250, 172, 27, 16, 49, 16, 57, 184, 0, 3]
abbrev dktX0_step_4 : List UInt8 := dkwX0_step_4 ++ dktX0_step_5
def dkwX0_step_3 : List UInt8 := [160, 0, 7, 3, 167, 0, 5, 16, 250, 172, 27, 16, 48, 16, 55, 184, 0, 3, 153, 0, 7, 5]
abbrev dktX0_step_3 : List UInt8 := dkwX0_step_3 ++ dktX0_step_4
def dkwX0_step_2 : List UInt8 := [27, 16, 65, 100, 184, 0, 65, 153, 0, 7, 4, 167, 0, 21, 27, 16, 126, 159, 0, 9, 27, 16, 46]
abbrev dktX0_step_2 : List UInt8 := dkwX0_step_2 ++ dktX0_step_3
def dkwX0_step_1 : List UInt8 := [171, 0, 0, 0, 0, 0, 88, 0, 0, 0, 2, 0, 0, 0, 0, 0, 0, 0, 27, 0, 0, 0, 1, 0, 0, 0, 60]
abbrev dktX0_step_1 : List UInt8 := dkwX0_step_1 ++ dktX0_step_2
def dkwX0_step_0 : List UInt8 := [26]
abbrev dktX0_step_0 : List UInt8 := dkwX0_step_0 ++ dktX0_step_1
theorem dksX0_step_0 : cX0_step.data.toList.drop 0 = dktX0_step_0 := by decide +kernel
theorem dksX0_step_1 : cX0_step.data.toList.drop 1 = dktX0_step_1 := dk_seg dksX0_step_0 1 rfl rfl
theorem dksX0_step_2 : cX0_step.data.toList.drop 28 = dktX0_step_2 := dk_seg dksX0_step_1 27 rfl rfl
theorem dksX0_step_3 : cX0_step.data.toList.drop 51 = dktX0_step_3 := dk_seg dksX0_step_2 23 rfl rfl
theorem dksX0_step_4 : cX0_step.data.toList.drop 73 = dktX0_step_4 := dk_seg dksX0_step_3 22 rfl rfl
theorem dksX0_step_5 : cX0_step.data.toList.drop 97 = dktX0_step_5 := dk_seg dksX0_step_4 24 rfl rfl
theorem dX0_step_0 : decode cX0_step 0 = .ok (.iload_n 0, 1) := dk_26 (dk_at dksX0_step_0 0 rfl rfl)
theorem dX0_step_1 : decode cX0_step 1 = .ok (.lookupswitch 88 #[(0, 27), (1, 60)], 27) := by decide +kernel
theorem dX0_step_28 : decode cX0_step 28 = .ok (.iload_n 1, 1) := dk_27 (dk_at dksX0_step_2 0 rfl rfl)
theorem dX0_step_29 : decode cX0_step 29 = .ok (.bipush 65, 2) := dk_16 65 (dk_at dksX0_step_2 1 rfl rfl)
theorem dX0_step_31 : decode cX0_step 31 = .ok (.isub, 1) := dk_100 (dk_at dksX0_step_2 3 rfl rfl)
theorem dX0_step_32 : decode cX0_step 32 = .ok (.invokestatic 65, 3) := dk_184 0 65 (dk_at dksX0_step_2 4 rfl rfl)
theorem dX0_step_35 : decode cX0_step 35 = .ok (.ifCond .eq 7, 3) := dk_153 0 7 (dk_at dksX0_step_2 7 rfl rfl)
theorem dX0_step_38 : decode cX0_step 38 = .ok (.iconst 1, 1) := dk_4 (dk_at dksX0_step_2 10 rfl rfl)
theorem dX0_step_39 : decode cX0_step 39 = .ok (.goto 21, 3) := dk_167 0 21 (dk_at dksX0_step_2 11 rfl rfl)
theorem dX0_step_42 : decode cX0_step 42 = .ok (.iload_n 1, 1) := dk_27 (dk_at dksX0_step_2 14 rfl rfl)
theorem dX0_step_43 : decode cX0_step 43 = .ok (.bipush 126, 2) := dk_16 126 (dk_at dksX0_step_2 15 rfl rfl)
theorem dX0_step_45 : decode cX0_step 45 = .ok (.if_icmp .eq 9, 3) := dk_159 0 9 (dk_at dksX0_step_2 17 rfl rfl)
theorem dX0_step_48 : decode cX0_step 48 = .ok (.iload_n 1, 1) := dk_27 (dk_at dksX0_step_2 20 rfl rfl)
theorem dX0_step_49 : decode cX0_step 49 = .ok (.bipush 46, 2) := dk_16 46 (dk_at dksX0_step_2 21 rfl rfl)
theorem dX0_step_51 : decode cX0_step 51 = .ok (.if_icmp .ne 7, 3) := dk_160 0 7 (dk_at dksX0_step_3 0 rfl rfl)
theorem dX0_step_54 : decode cX0_step 54 = .ok (.iconst 0, 1) := dk_3 (dk_at dksX0_step_3 3 rfl rfl)
theorem dX0_step_55 : decode cX0_step 55 = .ok (.goto 5, 3) := dk_167 0 5 (dk_at dksX0_step_3 4 rfl rfl)
theorem dX0_step_58 : decode cX0_step 58 = .ok (.bipush (-6), 2) := dk_16 250 (dk_at dksX0_step_3 7 rfl rfl)
theorem dX0_step_60 : decode cX0_step 60 = .ok (.ireturn, 1) := dk_172 (dk_at dksX0_step_3 9 rfl rfl)
theorem dX0_step_61 : decode cX0_step 61 = .ok (.iload_n 1, 1) := dk_27 (dk_at dksX0_step_3 10 rfl rfl)
theorem dX0_step_62 : decode cX0_step 62 = .ok (.bipush 48, 2) := dk_16 48 (dk_at dksX0_step_3 11 rfl rfl)
theorem dX0_step_64 : decode cX0_step 64 = .ok (.bipush 55, 2) := dk_16 55 (dk_at dksX0_step_3 13 rfl rfl)
theorem dX0_step_66 : decode cX0_step 66 = .ok (.invokestatic 3, 3) := dk_184 0 3 (dk_at dksX0_step_3 15 rfl rfl)
theorem dX0_step_69 : decode cX0_step 69 = .ok (.ifCond .eq 7, 3) := dk_153 0 7 (dk_at dksX0_step_3 18 rfl rfl)
theorem dX0_step_72 : decode cX0_step 72 = .ok (.iconst 2, 1) := dk_5 (dk_at dksX0_step_3 21 rfl rfl)
theorem dX0_step_73 : decode cX0_step 73 = .ok (.goto 15, 3) := dk_167 0 15 (dk_at dksX0_step_4 0 rfl rfl)
theorem dX0_step_76 : decode cX0_step 76 = .ok (.iload_n 1, 1) := dk_27 (dk_at dksX0_step_4 3 rfl rfl)
theorem dX0_step_77 : decode cX0_step 77 = .ok (.bipush 94, 2) := dk_16 94 (dk_at dksX0_step_4 4 rfl rfl)
theorem dX0_step_79 : decode cX0_step 79 = .ok (.if_icmp .ne 7, 3) := dk_160 0 7 (dk_at dksX0_step_4 6 rfl rfl)
theorem dX0_step_82 : decode cX0_step 82 = .ok (.iconst 0, 1) := dk_3 (dk_at dksX0_step_4 9 rfl rfl)
theorem dX0_step_83 : decode cX0_step 83 = .ok (.goto 5, 3) := dk_167 0 5 (dk_at dksX0_step_4 10 rfl rfl)
theorem dX0_step_86 : decode cX0_step 86 = .ok (.bipush (-6), 2) := dk_16 250 (dk_at dksX0_step_4 13 rfl rfl)
theorem dX0_step_88 : decode cX0_step 88 = .ok (.ireturn, 1) := dk_172 (dk_at dksX0_step_4 15 rfl rfl)
theorem dX0_step_89 : decode cX0_step 89 = .ok (.iload_n 1, 1) := dk_27 (dk_at dksX0_step_4 16 rfl rfl)
theorem dX0_step_90 : decode cX0_step 90 = .ok (.bipush 49, 2) := dk_16 49 (dk_at dksX0_step_4 17 rfl rfl)
theorem dX0_step_92 : decode cX0_step 92 = .ok (.bipush 57, 2) := dk_16 57 (dk_at dksX0_step_4 19 rfl rfl)
theorem dX0_step_94 : decode cX0_step 94 = .ok (.invokestatic 3, 3) := dk_184 0 3 (dk_at dksX0_step_4 21 rfl rfl)
theorem dX0_step_97 : decode cX0_step 97 = .ok (.ifCond .eq 7, 3) := dk_153 0 7 (dk_at dksX0_step_5 0 rfl rfl)
theorem dX0_step_100 : decode cX0_step 100 = .ok (.iconst 0, 1) := dk_3 (dk_at dksX0_step_5 3 rfl rfl)
theorem dX0_step_101 : decode cX0_step 101 = .ok (.goto 5, 3) := dk_167 0 5 (dk_at dksX0_step_5 4 rfl rfl)
theorem dX0_step_104 : decode cX0_step 104 = .ok (.bipush (-6), 2) := dk_16 250 (dk_at dksX0_step_5 7 rfl rfl)
theorem dX0_step_106 : decode cX0_step 106 = .ok (.ireturn, 1) := dk_172 (dk_at dksX0_step_5 9 rfl rfl)
abbrev cX0_judge : ByteArray := prog_1_method_17_code
def yX0_judge : MethodName := ⟨RX0, "judge", "(I)I"⟩
def dkwX0_judge_2 : List UInt8 := [180, 0, 100, 172, 28, 155, 0, 8, 16, 253, 167, 0, 10, 42, 180, 0, 20, 180, 0, 132, 172]
abbrev dktX0_judge_2 : List UInt8 := dkwX0_judge_2 ++ []
def dkwX0_judge_1 : List UInt8 := [182, 0, 129, 61, 27, 5, 162, 0, 20, 28, 155, 0, 7, 27, 154, 0, 7, 28, 167, 0, 7, 42]
abbrev dktX0_judge_1 : List UInt8 := dkwX0_judge_1 ++ dktX0_judge_2
def dkwX0_judge_0 : List UInt8 := [27, 3, 5, 184, 0, 3, 154, 0, 6, 16, 254, 172, 42, 182, 0, 96, 155, 0, 6, 16, 251, 172, 42]
abbrev dktX0_judge_0 : List UInt8 := dkwX0_judge_0 ++ dktX0_judge_1
theorem dksX0_judge_0 : cX0_judge.data.toList.drop 0 = dktX0_judge_0 := by decide +kernel
theorem dksX0_judge_1 : cX0_judge.data.toList.drop 23 = dktX0_judge_1 := dk_seg dksX0_judge_0 23 rfl rfl
theorem dksX0_judge_2 : cX0_judge.data.toList.drop 45 = dktX0_judge_2 := dk_seg dksX0_judge_1 22 rfl rfl
theorem dX0_judge_0 : decode cX0_judge 0 = .ok (.iload_n 1, 1) := dk_27 (dk_at dksX0_judge_0 0 rfl rfl)
theorem dX0_judge_1 : decode cX0_judge 1 = .ok (.iconst 0, 1) := dk_3 (dk_at dksX0_judge_0 1 rfl rfl)
theorem dX0_judge_2 : decode cX0_judge 2 = .ok (.iconst 2, 1) := dk_5 (dk_at dksX0_judge_0 2 rfl rfl)
theorem dX0_judge_3 : decode cX0_judge 3 = .ok (.invokestatic 3, 3) := dk_184 0 3 (dk_at dksX0_judge_0 3 rfl rfl)
theorem dX0_judge_6 : decode cX0_judge 6 = .ok (.ifCond .ne 6, 3) := dk_154 0 6 (dk_at dksX0_judge_0 6 rfl rfl)
theorem dX0_judge_9 : decode cX0_judge 9 = .ok (.bipush (-2), 2) := dk_16 254 (dk_at dksX0_judge_0 9 rfl rfl)
theorem dX0_judge_11 : decode cX0_judge 11 = .ok (.ireturn, 1) := dk_172 (dk_at dksX0_judge_0 11 rfl rfl)
theorem dX0_judge_12 : decode cX0_judge 12 = .ok (.aload_n 0, 1) := dk_42 (dk_at dksX0_judge_0 12 rfl rfl)
theorem dX0_judge_13 : decode cX0_judge 13 = .ok (.invokevirtual 96, 3) := dk_182 0 96 (dk_at dksX0_judge_0 13 rfl rfl)
theorem dX0_judge_16 : decode cX0_judge 16 = .ok (.ifCond .lt 6, 3) := dk_155 0 6 (dk_at dksX0_judge_0 16 rfl rfl)
theorem dX0_judge_19 : decode cX0_judge 19 = .ok (.bipush (-5), 2) := dk_16 251 (dk_at dksX0_judge_0 19 rfl rfl)
theorem dX0_judge_21 : decode cX0_judge 21 = .ok (.ireturn, 1) := dk_172 (dk_at dksX0_judge_0 21 rfl rfl)
theorem dX0_judge_22 : decode cX0_judge 22 = .ok (.aload_n 0, 1) := dk_42 (dk_at dksX0_judge_0 22 rfl rfl)
theorem dX0_judge_23 : decode cX0_judge 23 = .ok (.invokevirtual 129, 3) := dk_182 0 129 (dk_at dksX0_judge_1 0 rfl rfl)
theorem dX0_judge_26 : decode cX0_judge 26 = .ok (.istore_n 2, 1) := dk_61 (dk_at dksX0_judge_1 3 rfl rfl)
theorem dX0_judge_27 : decode cX0_judge 27 = .ok (.iload_n 1, 1) := dk_27 (dk_at dksX0_judge_1 4 rfl rfl)
theorem dX0_judge_28 : decode cX0_judge 28 = .ok (.iconst 2, 1) := dk_5 (dk_at dksX0_judge_1 5 rfl rfl)
theorem dX0_judge_29 : decode cX0_judge 29 = .ok (.if_icmp .ge 20, 3) := dk_162 0 20 (dk_at dksX0_judge_1 6 rfl rfl)
theorem dX0_judge_32 : decode cX0_judge 32 = .ok (.iload_n 2, 1) := dk_28 (dk_at dksX0_judge_1 9 rfl rfl)
theorem dX0_judge_33 : decode cX0_judge 33 = .ok (.ifCond .lt 7, 3) := dk_155 0 7 (dk_at dksX0_judge_1 10 rfl rfl)
theorem dX0_judge_36 : decode cX0_judge 36 = .ok (.iload_n 1, 1) := dk_27 (dk_at dksX0_judge_1 13 rfl rfl)
theorem dX0_judge_37 : decode cX0_judge 37 = .ok (.ifCond .ne 7, 3) := dk_154 0 7 (dk_at dksX0_judge_1 14 rfl rfl)
theorem dX0_judge_40 : decode cX0_judge 40 = .ok (.iload_n 2, 1) := dk_28 (dk_at dksX0_judge_1 17 rfl rfl)
theorem dX0_judge_41 : decode cX0_judge 41 = .ok (.goto 7, 3) := dk_167 0 7 (dk_at dksX0_judge_1 18 rfl rfl)
theorem dX0_judge_44 : decode cX0_judge 44 = .ok (.aload_n 0, 1) := dk_42 (dk_at dksX0_judge_1 21 rfl rfl)
theorem dX0_judge_45 : decode cX0_judge 45 = .ok (.getfield 100, 3) := dk_180 0 100 (dk_at dksX0_judge_2 0 rfl rfl)
theorem dX0_judge_48 : decode cX0_judge 48 = .ok (.ireturn, 1) := dk_172 (dk_at dksX0_judge_2 3 rfl rfl)
theorem dX0_judge_49 : decode cX0_judge 49 = .ok (.iload_n 2, 1) := dk_28 (dk_at dksX0_judge_2 4 rfl rfl)
theorem dX0_judge_50 : decode cX0_judge 50 = .ok (.ifCond .lt 8, 3) := dk_155 0 8 (dk_at dksX0_judge_2 5 rfl rfl)
theorem dX0_judge_53 : decode cX0_judge 53 = .ok (.bipush (-3), 2) := dk_16 253 (dk_at dksX0_judge_2 8 rfl rfl)
theorem dX0_judge_55 : decode cX0_judge 55 = .ok (.goto 10, 3) := dk_167 0 10 (dk_at dksX0_judge_2 10 rfl rfl)
theorem dX0_judge_58 : decode cX0_judge 58 = .ok (.aload_n 0, 1) := dk_42 (dk_at dksX0_judge_2 13 rfl rfl)
theorem dX0_judge_59 : decode cX0_judge 59 = .ok (.getfield 20, 3) := dk_180 0 20 (dk_at dksX0_judge_2 14 rfl rfl)
theorem dX0_judge_62 : decode cX0_judge 62 = .ok (.getfield 132, 3) := dk_180 0 132 (dk_at dksX0_judge_2 17 rfl rfl)
theorem dX0_judge_65 : decode cX0_judge 65 = .ok (.ireturn, 1) := dk_172 (dk_at dksX0_judge_2 20 rfl rfl)
abbrev cX0_goCrises : ByteArray := prog_1_method_16_code
def yX0_goCrises : MethodName := ⟨RX0, "goCrises", "()I"⟩
def dkwX0_goCrises_4 : List UInt8 := [180, 0, 120, 4, 96, 181, 0, 120, 167, 255, 179, 16, 250, 172]
abbrev dktX0_goCrises_4 : List UInt8 := dkwX0_goCrises_4 ++ []
def dkwX0_goCrises_3 : List UInt8 := [180, 0, 123, 156, 0, 10, 42, 180, 0, 120, 167, 0, 7, 42, 180, 0, 123, 181, 0, 123, 42, 89]
abbrev dktX0_goCrises_3 : List UInt8 := dkwX0_goCrises_3 ++ dktX0_goCrises_4
def dkwX0_goCrises_2 : List UInt8 := [180, 0, 100, 158, 0, 8, 42, 180, 0, 120, 172, 42, 42, 180, 0, 20, 180, 0, 86, 28, 164, 0, 17, 42]
abbrev dktX0_goCrises_2 : List UInt8 := dkwX0_goCrises_2 ++ dktX0_goCrises_3
def dkwX0_goCrises_1 : List UInt8 := [27, 42, 180, 0, 89, 162, 0, 75, 42, 180, 0, 20, 180, 0, 86, 61, 42, 27, 182, 0, 126, 60, 42]
abbrev dktX0_goCrises_1 : List UInt8 := dkwX0_goCrises_1 ++ dktX0_goCrises_2
def dkwX0_goCrises_0 : List UInt8 := [42, 180, 0, 20, 42, 180, 0, 16, 182, 0, 116, 42, 3, 181, 0, 120, 42, 16, 250, 181, 0, 123, 3, 60]
abbrev dktX0_goCrises_0 : List UInt8 := dkwX0_goCrises_0 ++ dktX0_goCrises_1
theorem dksX0_goCrises_0 : cX0_goCrises.data.toList.drop 0 = dktX0_goCrises_0 := by decide +kernel
theorem dksX0_goCrises_1 : cX0_goCrises.data.toList.drop 24 = dktX0_goCrises_1 := dk_seg dksX0_goCrises_0 24 rfl rfl
theorem dksX0_goCrises_2 : cX0_goCrises.data.toList.drop 47 = dktX0_goCrises_2 := dk_seg dksX0_goCrises_1 23 rfl rfl
theorem dksX0_goCrises_3 : cX0_goCrises.data.toList.drop 71 = dktX0_goCrises_3 := dk_seg dksX0_goCrises_2 24 rfl rfl
theorem dksX0_goCrises_4 : cX0_goCrises.data.toList.drop 93 = dktX0_goCrises_4 := dk_seg dksX0_goCrises_3 22 rfl rfl
theorem dX0_goCrises_0 : decode cX0_goCrises 0 = .ok (.aload_n 0, 1) := dk_42 (dk_at dksX0_goCrises_0 0 rfl rfl)
theorem dX0_goCrises_1 : decode cX0_goCrises 1 = .ok (.getfield 20, 3) := dk_180 0 20 (dk_at dksX0_goCrises_0 1 rfl rfl)
theorem dX0_goCrises_4 : decode cX0_goCrises 4 = .ok (.aload_n 0, 1) := dk_42 (dk_at dksX0_goCrises_0 4 rfl rfl)
theorem dX0_goCrises_5 : decode cX0_goCrises 5 = .ok (.getfield 16, 3) := dk_180 0 16 (dk_at dksX0_goCrises_0 5 rfl rfl)
theorem dX0_goCrises_8 : decode cX0_goCrises 8 = .ok (.invokevirtual 116, 3) := dk_182 0 116 (dk_at dksX0_goCrises_0 8 rfl rfl)
theorem dX0_goCrises_11 : decode cX0_goCrises 11 = .ok (.aload_n 0, 1) := dk_42 (dk_at dksX0_goCrises_0 11 rfl rfl)
theorem dX0_goCrises_12 : decode cX0_goCrises 12 = .ok (.iconst 0, 1) := dk_3 (dk_at dksX0_goCrises_0 12 rfl rfl)
theorem dX0_goCrises_13 : decode cX0_goCrises 13 = .ok (.putfield 120, 3) := dk_181 0 120 (dk_at dksX0_goCrises_0 13 rfl rfl)
theorem dX0_goCrises_16 : decode cX0_goCrises 16 = .ok (.aload_n 0, 1) := dk_42 (dk_at dksX0_goCrises_0 16 rfl rfl)
theorem dX0_goCrises_17 : decode cX0_goCrises 17 = .ok (.bipush (-6), 2) := dk_16 250 (dk_at dksX0_goCrises_0 17 rfl rfl)
theorem dX0_goCrises_19 : decode cX0_goCrises 19 = .ok (.putfield 123, 3) := dk_181 0 123 (dk_at dksX0_goCrises_0 19 rfl rfl)
theorem dX0_goCrises_22 : decode cX0_goCrises 22 = .ok (.iconst 0, 1) := dk_3 (dk_at dksX0_goCrises_0 22 rfl rfl)
theorem dX0_goCrises_23 : decode cX0_goCrises 23 = .ok (.istore_n 1, 1) := dk_60 (dk_at dksX0_goCrises_0 23 rfl rfl)
theorem dX0_goCrises_24 : decode cX0_goCrises 24 = .ok (.iload_n 1, 1) := dk_27 (dk_at dksX0_goCrises_1 0 rfl rfl)
theorem dX0_goCrises_25 : decode cX0_goCrises 25 = .ok (.aload_n 0, 1) := dk_42 (dk_at dksX0_goCrises_1 1 rfl rfl)
theorem dX0_goCrises_26 : decode cX0_goCrises 26 = .ok (.getfield 89, 3) := dk_180 0 89 (dk_at dksX0_goCrises_1 2 rfl rfl)
theorem dX0_goCrises_29 : decode cX0_goCrises 29 = .ok (.if_icmp .ge 75, 3) := dk_162 0 75 (dk_at dksX0_goCrises_1 5 rfl rfl)
theorem dX0_goCrises_32 : decode cX0_goCrises 32 = .ok (.aload_n 0, 1) := dk_42 (dk_at dksX0_goCrises_1 8 rfl rfl)
theorem dX0_goCrises_33 : decode cX0_goCrises 33 = .ok (.getfield 20, 3) := dk_180 0 20 (dk_at dksX0_goCrises_1 9 rfl rfl)
theorem dX0_goCrises_36 : decode cX0_goCrises 36 = .ok (.getfield 86, 3) := dk_180 0 86 (dk_at dksX0_goCrises_1 12 rfl rfl)
theorem dX0_goCrises_39 : decode cX0_goCrises 39 = .ok (.istore_n 2, 1) := dk_61 (dk_at dksX0_goCrises_1 15 rfl rfl)
theorem dX0_goCrises_40 : decode cX0_goCrises 40 = .ok (.aload_n 0, 1) := dk_42 (dk_at dksX0_goCrises_1 16 rfl rfl)
theorem dX0_goCrises_41 : decode cX0_goCrises 41 = .ok (.iload_n 1, 1) := dk_27 (dk_at dksX0_goCrises_1 17 rfl rfl)
theorem dX0_goCrises_42 : decode cX0_goCrises 42 = .ok (.invokevirtual 126, 3) := dk_182 0 126 (dk_at dksX0_goCrises_1 18 rfl rfl)
theorem dX0_goCrises_45 : decode cX0_goCrises 45 = .ok (.istore_n 1, 1) := dk_60 (dk_at dksX0_goCrises_1 21 rfl rfl)
theorem dX0_goCrises_46 : decode cX0_goCrises 46 = .ok (.aload_n 0, 1) := dk_42 (dk_at dksX0_goCrises_1 22 rfl rfl)
theorem dX0_goCrises_47 : decode cX0_goCrises 47 = .ok (.getfield 100, 3) := dk_180 0 100 (dk_at dksX0_goCrises_2 0 rfl rfl)
theorem dX0_goCrises_50 : decode cX0_goCrises 50 = .ok (.ifCond .le 8, 3) := dk_158 0 8 (dk_at dksX0_goCrises_2 3 rfl rfl)
theorem dX0_goCrises_53 : decode cX0_goCrises 53 = .ok (.aload_n 0, 1) := dk_42 (dk_at dksX0_goCrises_2 6 rfl rfl)
theorem dX0_goCrises_54 : decode cX0_goCrises 54 = .ok (.getfield 120, 3) := dk_180 0 120 (dk_at dksX0_goCrises_2 7 rfl rfl)
theorem dX0_goCrises_57 : decode cX0_goCrises 57 = .ok (.ireturn, 1) := dk_172 (dk_at dksX0_goCrises_2 10 rfl rfl)
theorem dX0_goCrises_58 : decode cX0_goCrises 58 = .ok (.aload_n 0, 1) := dk_42 (dk_at dksX0_goCrises_2 11 rfl rfl)
theorem dX0_goCrises_59 : decode cX0_goCrises 59 = .ok (.aload_n 0, 1) := dk_42 (dk_at dksX0_goCrises_2 12 rfl rfl)
theorem dX0_goCrises_60 : decode cX0_goCrises 60 = .ok (.getfield 20, 3) := dk_180 0 20 (dk_at dksX0_goCrises_2 13 rfl rfl)
theorem dX0_goCrises_63 : decode cX0_goCrises 63 = .ok (.getfield 86, 3) := dk_180 0 86 (dk_at dksX0_goCrises_2 16 rfl rfl)
theorem dX0_goCrises_66 : decode cX0_goCrises 66 = .ok (.iload_n 2, 1) := dk_28 (dk_at dksX0_goCrises_2 19 rfl rfl)
theorem dX0_goCrises_67 : decode cX0_goCrises 67 = .ok (.if_icmp .le 17, 3) := dk_164 0 17 (dk_at dksX0_goCrises_2 20 rfl rfl)
theorem dX0_goCrises_70 : decode cX0_goCrises 70 = .ok (.aload_n 0, 1) := dk_42 (dk_at dksX0_goCrises_2 23 rfl rfl)
theorem dX0_goCrises_71 : decode cX0_goCrises 71 = .ok (.getfield 123, 3) := dk_180 0 123 (dk_at dksX0_goCrises_3 0 rfl rfl)
theorem dX0_goCrises_74 : decode cX0_goCrises 74 = .ok (.ifCond .ge 10, 3) := dk_156 0 10 (dk_at dksX0_goCrises_3 3 rfl rfl)
theorem dX0_goCrises_77 : decode cX0_goCrises 77 = .ok (.aload_n 0, 1) := dk_42 (dk_at dksX0_goCrises_3 6 rfl rfl)
theorem dX0_goCrises_78 : decode cX0_goCrises 78 = .ok (.getfield 120, 3) := dk_180 0 120 (dk_at dksX0_goCrises_3 7 rfl rfl)
theorem dX0_goCrises_81 : decode cX0_goCrises 81 = .ok (.goto 7, 3) := dk_167 0 7 (dk_at dksX0_goCrises_3 10 rfl rfl)
theorem dX0_goCrises_84 : decode cX0_goCrises 84 = .ok (.aload_n 0, 1) := dk_42 (dk_at dksX0_goCrises_3 13 rfl rfl)
theorem dX0_goCrises_85 : decode cX0_goCrises 85 = .ok (.getfield 123, 3) := dk_180 0 123 (dk_at dksX0_goCrises_3 14 rfl rfl)
theorem dX0_goCrises_88 : decode cX0_goCrises 88 = .ok (.putfield 123, 3) := dk_181 0 123 (dk_at dksX0_goCrises_3 17 rfl rfl)
theorem dX0_goCrises_91 : decode cX0_goCrises 91 = .ok (.aload_n 0, 1) := dk_42 (dk_at dksX0_goCrises_3 20 rfl rfl)
theorem dX0_goCrises_92 : decode cX0_goCrises 92 = .ok (.dup, 1) := dk_89 (dk_at dksX0_goCrises_3 21 rfl rfl)
theorem dX0_goCrises_93 : decode cX0_goCrises 93 = .ok (.getfield 120, 3) := dk_180 0 120 (dk_at dksX0_goCrises_4 0 rfl rfl)
theorem dX0_goCrises_96 : decode cX0_goCrises 96 = .ok (.iconst 1, 1) := dk_4 (dk_at dksX0_goCrises_4 3 rfl rfl)
theorem dX0_goCrises_97 : decode cX0_goCrises 97 = .ok (.iadd, 1) := dk_96 (dk_at dksX0_goCrises_4 4 rfl rfl)
theorem dX0_goCrises_98 : decode cX0_goCrises 98 = .ok (.putfield 120, 3) := dk_181 0 120 (dk_at dksX0_goCrises_4 5 rfl rfl)
theorem dX0_goCrises_101 : decode cX0_goCrises 101 = .ok (.goto (-77), 3) := dk_167 255 179 (dk_at dksX0_goCrises_4 8 rfl rfl)
theorem dX0_goCrises_104 : decode cX0_goCrises 104 = .ok (.bipush (-6), 2) := dk_16 250 (dk_at dksX0_goCrises_4 11 rfl rfl)
theorem dX0_goCrises_106 : decode cX0_goCrises 106 = .ok (.ireturn, 1) := dk_172 (dk_at dksX0_goCrises_4 13 rfl rfl)
abbrev cX0_act : ByteArray := prog_1_method_15_code
def yX0_act : MethodName := ⟨RX0, "act", "(I)I"⟩
def dkwX0_act_6 : List UInt8 := [182, 0, 112, 181, 0, 100, 27, 6, 96, 172]
abbrev dktX0_act_6 : List UInt8 := dkwX0_act_6 ++ []
def dkwX0_act_5 : List UInt8 := [28, 42, 180, 0, 27, 27, 4, 96, 52, 16, 48, 100, 42, 180, 0, 27, 27, 5, 96, 52, 16, 48, 100]
abbrev dktX0_act_5 : List UInt8 := dkwX0_act_5 ++ dktX0_act_6
def dkwX0_act_4 : List UInt8 := [160, 0, 19, 42, 42, 180, 0, 20, 28, 182, 0, 109, 181, 0, 100, 27, 5, 96, 172, 42, 42, 180, 0, 20]
abbrev dktX0_act_4 : List UInt8 := dkwX0_act_4 ++ dktX0_act_5
def dkwX0_act_3 : List UInt8 := [96, 172, 42, 180, 0, 27, 27, 52, 16, 65, 100, 61, 42, 180, 0, 27, 27, 4, 96, 52, 16, 94]
abbrev dktX0_act_3 : List UInt8 := dkwX0_act_3 ++ dktX0_act_4
def dkwX0_act_2 : List UInt8 := [42, 180, 0, 20, 182, 0, 103, 27, 4, 96, 172, 42, 42, 180, 0, 20, 182, 0, 106, 181, 0, 100, 27, 4]
abbrev dktX0_act_2 : List UInt8 := dkwX0_act_2 ++ dktX0_act_3
def dkwX0_act_1 : List UInt8 := [171, 0, 0, 0, 51, 0, 0, 0, 2, 0, 0, 0, 46, 0, 0, 0, 36, 0, 0, 0, 126, 0, 0, 0, 25]
abbrev dktX0_act_1 : List UInt8 := dkwX0_act_1 ++ dktX0_act_2
def dkwX0_act_0 : List UInt8 := [42, 3, 181, 0, 100, 42, 180, 0, 27, 27, 52]
abbrev dktX0_act_0 : List UInt8 := dkwX0_act_0 ++ dktX0_act_1
theorem dksX0_act_0 : cX0_act.data.toList.drop 0 = dktX0_act_0 := by decide +kernel
theorem dksX0_act_1 : cX0_act.data.toList.drop 11 = dktX0_act_1 := dk_seg dksX0_act_0 11 rfl rfl
theorem dksX0_act_2 : cX0_act.data.toList.drop 36 = dktX0_act_2 := dk_seg dksX0_act_1 25 rfl rfl
theorem dksX0_act_3 : cX0_act.data.toList.drop 60 = dktX0_act_3 := dk_seg dksX0_act_2 24 rfl rfl
theorem dksX0_act_4 : cX0_act.data.toList.drop 82 = dktX0_act_4 := dk_seg dksX0_act_3 22 rfl rfl
theorem dksX0_act_5 : cX0_act.data.toList.drop 106 = dktX0_act_5 := dk_seg dksX0_act_4 24 rfl rfl
theorem dksX0_act_6 : cX0_act.data.toList.drop 129 = dktX0_act_6 := dk_seg dksX0_act_5 23 rfl rfl
theorem dX0_act_0 : decode cX0_act 0 = .ok (.aload_n 0, 1) := dk_42 (dk_at dksX0_act_0 0 rfl rfl)
theorem dX0_act_1 : decode cX0_act 1 = .ok (.iconst 0, 1) := dk_3 (dk_at dksX0_act_0 1 rfl rfl)
theorem dX0_act_2 : decode cX0_act 2 = .ok (.putfield 100, 3) := dk_181 0 100 (dk_at dksX0_act_0 2 rfl rfl)
theorem dX0_act_5 : decode cX0_act 5 = .ok (.aload_n 0, 1) := dk_42 (dk_at dksX0_act_0 5 rfl rfl)
theorem dX0_act_6 : decode cX0_act 6 = .ok (.getfield 27, 3) := dk_180 0 27 (dk_at dksX0_act_0 6 rfl rfl)
theorem dX0_act_9 : decode cX0_act 9 = .ok (.iload_n 1, 1) := dk_27 (dk_at dksX0_act_0 9 rfl rfl)
theorem dX0_act_10 : decode cX0_act 10 = .ok (.caload, 1) := dk_52 (dk_at dksX0_act_0 10 rfl rfl)
theorem dX0_act_11 : decode cX0_act 11 = .ok (.lookupswitch 51 #[(46, 36), (126, 25)], 25) := by decide +kernel
theorem dX0_act_36 : decode cX0_act 36 = .ok (.aload_n 0, 1) := dk_42 (dk_at dksX0_act_2 0 rfl rfl)
theorem dX0_act_37 : decode cX0_act 37 = .ok (.getfield 20, 3) := dk_180 0 20 (dk_at dksX0_act_2 1 rfl rfl)
theorem dX0_act_40 : decode cX0_act 40 = .ok (.invokevirtual 103, 3) := dk_182 0 103 (dk_at dksX0_act_2 4 rfl rfl)
theorem dX0_act_43 : decode cX0_act 43 = .ok (.iload_n 1, 1) := dk_27 (dk_at dksX0_act_2 7 rfl rfl)
theorem dX0_act_44 : decode cX0_act 44 = .ok (.iconst 1, 1) := dk_4 (dk_at dksX0_act_2 8 rfl rfl)
theorem dX0_act_45 : decode cX0_act 45 = .ok (.iadd, 1) := dk_96 (dk_at dksX0_act_2 9 rfl rfl)
theorem dX0_act_46 : decode cX0_act 46 = .ok (.ireturn, 1) := dk_172 (dk_at dksX0_act_2 10 rfl rfl)
theorem dX0_act_47 : decode cX0_act 47 = .ok (.aload_n 0, 1) := dk_42 (dk_at dksX0_act_2 11 rfl rfl)
theorem dX0_act_48 : decode cX0_act 48 = .ok (.aload_n 0, 1) := dk_42 (dk_at dksX0_act_2 12 rfl rfl)
theorem dX0_act_49 : decode cX0_act 49 = .ok (.getfield 20, 3) := dk_180 0 20 (dk_at dksX0_act_2 13 rfl rfl)
theorem dX0_act_52 : decode cX0_act 52 = .ok (.invokevirtual 106, 3) := dk_182 0 106 (dk_at dksX0_act_2 16 rfl rfl)
theorem dX0_act_55 : decode cX0_act 55 = .ok (.putfield 100, 3) := dk_181 0 100 (dk_at dksX0_act_2 19 rfl rfl)
theorem dX0_act_58 : decode cX0_act 58 = .ok (.iload_n 1, 1) := dk_27 (dk_at dksX0_act_2 22 rfl rfl)
theorem dX0_act_59 : decode cX0_act 59 = .ok (.iconst 1, 1) := dk_4 (dk_at dksX0_act_2 23 rfl rfl)
theorem dX0_act_60 : decode cX0_act 60 = .ok (.iadd, 1) := dk_96 (dk_at dksX0_act_3 0 rfl rfl)
theorem dX0_act_61 : decode cX0_act 61 = .ok (.ireturn, 1) := dk_172 (dk_at dksX0_act_3 1 rfl rfl)
theorem dX0_act_62 : decode cX0_act 62 = .ok (.aload_n 0, 1) := dk_42 (dk_at dksX0_act_3 2 rfl rfl)
theorem dX0_act_63 : decode cX0_act 63 = .ok (.getfield 27, 3) := dk_180 0 27 (dk_at dksX0_act_3 3 rfl rfl)
theorem dX0_act_66 : decode cX0_act 66 = .ok (.iload_n 1, 1) := dk_27 (dk_at dksX0_act_3 6 rfl rfl)
theorem dX0_act_67 : decode cX0_act 67 = .ok (.caload, 1) := dk_52 (dk_at dksX0_act_3 7 rfl rfl)
theorem dX0_act_68 : decode cX0_act 68 = .ok (.bipush 65, 2) := dk_16 65 (dk_at dksX0_act_3 8 rfl rfl)
theorem dX0_act_70 : decode cX0_act 70 = .ok (.isub, 1) := dk_100 (dk_at dksX0_act_3 10 rfl rfl)
theorem dX0_act_71 : decode cX0_act 71 = .ok (.istore_n 2, 1) := dk_61 (dk_at dksX0_act_3 11 rfl rfl)
theorem dX0_act_72 : decode cX0_act 72 = .ok (.aload_n 0, 1) := dk_42 (dk_at dksX0_act_3 12 rfl rfl)
theorem dX0_act_73 : decode cX0_act 73 = .ok (.getfield 27, 3) := dk_180 0 27 (dk_at dksX0_act_3 13 rfl rfl)
theorem dX0_act_76 : decode cX0_act 76 = .ok (.iload_n 1, 1) := dk_27 (dk_at dksX0_act_3 16 rfl rfl)
theorem dX0_act_77 : decode cX0_act 77 = .ok (.iconst 1, 1) := dk_4 (dk_at dksX0_act_3 17 rfl rfl)
theorem dX0_act_78 : decode cX0_act 78 = .ok (.iadd, 1) := dk_96 (dk_at dksX0_act_3 18 rfl rfl)
theorem dX0_act_79 : decode cX0_act 79 = .ok (.caload, 1) := dk_52 (dk_at dksX0_act_3 19 rfl rfl)
theorem dX0_act_80 : decode cX0_act 80 = .ok (.bipush 94, 2) := dk_16 94 (dk_at dksX0_act_3 20 rfl rfl)
theorem dX0_act_82 : decode cX0_act 82 = .ok (.if_icmp .ne 19, 3) := dk_160 0 19 (dk_at dksX0_act_4 0 rfl rfl)
theorem dX0_act_85 : decode cX0_act 85 = .ok (.aload_n 0, 1) := dk_42 (dk_at dksX0_act_4 3 rfl rfl)
theorem dX0_act_86 : decode cX0_act 86 = .ok (.aload_n 0, 1) := dk_42 (dk_at dksX0_act_4 4 rfl rfl)
theorem dX0_act_87 : decode cX0_act 87 = .ok (.getfield 20, 3) := dk_180 0 20 (dk_at dksX0_act_4 5 rfl rfl)
theorem dX0_act_90 : decode cX0_act 90 = .ok (.iload_n 2, 1) := dk_28 (dk_at dksX0_act_4 8 rfl rfl)
theorem dX0_act_91 : decode cX0_act 91 = .ok (.invokevirtual 109, 3) := dk_182 0 109 (dk_at dksX0_act_4 9 rfl rfl)
theorem dX0_act_94 : decode cX0_act 94 = .ok (.putfield 100, 3) := dk_181 0 100 (dk_at dksX0_act_4 12 rfl rfl)
theorem dX0_act_97 : decode cX0_act 97 = .ok (.iload_n 1, 1) := dk_27 (dk_at dksX0_act_4 15 rfl rfl)
theorem dX0_act_98 : decode cX0_act 98 = .ok (.iconst 2, 1) := dk_5 (dk_at dksX0_act_4 16 rfl rfl)
theorem dX0_act_99 : decode cX0_act 99 = .ok (.iadd, 1) := dk_96 (dk_at dksX0_act_4 17 rfl rfl)
theorem dX0_act_100 : decode cX0_act 100 = .ok (.ireturn, 1) := dk_172 (dk_at dksX0_act_4 18 rfl rfl)
theorem dX0_act_101 : decode cX0_act 101 = .ok (.aload_n 0, 1) := dk_42 (dk_at dksX0_act_4 19 rfl rfl)
theorem dX0_act_102 : decode cX0_act 102 = .ok (.aload_n 0, 1) := dk_42 (dk_at dksX0_act_4 20 rfl rfl)
theorem dX0_act_103 : decode cX0_act 103 = .ok (.getfield 20, 3) := dk_180 0 20 (dk_at dksX0_act_4 21 rfl rfl)
theorem dX0_act_106 : decode cX0_act 106 = .ok (.iload_n 2, 1) := dk_28 (dk_at dksX0_act_5 0 rfl rfl)
theorem dX0_act_107 : decode cX0_act 107 = .ok (.aload_n 0, 1) := dk_42 (dk_at dksX0_act_5 1 rfl rfl)
theorem dX0_act_108 : decode cX0_act 108 = .ok (.getfield 27, 3) := dk_180 0 27 (dk_at dksX0_act_5 2 rfl rfl)
theorem dX0_act_111 : decode cX0_act 111 = .ok (.iload_n 1, 1) := dk_27 (dk_at dksX0_act_5 5 rfl rfl)
theorem dX0_act_112 : decode cX0_act 112 = .ok (.iconst 1, 1) := dk_4 (dk_at dksX0_act_5 6 rfl rfl)
theorem dX0_act_113 : decode cX0_act 113 = .ok (.iadd, 1) := dk_96 (dk_at dksX0_act_5 7 rfl rfl)
theorem dX0_act_114 : decode cX0_act 114 = .ok (.caload, 1) := dk_52 (dk_at dksX0_act_5 8 rfl rfl)
theorem dX0_act_115 : decode cX0_act 115 = .ok (.bipush 48, 2) := dk_16 48 (dk_at dksX0_act_5 9 rfl rfl)
theorem dX0_act_117 : decode cX0_act 117 = .ok (.isub, 1) := dk_100 (dk_at dksX0_act_5 11 rfl rfl)
theorem dX0_act_118 : decode cX0_act 118 = .ok (.aload_n 0, 1) := dk_42 (dk_at dksX0_act_5 12 rfl rfl)
theorem dX0_act_119 : decode cX0_act 119 = .ok (.getfield 27, 3) := dk_180 0 27 (dk_at dksX0_act_5 13 rfl rfl)
theorem dX0_act_122 : decode cX0_act 122 = .ok (.iload_n 1, 1) := dk_27 (dk_at dksX0_act_5 16 rfl rfl)
theorem dX0_act_123 : decode cX0_act 123 = .ok (.iconst 2, 1) := dk_5 (dk_at dksX0_act_5 17 rfl rfl)
theorem dX0_act_124 : decode cX0_act 124 = .ok (.iadd, 1) := dk_96 (dk_at dksX0_act_5 18 rfl rfl)
theorem dX0_act_125 : decode cX0_act 125 = .ok (.caload, 1) := dk_52 (dk_at dksX0_act_5 19 rfl rfl)
theorem dX0_act_126 : decode cX0_act 126 = .ok (.bipush 48, 2) := dk_16 48 (dk_at dksX0_act_5 20 rfl rfl)
theorem dX0_act_128 : decode cX0_act 128 = .ok (.isub, 1) := dk_100 (dk_at dksX0_act_5 22 rfl rfl)
theorem dX0_act_129 : decode cX0_act 129 = .ok (.invokevirtual 112, 3) := dk_182 0 112 (dk_at dksX0_act_6 0 rfl rfl)
theorem dX0_act_132 : decode cX0_act 132 = .ok (.putfield 100, 3) := dk_181 0 100 (dk_at dksX0_act_6 3 rfl rfl)
theorem dX0_act_135 : decode cX0_act 135 = .ok (.iload_n 1, 1) := dk_27 (dk_at dksX0_act_6 6 rfl rfl)
theorem dX0_act_136 : decode cX0_act 136 = .ok (.iconst 3, 1) := dk_6 (dk_at dksX0_act_6 7 rfl rfl)
theorem dX0_act_137 : decode cX0_act 137 = .ok (.iadd, 1) := dk_96 (dk_at dksX0_act_6 8 rfl rfl)
theorem dX0_act_138 : decode cX0_act 138 = .ok (.ireturn, 1) := dk_172 (dk_at dksX0_act_6 9 rfl rfl)
abbrev cX0_asNumber : ByteArray := prog_1_method_2_code
def yX0_asNumber : MethodName := ⟨RX0, "asNumber", "(Z)I"⟩
def dkwX0_asNumber_0 : List UInt8 := [26, 153, 0, 7, 4, 167, 0, 4, 3, 172]
abbrev dktX0_asNumber_0 : List UInt8 := dkwX0_asNumber_0 ++ []
theorem dksX0_asNumber_0 : cX0_asNumber.data.toList.drop 0 = dktX0_asNumber_0 := by decide +kernel
theorem dX0_asNumber_0 : decode cX0_asNumber 0 = .ok (.iload_n 0, 1) := dk_26 (dk_at dksX0_asNumber_0 0 rfl rfl)
theorem dX0_asNumber_1 : decode cX0_asNumber 1 = .ok (.ifCond .eq 7, 3) := dk_153 0 7 (dk_at dksX0_asNumber_0 1 rfl rfl)
theorem dX0_asNumber_4 : decode cX0_asNumber 4 = .ok (.iconst 1, 1) := dk_4 (dk_at dksX0_asNumber_0 4 rfl rfl)
theorem dX0_asNumber_5 : decode cX0_asNumber 5 = .ok (.goto 4, 3) := dk_167 0 4 (dk_at dksX0_asNumber_0 5 rfl rfl)
theorem dX0_asNumber_8 : decode cX0_asNumber 8 = .ok (.iconst 0, 1) := dk_3 (dk_at dksX0_asNumber_0 8 rfl rfl)
theorem dX0_asNumber_9 : decode cX0_asNumber 9 = .ok (.ireturn, 1) := dk_172 (dk_at dksX0_asNumber_0 9 rfl rfl)
abbrev cX0_behind : ByteArray := prog_1_method_19_code
def yX0_behind : MethodName := ⟨RX0, "behind", "(I)I"⟩
def dkwX0_behind_1 : List UInt8 := [180, 0, 20, 180, 0, 79, 27, 46, 172]
abbrev dktX0_behind_1 : List UInt8 := dkwX0_behind_1 ++ []
def dkwX0_behind_0 : List UInt8 := [27, 184, 0, 65, 154, 0, 5, 2, 172, 42, 182, 0, 135, 61, 28, 156, 0, 7, 28, 167, 0, 12, 42]
abbrev dktX0_behind_0 : List UInt8 := dkwX0_behind_0 ++ dktX0_behind_1
theorem dksX0_behind_0 : cX0_behind.data.toList.drop 0 = dktX0_behind_0 := by decide +kernel
theorem dksX0_behind_1 : cX0_behind.data.toList.drop 23 = dktX0_behind_1 := dk_seg dksX0_behind_0 23 rfl rfl
theorem dX0_behind_0 : decode cX0_behind 0 = .ok (.iload_n 1, 1) := dk_27 (dk_at dksX0_behind_0 0 rfl rfl)
theorem dX0_behind_1 : decode cX0_behind 1 = .ok (.invokestatic 65, 3) := dk_184 0 65 (dk_at dksX0_behind_0 1 rfl rfl)
theorem dX0_behind_4 : decode cX0_behind 4 = .ok (.ifCond .ne 5, 3) := dk_154 0 5 (dk_at dksX0_behind_0 4 rfl rfl)
theorem dX0_behind_7 : decode cX0_behind 7 = .ok (.iconst (-1), 1) := dk_2 (dk_at dksX0_behind_0 7 rfl rfl)
theorem dX0_behind_8 : decode cX0_behind 8 = .ok (.ireturn, 1) := dk_172 (dk_at dksX0_behind_0 8 rfl rfl)
theorem dX0_behind_9 : decode cX0_behind 9 = .ok (.aload_n 0, 1) := dk_42 (dk_at dksX0_behind_0 9 rfl rfl)
theorem dX0_behind_10 : decode cX0_behind 10 = .ok (.invokevirtual 135, 3) := dk_182 0 135 (dk_at dksX0_behind_0 10 rfl rfl)
theorem dX0_behind_13 : decode cX0_behind 13 = .ok (.istore_n 2, 1) := dk_61 (dk_at dksX0_behind_0 13 rfl rfl)
theorem dX0_behind_14 : decode cX0_behind 14 = .ok (.iload_n 2, 1) := dk_28 (dk_at dksX0_behind_0 14 rfl rfl)
theorem dX0_behind_15 : decode cX0_behind 15 = .ok (.ifCond .ge 7, 3) := dk_156 0 7 (dk_at dksX0_behind_0 15 rfl rfl)
theorem dX0_behind_18 : decode cX0_behind 18 = .ok (.iload_n 2, 1) := dk_28 (dk_at dksX0_behind_0 18 rfl rfl)
theorem dX0_behind_19 : decode cX0_behind 19 = .ok (.goto 12, 3) := dk_167 0 12 (dk_at dksX0_behind_0 19 rfl rfl)
theorem dX0_behind_22 : decode cX0_behind 22 = .ok (.aload_n 0, 1) := dk_42 (dk_at dksX0_behind_0 22 rfl rfl)
theorem dX0_behind_23 : decode cX0_behind 23 = .ok (.getfield 20, 3) := dk_180 0 20 (dk_at dksX0_behind_1 0 rfl rfl)
theorem dX0_behind_26 : decode cX0_behind 26 = .ok (.getfield 79, 3) := dk_180 0 79 (dk_at dksX0_behind_1 3 rfl rfl)
theorem dX0_behind_29 : decode cX0_behind 29 = .ok (.iload_n 1, 1) := dk_27 (dk_at dksX0_behind_1 6 rfl rfl)
theorem dX0_behind_30 : decode cX0_behind 30 = .ok (.iaload, 1) := dk_46 (dk_at dksX0_behind_1 7 rfl rfl)
theorem dX0_behind_31 : decode cX0_behind 31 = .ok (.ireturn, 1) := dk_172 (dk_at dksX0_behind_1 8 rfl rfl)
abbrev cX0_barOfCrises : ByteArray := prog_1_method_18_code
def yX0_barOfCrises : MethodName := ⟨RX0, "barOfCrises", "()I"⟩
def dkwX0_barOfCrises_1 : List UInt8 := [3, 172]
abbrev dktX0_barOfCrises_1 : List UInt8 := dkwX0_barOfCrises_1 ++ []
def dkwX0_barOfCrises_0 : List UInt8 := [42, 182, 0, 96, 155, 0, 8, 16, 251, 167, 0, 16, 42, 182, 0, 129, 155, 0, 8, 16, 253, 167, 0, 4]
abbrev dktX0_barOfCrises_0 : List UInt8 := dkwX0_barOfCrises_0 ++ dktX0_barOfCrises_1
theorem dksX0_barOfCrises_0 : cX0_barOfCrises.data.toList.drop 0 = dktX0_barOfCrises_0 := by decide +kernel
theorem dksX0_barOfCrises_1 : cX0_barOfCrises.data.toList.drop 24 = dktX0_barOfCrises_1 := dk_seg dksX0_barOfCrises_0 24 rfl rfl
theorem dX0_barOfCrises_0 : decode cX0_barOfCrises 0 = .ok (.aload_n 0, 1) := dk_42 (dk_at dksX0_barOfCrises_0 0 rfl rfl)
theorem dX0_barOfCrises_1 : decode cX0_barOfCrises 1 = .ok (.invokevirtual 96, 3) := dk_182 0 96 (dk_at dksX0_barOfCrises_0 1 rfl rfl)
theorem dX0_barOfCrises_4 : decode cX0_barOfCrises 4 = .ok (.ifCond .lt 8, 3) := dk_155 0 8 (dk_at dksX0_barOfCrises_0 4 rfl rfl)
theorem dX0_barOfCrises_7 : decode cX0_barOfCrises 7 = .ok (.bipush (-5), 2) := dk_16 251 (dk_at dksX0_barOfCrises_0 7 rfl rfl)
theorem dX0_barOfCrises_9 : decode cX0_barOfCrises 9 = .ok (.goto 16, 3) := dk_167 0 16 (dk_at dksX0_barOfCrises_0 9 rfl rfl)
theorem dX0_barOfCrises_12 : decode cX0_barOfCrises 12 = .ok (.aload_n 0, 1) := dk_42 (dk_at dksX0_barOfCrises_0 12 rfl rfl)
theorem dX0_barOfCrises_13 : decode cX0_barOfCrises 13 = .ok (.invokevirtual 129, 3) := dk_182 0 129 (dk_at dksX0_barOfCrises_0 13 rfl rfl)
theorem dX0_barOfCrises_16 : decode cX0_barOfCrises 16 = .ok (.ifCond .lt 8, 3) := dk_155 0 8 (dk_at dksX0_barOfCrises_0 16 rfl rfl)
theorem dX0_barOfCrises_19 : decode cX0_barOfCrises 19 = .ok (.bipush (-3), 2) := dk_16 253 (dk_at dksX0_barOfCrises_0 19 rfl rfl)
theorem dX0_barOfCrises_21 : decode cX0_barOfCrises 21 = .ok (.goto 4, 3) := dk_167 0 4 (dk_at dksX0_barOfCrises_0 21 rfl rfl)
theorem dX0_barOfCrises_24 : decode cX0_barOfCrises 24 = .ok (.iconst 0, 1) := dk_3 (dk_at dksX0_barOfCrises_1 0 rfl rfl)
theorem dX0_barOfCrises_25 : decode cX0_barOfCrises 25 = .ok (.ireturn, 1) := dk_172 (dk_at dksX0_barOfCrises_1 1 rfl rfl)
abbrev cX0_table : ByteArray := prog_1_method_20_code
def yX0_table : MethodName := ⟨RX0, "table", "(I)I"⟩
def dkwX0_table_3 : List UInt8 := [42, 180, 0, 20, 180, 0, 141, 172]
abbrev dktX0_table_3 : List UInt8 := dkwX0_table_3 ++ []
def dkwX0_table_2 : List UInt8 := [42, 180, 0, 20, 180, 0, 82, 172, 42, 180, 0, 20, 180, 0, 86, 172, 42, 180, 0, 20, 182, 0, 138, 172]
abbrev dktX0_table_2 : List UInt8 := dkwX0_table_2 ++ dktX0_table_3
def dkwX0_table_1 : List UInt8 := [170, 0, 0, 0, 0, 0, 0, 52, 0, 0, 0, 0, 0, 0, 0, 2, 0, 0, 0, 28, 0, 0, 0, 36, 0, 0, 0, 44]
abbrev dktX0_table_1 : List UInt8 := dkwX0_table_1 ++ dktX0_table_2
def dkwX0_table_0 : List UInt8 := [27, 3, 6, 184, 0, 3, 154, 0, 6, 16, 254, 172, 42, 182, 0, 135, 61, 28, 156, 0, 5, 28, 172, 27]
abbrev dktX0_table_0 : List UInt8 := dkwX0_table_0 ++ dktX0_table_1
theorem dksX0_table_0 : cX0_table.data.toList.drop 0 = dktX0_table_0 := by decide +kernel
theorem dksX0_table_1 : cX0_table.data.toList.drop 24 = dktX0_table_1 := dk_seg dksX0_table_0 24 rfl rfl
theorem dksX0_table_2 : cX0_table.data.toList.drop 52 = dktX0_table_2 := dk_seg dksX0_table_1 28 rfl rfl
theorem dksX0_table_3 : cX0_table.data.toList.drop 76 = dktX0_table_3 := dk_seg dksX0_table_2 24 rfl rfl
theorem dX0_table_0 : decode cX0_table 0 = .ok (.iload_n 1, 1) := dk_27 (dk_at dksX0_table_0 0 rfl rfl)
theorem dX0_table_1 : decode cX0_table 1 = .ok (.iconst 0, 1) := dk_3 (dk_at dksX0_table_0 1 rfl rfl)
theorem dX0_table_2 : decode cX0_table 2 = .ok (.iconst 3, 1) := dk_6 (dk_at dksX0_table_0 2 rfl rfl)
theorem dX0_table_3 : decode cX0_table 3 = .ok (.invokestatic 3, 3) := dk_184 0 3 (dk_at dksX0_table_0 3 rfl rfl)
theorem dX0_table_6 : decode cX0_table 6 = .ok (.ifCond .ne 6, 3) := dk_154 0 6 (dk_at dksX0_table_0 6 rfl rfl)
theorem dX0_table_9 : decode cX0_table 9 = .ok (.bipush (-2), 2) := dk_16 254 (dk_at dksX0_table_0 9 rfl rfl)
theorem dX0_table_11 : decode cX0_table 11 = .ok (.ireturn, 1) := dk_172 (dk_at dksX0_table_0 11 rfl rfl)
theorem dX0_table_12 : decode cX0_table 12 = .ok (.aload_n 0, 1) := dk_42 (dk_at dksX0_table_0 12 rfl rfl)
theorem dX0_table_13 : decode cX0_table 13 = .ok (.invokevirtual 135, 3) := dk_182 0 135 (dk_at dksX0_table_0 13 rfl rfl)
theorem dX0_table_16 : decode cX0_table 16 = .ok (.istore_n 2, 1) := dk_61 (dk_at dksX0_table_0 16 rfl rfl)
theorem dX0_table_17 : decode cX0_table 17 = .ok (.iload_n 2, 1) := dk_28 (dk_at dksX0_table_0 17 rfl rfl)
theorem dX0_table_18 : decode cX0_table 18 = .ok (.ifCond .ge 5, 3) := dk_156 0 5 (dk_at dksX0_table_0 18 rfl rfl)
theorem dX0_table_21 : decode cX0_table 21 = .ok (.iload_n 2, 1) := dk_28 (dk_at dksX0_table_0 21 rfl rfl)
theorem dX0_table_22 : decode cX0_table 22 = .ok (.ireturn, 1) := dk_172 (dk_at dksX0_table_0 22 rfl rfl)
theorem dX0_table_23 : decode cX0_table 23 = .ok (.iload_n 1, 1) := dk_27 (dk_at dksX0_table_0 23 rfl rfl)
theorem dX0_table_24 : decode cX0_table 24 = .ok (.tableswitch 52 0 2 #[28, 36, 44], 28) := by decide +kernel
theorem dX0_table_52 : decode cX0_table 52 = .ok (.aload_n 0, 1) := dk_42 (dk_at dksX0_table_2 0 rfl rfl)
theorem dX0_table_53 : decode cX0_table 53 = .ok (.getfield 20, 3) := dk_180 0 20 (dk_at dksX0_table_2 1 rfl rfl)
theorem dX0_table_56 : decode cX0_table 56 = .ok (.getfield 82, 3) := dk_180 0 82 (dk_at dksX0_table_2 4 rfl rfl)
theorem dX0_table_59 : decode cX0_table 59 = .ok (.ireturn, 1) := dk_172 (dk_at dksX0_table_2 7 rfl rfl)
theorem dX0_table_60 : decode cX0_table 60 = .ok (.aload_n 0, 1) := dk_42 (dk_at dksX0_table_2 8 rfl rfl)
theorem dX0_table_61 : decode cX0_table 61 = .ok (.getfield 20, 3) := dk_180 0 20 (dk_at dksX0_table_2 9 rfl rfl)
theorem dX0_table_64 : decode cX0_table 64 = .ok (.getfield 86, 3) := dk_180 0 86 (dk_at dksX0_table_2 12 rfl rfl)
theorem dX0_table_67 : decode cX0_table 67 = .ok (.ireturn, 1) := dk_172 (dk_at dksX0_table_2 15 rfl rfl)
theorem dX0_table_68 : decode cX0_table 68 = .ok (.aload_n 0, 1) := dk_42 (dk_at dksX0_table_2 16 rfl rfl)
theorem dX0_table_69 : decode cX0_table 69 = .ok (.getfield 20, 3) := dk_180 0 20 (dk_at dksX0_table_2 17 rfl rfl)
theorem dX0_table_72 : decode cX0_table 72 = .ok (.invokevirtual 138, 3) := dk_182 0 138 (dk_at dksX0_table_2 20 rfl rfl)
theorem dX0_table_75 : decode cX0_table 75 = .ok (.ireturn, 1) := dk_172 (dk_at dksX0_table_2 23 rfl rfl)
theorem dX0_table_76 : decode cX0_table 76 = .ok (.aload_n 0, 1) := dk_42 (dk_at dksX0_table_3 0 rfl rfl)
theorem dX0_table_77 : decode cX0_table 77 = .ok (.getfield 20, 3) := dk_180 0 20 (dk_at dksX0_table_3 1 rfl rfl)
theorem dX0_table_80 : decode cX0_table 80 = .ok (.getfield 141, 3) := dk_180 0 141 (dk_at dksX0_table_3 4 rfl rfl)
theorem dX0_table_83 : decode cX0_table 83 = .ok (.ireturn, 1) := dk_172 (dk_at dksX0_table_3 7 rfl rfl)
abbrev cX0_candour : ByteArray := prog_1_method_21_code
def yX0_candour : MethodName := ⟨RX0, "candour", "(I)I"⟩
def dkwX0_candour_1 : List UInt8 := [167, 0, 21, 27, 154, 0, 10, 42, 180, 0, 123, 167, 0, 10, 42, 180, 0, 20, 180, 0, 144, 172]
abbrev dktX0_candour_1 : List UInt8 := dkwX0_candour_1 ++ []
def dkwX0_candour_0 : List UInt8 := [27, 3, 4, 184, 0, 3, 154, 0, 6, 16, 254, 172, 42, 182, 0, 135, 61, 28, 156, 0, 7, 28]
abbrev dktX0_candour_0 : List UInt8 := dkwX0_candour_0 ++ dktX0_candour_1
theorem dksX0_candour_0 : cX0_candour.data.toList.drop 0 = dktX0_candour_0 := by decide +kernel
theorem dksX0_candour_1 : cX0_candour.data.toList.drop 22 = dktX0_candour_1 := dk_seg dksX0_candour_0 22 rfl rfl
theorem dX0_candour_0 : decode cX0_candour 0 = .ok (.iload_n 1, 1) := dk_27 (dk_at dksX0_candour_0 0 rfl rfl)
theorem dX0_candour_1 : decode cX0_candour 1 = .ok (.iconst 0, 1) := dk_3 (dk_at dksX0_candour_0 1 rfl rfl)
theorem dX0_candour_2 : decode cX0_candour 2 = .ok (.iconst 1, 1) := dk_4 (dk_at dksX0_candour_0 2 rfl rfl)
theorem dX0_candour_3 : decode cX0_candour 3 = .ok (.invokestatic 3, 3) := dk_184 0 3 (dk_at dksX0_candour_0 3 rfl rfl)
theorem dX0_candour_6 : decode cX0_candour 6 = .ok (.ifCond .ne 6, 3) := dk_154 0 6 (dk_at dksX0_candour_0 6 rfl rfl)
theorem dX0_candour_9 : decode cX0_candour 9 = .ok (.bipush (-2), 2) := dk_16 254 (dk_at dksX0_candour_0 9 rfl rfl)
theorem dX0_candour_11 : decode cX0_candour 11 = .ok (.ireturn, 1) := dk_172 (dk_at dksX0_candour_0 11 rfl rfl)
theorem dX0_candour_12 : decode cX0_candour 12 = .ok (.aload_n 0, 1) := dk_42 (dk_at dksX0_candour_0 12 rfl rfl)
theorem dX0_candour_13 : decode cX0_candour 13 = .ok (.invokevirtual 135, 3) := dk_182 0 135 (dk_at dksX0_candour_0 13 rfl rfl)
theorem dX0_candour_16 : decode cX0_candour 16 = .ok (.istore_n 2, 1) := dk_61 (dk_at dksX0_candour_0 16 rfl rfl)
theorem dX0_candour_17 : decode cX0_candour 17 = .ok (.iload_n 2, 1) := dk_28 (dk_at dksX0_candour_0 17 rfl rfl)
theorem dX0_candour_18 : decode cX0_candour 18 = .ok (.ifCond .ge 7, 3) := dk_156 0 7 (dk_at dksX0_candour_0 18 rfl rfl)
theorem dX0_candour_21 : decode cX0_candour 21 = .ok (.iload_n 2, 1) := dk_28 (dk_at dksX0_candour_0 21 rfl rfl)
theorem dX0_candour_22 : decode cX0_candour 22 = .ok (.goto 21, 3) := dk_167 0 21 (dk_at dksX0_candour_1 0 rfl rfl)
theorem dX0_candour_25 : decode cX0_candour 25 = .ok (.iload_n 1, 1) := dk_27 (dk_at dksX0_candour_1 3 rfl rfl)
theorem dX0_candour_26 : decode cX0_candour 26 = .ok (.ifCond .ne 10, 3) := dk_154 0 10 (dk_at dksX0_candour_1 4 rfl rfl)
theorem dX0_candour_29 : decode cX0_candour 29 = .ok (.aload_n 0, 1) := dk_42 (dk_at dksX0_candour_1 7 rfl rfl)
theorem dX0_candour_30 : decode cX0_candour 30 = .ok (.getfield 123, 3) := dk_180 0 123 (dk_at dksX0_candour_1 8 rfl rfl)
theorem dX0_candour_33 : decode cX0_candour 33 = .ok (.goto 10, 3) := dk_167 0 10 (dk_at dksX0_candour_1 11 rfl rfl)
theorem dX0_candour_36 : decode cX0_candour 36 = .ok (.aload_n 0, 1) := dk_42 (dk_at dksX0_candour_1 14 rfl rfl)
theorem dX0_candour_37 : decode cX0_candour 37 = .ok (.getfield 20, 3) := dk_180 0 20 (dk_at dksX0_candour_1 15 rfl rfl)
theorem dX0_candour_40 : decode cX0_candour 40 = .ok (.getfield 144, 3) := dk_180 0 144 (dk_at dksX0_candour_1 18 rfl rfl)
theorem dX0_candour_43 : decode cX0_candour 43 = .ok (.ireturn, 1) := dk_172 (dk_at dksX0_candour_1 21 rfl rfl)
abbrev cX0_done : ByteArray := prog_1_method_22_code
def yX0_done : MethodName := ⟨RX0, "done", "()I"⟩
def dkwX0_done_1 : List UInt8 := [181, 0, 89, 42, 180, 0, 120, 172]
abbrev dktX0_done_1 : List UInt8 := dkwX0_done_1 ++ []
def dkwX0_done_0 : List UInt8 := [42, 182, 0, 135, 60, 27, 156, 0, 5, 27, 172, 42, 180, 0, 16, 42, 180, 0, 20, 182, 0, 116, 42, 3]
abbrev dktX0_done_0 : List UInt8 := dkwX0_done_0 ++ dktX0_done_1
theorem dksX0_done_0 : cX0_done.data.toList.drop 0 = dktX0_done_0 := by decide +kernel
theorem dksX0_done_1 : cX0_done.data.toList.drop 24 = dktX0_done_1 := dk_seg dksX0_done_0 24 rfl rfl
theorem dX0_done_0 : decode cX0_done 0 = .ok (.aload_n 0, 1) := dk_42 (dk_at dksX0_done_0 0 rfl rfl)
theorem dX0_done_1 : decode cX0_done 1 = .ok (.invokevirtual 135, 3) := dk_182 0 135 (dk_at dksX0_done_0 1 rfl rfl)
theorem dX0_done_4 : decode cX0_done 4 = .ok (.istore_n 1, 1) := dk_60 (dk_at dksX0_done_0 4 rfl rfl)
theorem dX0_done_5 : decode cX0_done 5 = .ok (.iload_n 1, 1) := dk_27 (dk_at dksX0_done_0 5 rfl rfl)
theorem dX0_done_6 : decode cX0_done 6 = .ok (.ifCond .ge 5, 3) := dk_156 0 5 (dk_at dksX0_done_0 6 rfl rfl)
theorem dX0_done_9 : decode cX0_done 9 = .ok (.iload_n 1, 1) := dk_27 (dk_at dksX0_done_0 9 rfl rfl)
theorem dX0_done_10 : decode cX0_done 10 = .ok (.ireturn, 1) := dk_172 (dk_at dksX0_done_0 10 rfl rfl)
theorem dX0_done_11 : decode cX0_done 11 = .ok (.aload_n 0, 1) := dk_42 (dk_at dksX0_done_0 11 rfl rfl)
theorem dX0_done_12 : decode cX0_done 12 = .ok (.getfield 16, 3) := dk_180 0 16 (dk_at dksX0_done_0 12 rfl rfl)
theorem dX0_done_15 : decode cX0_done 15 = .ok (.aload_n 0, 1) := dk_42 (dk_at dksX0_done_0 15 rfl rfl)
theorem dX0_done_16 : decode cX0_done 16 = .ok (.getfield 20, 3) := dk_180 0 20 (dk_at dksX0_done_0 16 rfl rfl)
theorem dX0_done_19 : decode cX0_done 19 = .ok (.invokevirtual 116, 3) := dk_182 0 116 (dk_at dksX0_done_0 19 rfl rfl)
theorem dX0_done_22 : decode cX0_done 22 = .ok (.aload_n 0, 1) := dk_42 (dk_at dksX0_done_0 22 rfl rfl)
theorem dX0_done_23 : decode cX0_done 23 = .ok (.iconst 0, 1) := dk_3 (dk_at dksX0_done_0 23 rfl rfl)
theorem dX0_done_24 : decode cX0_done 24 = .ok (.putfield 89, 3) := dk_181 0 89 (dk_at dksX0_done_1 0 rfl rfl)
theorem dX0_done_27 : decode cX0_done 27 = .ok (.aload_n 0, 1) := dk_42 (dk_at dksX0_done_1 3 rfl rfl)
theorem dX0_done_28 : decode cX0_done 28 = .ok (.getfield 120, 3) := dk_180 0 120 (dk_at dksX0_done_1 4 rfl rfl)
theorem dX0_done_31 : decode cX0_done 31 = .ok (.ireturn, 1) := dk_172 (dk_at dksX0_done_1 7 rfl rfl)
abbrev cX0_hint : ByteArray := prog_1_method_24_code
def yX0_hint : MethodName := ⟨RX0, "hint", "(IIII)I"⟩
def dkwX0_hint_6 : List UInt8 := [167, 0, 5, 21, 5, 172]
abbrev dktX0_hint_6 : List UInt8 := dkwX0_hint_6 ++ []
def dkwX0_hint_5 : List UInt8 := [184, 0, 163, 54, 5, 132, 7, 1, 167, 255, 186, 21, 6, 155, 0, 9, 21, 4, 4, 160, 0, 8, 21, 6]
abbrev dktX0_hint_5 : List UInt8 := dkwX0_hint_5 ++ dktX0_hint_6
def dkwX0_hint_4 : List UInt8 := [54, 8, 21, 8, 21, 5, 162, 0, 8, 21, 7, 167, 0, 5, 21, 6, 54, 6, 21, 5, 21, 8]
abbrev dktX0_hint_4 : List UInt8 := dkwX0_hint_4 ++ dktX0_hint_5
def dkwX0_hint_3 : List UInt8 := [155, 0, 57, 42, 180, 0, 16, 180, 0, 79, 28, 46, 155, 0, 45, 42, 27, 21, 7, 28, 29, 182, 0, 159]
abbrev dktX0_hint_3 : List UInt8 := dkwX0_hint_3 ++ dktX0_hint_4
def dkwX0_hint_2 : List UInt8 := [16, 250, 54, 6, 3, 54, 7, 21, 7, 16, 8, 162, 0, 69, 42, 180, 0, 16, 180, 0, 79, 27, 46]
abbrev dktX0_hint_2 : List UInt8 := dkwX0_hint_2 ++ dktX0_hint_3
def dkwX0_hint_1 : List UInt8 := [184, 0, 3, 153, 0, 13, 21, 4, 3, 4, 184, 0, 3, 154, 0, 6, 16, 254, 172, 18, 155, 54, 5]
abbrev dktX0_hint_1 : List UInt8 := dkwX0_hint_1 ++ dktX0_hint_2
def dkwX0_hint_0 : List UInt8 := [27, 184, 0, 65, 153, 0, 15, 28, 184, 0, 65, 153, 0, 8, 27, 28, 160, 0, 5, 2, 172, 29, 3, 7]
abbrev dktX0_hint_0 : List UInt8 := dkwX0_hint_0 ++ dktX0_hint_1
theorem dksX0_hint_0 : cX0_hint.data.toList.drop 0 = dktX0_hint_0 := by decide +kernel
theorem dksX0_hint_1 : cX0_hint.data.toList.drop 24 = dktX0_hint_1 := dk_seg dksX0_hint_0 24 rfl rfl
theorem dksX0_hint_2 : cX0_hint.data.toList.drop 47 = dktX0_hint_2 := dk_seg dksX0_hint_1 23 rfl rfl
theorem dksX0_hint_3 : cX0_hint.data.toList.drop 70 = dktX0_hint_3 := dk_seg dksX0_hint_2 23 rfl rfl
theorem dksX0_hint_4 : cX0_hint.data.toList.drop 94 = dktX0_hint_4 := dk_seg dksX0_hint_3 24 rfl rfl
theorem dksX0_hint_5 : cX0_hint.data.toList.drop 116 = dktX0_hint_5 := dk_seg dksX0_hint_4 22 rfl rfl
theorem dksX0_hint_6 : cX0_hint.data.toList.drop 140 = dktX0_hint_6 := dk_seg dksX0_hint_5 24 rfl rfl
theorem dX0_hint_0 : decode cX0_hint 0 = .ok (.iload_n 1, 1) := dk_27 (dk_at dksX0_hint_0 0 rfl rfl)
theorem dX0_hint_1 : decode cX0_hint 1 = .ok (.invokestatic 65, 3) := dk_184 0 65 (dk_at dksX0_hint_0 1 rfl rfl)
theorem dX0_hint_4 : decode cX0_hint 4 = .ok (.ifCond .eq 15, 3) := dk_153 0 15 (dk_at dksX0_hint_0 4 rfl rfl)
theorem dX0_hint_7 : decode cX0_hint 7 = .ok (.iload_n 2, 1) := dk_28 (dk_at dksX0_hint_0 7 rfl rfl)
theorem dX0_hint_8 : decode cX0_hint 8 = .ok (.invokestatic 65, 3) := dk_184 0 65 (dk_at dksX0_hint_0 8 rfl rfl)
theorem dX0_hint_11 : decode cX0_hint 11 = .ok (.ifCond .eq 8, 3) := dk_153 0 8 (dk_at dksX0_hint_0 11 rfl rfl)
theorem dX0_hint_14 : decode cX0_hint 14 = .ok (.iload_n 1, 1) := dk_27 (dk_at dksX0_hint_0 14 rfl rfl)
theorem dX0_hint_15 : decode cX0_hint 15 = .ok (.iload_n 2, 1) := dk_28 (dk_at dksX0_hint_0 15 rfl rfl)
theorem dX0_hint_16 : decode cX0_hint 16 = .ok (.if_icmp .ne 5, 3) := dk_160 0 5 (dk_at dksX0_hint_0 16 rfl rfl)
theorem dX0_hint_19 : decode cX0_hint 19 = .ok (.iconst (-1), 1) := dk_2 (dk_at dksX0_hint_0 19 rfl rfl)
theorem dX0_hint_20 : decode cX0_hint 20 = .ok (.ireturn, 1) := dk_172 (dk_at dksX0_hint_0 20 rfl rfl)
theorem dX0_hint_21 : decode cX0_hint 21 = .ok (.iload_n 3, 1) := dk_29 (dk_at dksX0_hint_0 21 rfl rfl)
theorem dX0_hint_22 : decode cX0_hint 22 = .ok (.iconst 0, 1) := dk_3 (dk_at dksX0_hint_0 22 rfl rfl)
theorem dX0_hint_23 : decode cX0_hint 23 = .ok (.iconst 4, 1) := dk_7 (dk_at dksX0_hint_0 23 rfl rfl)
theorem dX0_hint_24 : decode cX0_hint 24 = .ok (.invokestatic 3, 3) := dk_184 0 3 (dk_at dksX0_hint_1 0 rfl rfl)
theorem dX0_hint_27 : decode cX0_hint 27 = .ok (.ifCond .eq 13, 3) := dk_153 0 13 (dk_at dksX0_hint_1 3 rfl rfl)
theorem dX0_hint_30 : decode cX0_hint 30 = .ok (.iload 4, 2) := dk_21 4 (dk_at dksX0_hint_1 6 rfl rfl)
theorem dX0_hint_32 : decode cX0_hint 32 = .ok (.iconst 0, 1) := dk_3 (dk_at dksX0_hint_1 8 rfl rfl)
theorem dX0_hint_33 : decode cX0_hint 33 = .ok (.iconst 1, 1) := dk_4 (dk_at dksX0_hint_1 9 rfl rfl)
theorem dX0_hint_34 : decode cX0_hint 34 = .ok (.invokestatic 3, 3) := dk_184 0 3 (dk_at dksX0_hint_1 10 rfl rfl)
theorem dX0_hint_37 : decode cX0_hint 37 = .ok (.ifCond .ne 6, 3) := dk_154 0 6 (dk_at dksX0_hint_1 13 rfl rfl)
theorem dX0_hint_40 : decode cX0_hint 40 = .ok (.bipush (-2), 2) := dk_16 254 (dk_at dksX0_hint_1 16 rfl rfl)
theorem dX0_hint_42 : decode cX0_hint 42 = .ok (.ireturn, 1) := dk_172 (dk_at dksX0_hint_1 18 rfl rfl)
theorem dX0_hint_43 : decode cX0_hint 43 = .ok (.ldc 155, 2) := dk_18 155 (dk_at dksX0_hint_1 19 rfl rfl)
theorem dX0_hint_45 : decode cX0_hint 45 = .ok (.istore 5, 2) := dk_54 5 (dk_at dksX0_hint_1 21 rfl rfl)
theorem dX0_hint_47 : decode cX0_hint 47 = .ok (.bipush (-6), 2) := dk_16 250 (dk_at dksX0_hint_2 0 rfl rfl)
theorem dX0_hint_49 : decode cX0_hint 49 = .ok (.istore 6, 2) := dk_54 6 (dk_at dksX0_hint_2 2 rfl rfl)
theorem dX0_hint_51 : decode cX0_hint 51 = .ok (.iconst 0, 1) := dk_3 (dk_at dksX0_hint_2 4 rfl rfl)
theorem dX0_hint_52 : decode cX0_hint 52 = .ok (.istore 7, 2) := dk_54 7 (dk_at dksX0_hint_2 5 rfl rfl)
theorem dX0_hint_54 : decode cX0_hint 54 = .ok (.iload 7, 2) := dk_21 7 (dk_at dksX0_hint_2 7 rfl rfl)
theorem dX0_hint_56 : decode cX0_hint 56 = .ok (.bipush 8, 2) := dk_16 8 (dk_at dksX0_hint_2 9 rfl rfl)
theorem dX0_hint_58 : decode cX0_hint 58 = .ok (.if_icmp .ge 69, 3) := dk_162 0 69 (dk_at dksX0_hint_2 11 rfl rfl)
theorem dX0_hint_61 : decode cX0_hint 61 = .ok (.aload_n 0, 1) := dk_42 (dk_at dksX0_hint_2 14 rfl rfl)
theorem dX0_hint_62 : decode cX0_hint 62 = .ok (.getfield 16, 3) := dk_180 0 16 (dk_at dksX0_hint_2 15 rfl rfl)
theorem dX0_hint_65 : decode cX0_hint 65 = .ok (.getfield 79, 3) := dk_180 0 79 (dk_at dksX0_hint_2 18 rfl rfl)
theorem dX0_hint_68 : decode cX0_hint 68 = .ok (.iload_n 1, 1) := dk_27 (dk_at dksX0_hint_2 21 rfl rfl)
theorem dX0_hint_69 : decode cX0_hint 69 = .ok (.iaload, 1) := dk_46 (dk_at dksX0_hint_2 22 rfl rfl)
theorem dX0_hint_70 : decode cX0_hint 70 = .ok (.ifCond .lt 57, 3) := dk_155 0 57 (dk_at dksX0_hint_3 0 rfl rfl)
theorem dX0_hint_73 : decode cX0_hint 73 = .ok (.aload_n 0, 1) := dk_42 (dk_at dksX0_hint_3 3 rfl rfl)
theorem dX0_hint_74 : decode cX0_hint 74 = .ok (.getfield 16, 3) := dk_180 0 16 (dk_at dksX0_hint_3 4 rfl rfl)
theorem dX0_hint_77 : decode cX0_hint 77 = .ok (.getfield 79, 3) := dk_180 0 79 (dk_at dksX0_hint_3 7 rfl rfl)
theorem dX0_hint_80 : decode cX0_hint 80 = .ok (.iload_n 2, 1) := dk_28 (dk_at dksX0_hint_3 10 rfl rfl)
theorem dX0_hint_81 : decode cX0_hint 81 = .ok (.iaload, 1) := dk_46 (dk_at dksX0_hint_3 11 rfl rfl)
theorem dX0_hint_82 : decode cX0_hint 82 = .ok (.ifCond .lt 45, 3) := dk_155 0 45 (dk_at dksX0_hint_3 12 rfl rfl)
theorem dX0_hint_85 : decode cX0_hint 85 = .ok (.aload_n 0, 1) := dk_42 (dk_at dksX0_hint_3 15 rfl rfl)
theorem dX0_hint_86 : decode cX0_hint 86 = .ok (.iload_n 1, 1) := dk_27 (dk_at dksX0_hint_3 16 rfl rfl)
theorem dX0_hint_87 : decode cX0_hint 87 = .ok (.iload 7, 2) := dk_21 7 (dk_at dksX0_hint_3 17 rfl rfl)
theorem dX0_hint_89 : decode cX0_hint 89 = .ok (.iload_n 2, 1) := dk_28 (dk_at dksX0_hint_3 19 rfl rfl)
theorem dX0_hint_90 : decode cX0_hint 90 = .ok (.iload_n 3, 1) := dk_29 (dk_at dksX0_hint_3 20 rfl rfl)
theorem dX0_hint_91 : decode cX0_hint 91 = .ok (.invokevirtual 159, 3) := dk_182 0 159 (dk_at dksX0_hint_3 21 rfl rfl)
theorem dX0_hint_94 : decode cX0_hint 94 = .ok (.istore 8, 2) := dk_54 8 (dk_at dksX0_hint_4 0 rfl rfl)
theorem dX0_hint_96 : decode cX0_hint 96 = .ok (.iload 8, 2) := dk_21 8 (dk_at dksX0_hint_4 2 rfl rfl)
theorem dX0_hint_98 : decode cX0_hint 98 = .ok (.iload 5, 2) := dk_21 5 (dk_at dksX0_hint_4 4 rfl rfl)
theorem dX0_hint_100 : decode cX0_hint 100 = .ok (.if_icmp .ge 8, 3) := dk_162 0 8 (dk_at dksX0_hint_4 6 rfl rfl)
theorem dX0_hint_103 : decode cX0_hint 103 = .ok (.iload 7, 2) := dk_21 7 (dk_at dksX0_hint_4 9 rfl rfl)
theorem dX0_hint_105 : decode cX0_hint 105 = .ok (.goto 5, 3) := dk_167 0 5 (dk_at dksX0_hint_4 11 rfl rfl)
theorem dX0_hint_108 : decode cX0_hint 108 = .ok (.iload 6, 2) := dk_21 6 (dk_at dksX0_hint_4 14 rfl rfl)
theorem dX0_hint_110 : decode cX0_hint 110 = .ok (.istore 6, 2) := dk_54 6 (dk_at dksX0_hint_4 16 rfl rfl)
theorem dX0_hint_112 : decode cX0_hint 112 = .ok (.iload 5, 2) := dk_21 5 (dk_at dksX0_hint_4 18 rfl rfl)
theorem dX0_hint_114 : decode cX0_hint 114 = .ok (.iload 8, 2) := dk_21 8 (dk_at dksX0_hint_4 20 rfl rfl)
theorem dX0_hint_116 : decode cX0_hint 116 = .ok (.invokestatic 163, 3) := dk_184 0 163 (dk_at dksX0_hint_5 0 rfl rfl)
theorem dX0_hint_119 : decode cX0_hint 119 = .ok (.istore 5, 2) := dk_54 5 (dk_at dksX0_hint_5 3 rfl rfl)
theorem dX0_hint_121 : decode cX0_hint 121 = .ok (.iinc 7 1, 3) := dk_132 7 1 (dk_at dksX0_hint_5 5 rfl rfl)
theorem dX0_hint_124 : decode cX0_hint 124 = .ok (.goto (-70), 3) := dk_167 255 186 (dk_at dksX0_hint_5 8 rfl rfl)
theorem dX0_hint_127 : decode cX0_hint 127 = .ok (.iload 6, 2) := dk_21 6 (dk_at dksX0_hint_5 11 rfl rfl)
theorem dX0_hint_129 : decode cX0_hint 129 = .ok (.ifCond .lt 9, 3) := dk_155 0 9 (dk_at dksX0_hint_5 13 rfl rfl)
theorem dX0_hint_132 : decode cX0_hint 132 = .ok (.iload 4, 2) := dk_21 4 (dk_at dksX0_hint_5 16 rfl rfl)
theorem dX0_hint_134 : decode cX0_hint 134 = .ok (.iconst 1, 1) := dk_4 (dk_at dksX0_hint_5 18 rfl rfl)
theorem dX0_hint_135 : decode cX0_hint 135 = .ok (.if_icmp .ne 8, 3) := dk_160 0 8 (dk_at dksX0_hint_5 19 rfl rfl)
theorem dX0_hint_138 : decode cX0_hint 138 = .ok (.iload 6, 2) := dk_21 6 (dk_at dksX0_hint_5 22 rfl rfl)
theorem dX0_hint_140 : decode cX0_hint 140 = .ok (.goto 5, 3) := dk_167 0 5 (dk_at dksX0_hint_6 0 rfl rfl)
theorem dX0_hint_143 : decode cX0_hint 143 = .ok (.iload 5, 2) := dk_21 5 (dk_at dksX0_hint_6 3 rfl rfl)
theorem dX0_hint_145 : decode cX0_hint 145 = .ok (.ireturn, 1) := dk_172 (dk_at dksX0_hint_6 5 rfl rfl)
abbrev cX0_forceBy : ByteArray := prog_1_method_23_code
def yX0_forceBy : MethodName := ⟨RX0, "forceBy", "(IIII)I"⟩
def dkwX0_forceBy_4 : List UInt8 := [42, 180, 0, 34, 182, 0, 156, 132, 5, 1, 167, 255, 171, 18, 155, 172]
abbrev dktX0_forceBy_4 : List UInt8 := dkwX0_forceBy_4 ++ []
def dkwX0_forceBy_3 : List UInt8 := [21, 4, 160, 0, 8, 21, 5, 167, 0, 5, 18, 155, 172, 21, 6, 184, 0, 72, 153, 0, 6, 18, 155, 172]
abbrev dktX0_forceBy_3 : List UInt8 := dkwX0_forceBy_3 ++ dktX0_forceBy_4
def dkwX0_forceBy_2 : List UInt8 := [21, 7, 155, 0, 35, 21, 7, 27, 159, 0, 29, 21, 7, 29, 160, 0, 20, 42, 180, 0, 34, 180, 0, 154]
abbrev dktX0_forceBy_2 : List UInt8 := dkwX0_forceBy_2 ++ dktX0_forceBy_3
def dkwX0_forceBy_1 : List UInt8 := [163, 0, 84, 42, 180, 0, 34, 182, 0, 151, 54, 6, 42, 180, 0, 16, 21, 6, 182, 0, 75, 54, 7]
abbrev dktX0_forceBy_1 : List UInt8 := dkwX0_forceBy_1 ++ dktX0_forceBy_2
def dkwX0_forceBy_0 : List UInt8 := [42, 180, 0, 34, 42, 180, 0, 16, 180, 0, 79, 27, 46, 28, 182, 0, 147, 4, 54, 5, 21, 5, 16, 9]
abbrev dktX0_forceBy_0 : List UInt8 := dkwX0_forceBy_0 ++ dktX0_forceBy_1
theorem dksX0_forceBy_0 : cX0_forceBy.data.toList.drop 0 = dktX0_forceBy_0 := by decide +kernel
theorem dksX0_forceBy_1 : cX0_forceBy.data.toList.drop 24 = dktX0_forceBy_1 := dk_seg dksX0_forceBy_0 24 rfl rfl
theorem dksX0_forceBy_2 : cX0_forceBy.data.toList.drop 47 = dktX0_forceBy_2 := dk_seg dksX0_forceBy_1 23 rfl rfl
theorem dksX0_forceBy_3 : cX0_forceBy.data.toList.drop 71 = dktX0_forceBy_3 := dk_seg dksX0_forceBy_2 24 rfl rfl
theorem dksX0_forceBy_4 : cX0_forceBy.data.toList.drop 95 = dktX0_forceBy_4 := dk_seg dksX0_forceBy_3 24 rfl rfl
theorem dX0_forceBy_0 : decode cX0_forceBy 0 = .ok (.aload_n 0, 1) := dk_42 (dk_at dksX0_forceBy_0 0 rfl rfl)
theorem dX0_forceBy_1 : decode cX0_forceBy 1 = .ok (.getfield 34, 3) := dk_180 0 34 (dk_at dksX0_forceBy_0 1 rfl rfl)
theorem dX0_forceBy_4 : decode cX0_forceBy 4 = .ok (.aload_n 0, 1) := dk_42 (dk_at dksX0_forceBy_0 4 rfl rfl)
theorem dX0_forceBy_5 : decode cX0_forceBy 5 = .ok (.getfield 16, 3) := dk_180 0 16 (dk_at dksX0_forceBy_0 5 rfl rfl)
theorem dX0_forceBy_8 : decode cX0_forceBy 8 = .ok (.getfield 79, 3) := dk_180 0 79 (dk_at dksX0_forceBy_0 8 rfl rfl)
theorem dX0_forceBy_11 : decode cX0_forceBy 11 = .ok (.iload_n 1, 1) := dk_27 (dk_at dksX0_forceBy_0 11 rfl rfl)
theorem dX0_forceBy_12 : decode cX0_forceBy 12 = .ok (.iaload, 1) := dk_46 (dk_at dksX0_forceBy_0 12 rfl rfl)
theorem dX0_forceBy_13 : decode cX0_forceBy 13 = .ok (.iload_n 2, 1) := dk_28 (dk_at dksX0_forceBy_0 13 rfl rfl)
theorem dX0_forceBy_14 : decode cX0_forceBy 14 = .ok (.invokevirtual 147, 3) := dk_182 0 147 (dk_at dksX0_forceBy_0 14 rfl rfl)
theorem dX0_forceBy_17 : decode cX0_forceBy 17 = .ok (.iconst 1, 1) := dk_4 (dk_at dksX0_forceBy_0 17 rfl rfl)
theorem dX0_forceBy_18 : decode cX0_forceBy 18 = .ok (.istore 5, 2) := dk_54 5 (dk_at dksX0_forceBy_0 18 rfl rfl)
theorem dX0_forceBy_20 : decode cX0_forceBy 20 = .ok (.iload 5, 2) := dk_21 5 (dk_at dksX0_forceBy_0 20 rfl rfl)
theorem dX0_forceBy_22 : decode cX0_forceBy 22 = .ok (.bipush 9, 2) := dk_16 9 (dk_at dksX0_forceBy_0 22 rfl rfl)
theorem dX0_forceBy_24 : decode cX0_forceBy 24 = .ok (.if_icmp .gt 84, 3) := dk_163 0 84 (dk_at dksX0_forceBy_1 0 rfl rfl)
theorem dX0_forceBy_27 : decode cX0_forceBy 27 = .ok (.aload_n 0, 1) := dk_42 (dk_at dksX0_forceBy_1 3 rfl rfl)
theorem dX0_forceBy_28 : decode cX0_forceBy 28 = .ok (.getfield 34, 3) := dk_180 0 34 (dk_at dksX0_forceBy_1 4 rfl rfl)
theorem dX0_forceBy_31 : decode cX0_forceBy 31 = .ok (.invokevirtual 151, 3) := dk_182 0 151 (dk_at dksX0_forceBy_1 7 rfl rfl)
theorem dX0_forceBy_34 : decode cX0_forceBy 34 = .ok (.istore 6, 2) := dk_54 6 (dk_at dksX0_forceBy_1 10 rfl rfl)
theorem dX0_forceBy_36 : decode cX0_forceBy 36 = .ok (.aload_n 0, 1) := dk_42 (dk_at dksX0_forceBy_1 12 rfl rfl)
theorem dX0_forceBy_37 : decode cX0_forceBy 37 = .ok (.getfield 16, 3) := dk_180 0 16 (dk_at dksX0_forceBy_1 13 rfl rfl)
theorem dX0_forceBy_40 : decode cX0_forceBy 40 = .ok (.iload 6, 2) := dk_21 6 (dk_at dksX0_forceBy_1 16 rfl rfl)
theorem dX0_forceBy_42 : decode cX0_forceBy 42 = .ok (.invokevirtual 75, 3) := dk_182 0 75 (dk_at dksX0_forceBy_1 18 rfl rfl)
theorem dX0_forceBy_45 : decode cX0_forceBy 45 = .ok (.istore 7, 2) := dk_54 7 (dk_at dksX0_forceBy_1 21 rfl rfl)
theorem dX0_forceBy_47 : decode cX0_forceBy 47 = .ok (.iload 7, 2) := dk_21 7 (dk_at dksX0_forceBy_2 0 rfl rfl)
theorem dX0_forceBy_49 : decode cX0_forceBy 49 = .ok (.ifCond .lt 35, 3) := dk_155 0 35 (dk_at dksX0_forceBy_2 2 rfl rfl)
theorem dX0_forceBy_52 : decode cX0_forceBy 52 = .ok (.iload 7, 2) := dk_21 7 (dk_at dksX0_forceBy_2 5 rfl rfl)
theorem dX0_forceBy_54 : decode cX0_forceBy 54 = .ok (.iload_n 1, 1) := dk_27 (dk_at dksX0_forceBy_2 7 rfl rfl)
theorem dX0_forceBy_55 : decode cX0_forceBy 55 = .ok (.if_icmp .eq 29, 3) := dk_159 0 29 (dk_at dksX0_forceBy_2 8 rfl rfl)
theorem dX0_forceBy_58 : decode cX0_forceBy 58 = .ok (.iload 7, 2) := dk_21 7 (dk_at dksX0_forceBy_2 11 rfl rfl)
theorem dX0_forceBy_60 : decode cX0_forceBy 60 = .ok (.iload_n 3, 1) := dk_29 (dk_at dksX0_forceBy_2 13 rfl rfl)
theorem dX0_forceBy_61 : decode cX0_forceBy 61 = .ok (.if_icmp .ne 20, 3) := dk_160 0 20 (dk_at dksX0_forceBy_2 14 rfl rfl)
theorem dX0_forceBy_64 : decode cX0_forceBy 64 = .ok (.aload_n 0, 1) := dk_42 (dk_at dksX0_forceBy_2 17 rfl rfl)
theorem dX0_forceBy_65 : decode cX0_forceBy 65 = .ok (.getfield 34, 3) := dk_180 0 34 (dk_at dksX0_forceBy_2 18 rfl rfl)
theorem dX0_forceBy_68 : decode cX0_forceBy 68 = .ok (.getfield 154, 3) := dk_180 0 154 (dk_at dksX0_forceBy_2 21 rfl rfl)
theorem dX0_forceBy_71 : decode cX0_forceBy 71 = .ok (.iload 4, 2) := dk_21 4 (dk_at dksX0_forceBy_3 0 rfl rfl)
theorem dX0_forceBy_73 : decode cX0_forceBy 73 = .ok (.if_icmp .ne 8, 3) := dk_160 0 8 (dk_at dksX0_forceBy_3 2 rfl rfl)
theorem dX0_forceBy_76 : decode cX0_forceBy 76 = .ok (.iload 5, 2) := dk_21 5 (dk_at dksX0_forceBy_3 5 rfl rfl)
theorem dX0_forceBy_78 : decode cX0_forceBy 78 = .ok (.goto 5, 3) := dk_167 0 5 (dk_at dksX0_forceBy_3 7 rfl rfl)
theorem dX0_forceBy_81 : decode cX0_forceBy 81 = .ok (.ldc 155, 2) := dk_18 155 (dk_at dksX0_forceBy_3 10 rfl rfl)
theorem dX0_forceBy_83 : decode cX0_forceBy 83 = .ok (.ireturn, 1) := dk_172 (dk_at dksX0_forceBy_3 12 rfl rfl)
theorem dX0_forceBy_84 : decode cX0_forceBy 84 = .ok (.iload 6, 2) := dk_21 6 (dk_at dksX0_forceBy_3 13 rfl rfl)
theorem dX0_forceBy_86 : decode cX0_forceBy 86 = .ok (.invokestatic 72, 3) := dk_184 0 72 (dk_at dksX0_forceBy_3 15 rfl rfl)
theorem dX0_forceBy_89 : decode cX0_forceBy 89 = .ok (.ifCond .eq 6, 3) := dk_153 0 6 (dk_at dksX0_forceBy_3 18 rfl rfl)
theorem dX0_forceBy_92 : decode cX0_forceBy 92 = .ok (.ldc 155, 2) := dk_18 155 (dk_at dksX0_forceBy_3 21 rfl rfl)
theorem dX0_forceBy_94 : decode cX0_forceBy 94 = .ok (.ireturn, 1) := dk_172 (dk_at dksX0_forceBy_3 23 rfl rfl)
theorem dX0_forceBy_95 : decode cX0_forceBy 95 = .ok (.aload_n 0, 1) := dk_42 (dk_at dksX0_forceBy_4 0 rfl rfl)
theorem dX0_forceBy_96 : decode cX0_forceBy 96 = .ok (.getfield 34, 3) := dk_180 0 34 (dk_at dksX0_forceBy_4 1 rfl rfl)
theorem dX0_forceBy_99 : decode cX0_forceBy 99 = .ok (.invokevirtual 156, 3) := dk_182 0 156 (dk_at dksX0_forceBy_4 4 rfl rfl)
theorem dX0_forceBy_102 : decode cX0_forceBy 102 = .ok (.iinc 5 1, 3) := dk_132 5 1 (dk_at dksX0_forceBy_4 7 rfl rfl)
theorem dX0_forceBy_105 : decode cX0_forceBy 105 = .ok (.goto (-85), 3) := dk_167 255 171 (dk_at dksX0_forceBy_4 10 rfl rfl)
theorem dX0_forceBy_108 : decode cX0_forceBy 108 = .ok (.ldc 155, 2) := dk_18 155 (dk_at dksX0_forceBy_4 13 rfl rfl)
theorem dX0_forceBy_110 : decode cX0_forceBy 110 = .ok (.ireturn, 1) := dk_172 (dk_at dksX0_forceBy_4 15 rfl rfl)
abbrev cX0_alone : ByteArray := prog_1_method_27_code
def yX0_alone : MethodName := ⟨RX0, "alone", "(IIII)I"⟩
def dkwX0_alone_8 : List UInt8 := [132, 7, 1, 167, 255, 155, 21, 4, 4, 160, 0, 8, 21, 5, 167, 0, 5, 21, 6, 172]
abbrev dktX0_alone_8 : List UInt8 := dkwX0_alone_8 ++ []
def dkwX0_alone_7 : List UInt8 := [167, 0, 5, 21, 5, 54, 5, 42, 180, 0, 34, 182, 0, 151, 87, 42, 180, 0, 34, 182, 0, 156]
abbrev dktX0_alone_7 : List UInt8 := dkwX0_alone_7 ++ dktX0_alone_8
def dkwX0_alone_6 : List UInt8 := [21, 5, 156, 0, 25, 21, 8, 27, 160, 0, 19, 42, 180, 0, 34, 182, 0, 190, 28, 160, 0, 8, 21, 7]
abbrev dktX0_alone_6 : List UInt8 := dkwX0_alone_6 ++ dktX0_alone_7
def dkwX0_alone_5 : List UInt8 := [4, 167, 0, 4, 3, 184, 0, 186, 96, 54, 6, 42, 180, 0, 38, 21, 8, 4, 84, 21, 7, 158, 0, 30]
abbrev dktX0_alone_5 : List UInt8 := dkwX0_alone_5 ++ dktX0_alone_6
def dkwX0_alone_4 : List UInt8 := [163, 0, 100, 42, 180, 0, 34, 182, 0, 177, 54, 8, 21, 6, 42, 180, 0, 38, 21, 8, 51, 154, 0, 7]
abbrev dktX0_alone_4 : List UInt8 := dkwX0_alone_4 ++ dktX0_alone_5
def dkwX0_alone_3 : List UInt8 := [16, 250, 54, 5, 3, 54, 6, 42, 180, 0, 34, 27, 28, 182, 0, 147, 3, 54, 7, 21, 7, 16, 32]
abbrev dktX0_alone_3 : List UInt8 := dkwX0_alone_3 ++ dktX0_alone_4
def dkwX0_alone_2 : List UInt8 := [42, 27, 28, 29, 182, 0, 173, 42, 180, 0, 34, 182, 0, 177, 172, 42, 180, 0, 38, 3, 184, 0, 180]
abbrev dktX0_alone_2 : List UInt8 := dkwX0_alone_2 ++ dktX0_alone_3
def dkwX0_alone_1 : List UInt8 := [184, 0, 3, 153, 0, 13, 21, 4, 3, 5, 184, 0, 3, 154, 0, 6, 16, 254, 172, 21, 4, 154, 0, 18]
abbrev dktX0_alone_1 : List UInt8 := dkwX0_alone_1 ++ dktX0_alone_2
def dkwX0_alone_0 : List UInt8 := [27, 184, 0, 169, 154, 0, 5, 2, 172, 28, 3, 16, 7, 184, 0, 3, 153, 0, 23, 29, 3, 18, 172]
abbrev dktX0_alone_0 : List UInt8 := dkwX0_alone_0 ++ dktX0_alone_1
theorem dksX0_alone_0 : cX0_alone.data.toList.drop 0 = dktX0_alone_0 := by decide +kernel
theorem dksX0_alone_1 : cX0_alone.data.toList.drop 23 = dktX0_alone_1 := dk_seg dksX0_alone_0 23 rfl rfl
theorem dksX0_alone_2 : cX0_alone.data.toList.drop 47 = dktX0_alone_2 := dk_seg dksX0_alone_1 24 rfl rfl
theorem dksX0_alone_3 : cX0_alone.data.toList.drop 70 = dktX0_alone_3 := dk_seg dksX0_alone_2 23 rfl rfl
theorem dksX0_alone_4 : cX0_alone.data.toList.drop 93 = dktX0_alone_4 := dk_seg dksX0_alone_3 23 rfl rfl
theorem dksX0_alone_5 : cX0_alone.data.toList.drop 117 = dktX0_alone_5 := dk_seg dksX0_alone_4 24 rfl rfl
theorem dksX0_alone_6 : cX0_alone.data.toList.drop 141 = dktX0_alone_6 := dk_seg dksX0_alone_5 24 rfl rfl
theorem dksX0_alone_7 : cX0_alone.data.toList.drop 165 = dktX0_alone_7 := dk_seg dksX0_alone_6 24 rfl rfl
theorem dksX0_alone_8 : cX0_alone.data.toList.drop 187 = dktX0_alone_8 := dk_seg dksX0_alone_7 22 rfl rfl
theorem dX0_alone_0 : decode cX0_alone 0 = .ok (.iload_n 1, 1) := dk_27 (dk_at dksX0_alone_0 0 rfl rfl)
theorem dX0_alone_1 : decode cX0_alone 1 = .ok (.invokestatic 169, 3) := dk_184 0 169 (dk_at dksX0_alone_0 1 rfl rfl)
theorem dX0_alone_4 : decode cX0_alone 4 = .ok (.ifCond .ne 5, 3) := dk_154 0 5 (dk_at dksX0_alone_0 4 rfl rfl)
theorem dX0_alone_7 : decode cX0_alone 7 = .ok (.iconst (-1), 1) := dk_2 (dk_at dksX0_alone_0 7 rfl rfl)
theorem dX0_alone_8 : decode cX0_alone 8 = .ok (.ireturn, 1) := dk_172 (dk_at dksX0_alone_0 8 rfl rfl)
theorem dX0_alone_9 : decode cX0_alone 9 = .ok (.iload_n 2, 1) := dk_28 (dk_at dksX0_alone_0 9 rfl rfl)
theorem dX0_alone_10 : decode cX0_alone 10 = .ok (.iconst 0, 1) := dk_3 (dk_at dksX0_alone_0 10 rfl rfl)
theorem dX0_alone_11 : decode cX0_alone 11 = .ok (.bipush 7, 2) := dk_16 7 (dk_at dksX0_alone_0 11 rfl rfl)
theorem dX0_alone_13 : decode cX0_alone 13 = .ok (.invokestatic 3, 3) := dk_184 0 3 (dk_at dksX0_alone_0 13 rfl rfl)
theorem dX0_alone_16 : decode cX0_alone 16 = .ok (.ifCond .eq 23, 3) := dk_153 0 23 (dk_at dksX0_alone_0 16 rfl rfl)
theorem dX0_alone_19 : decode cX0_alone 19 = .ok (.iload_n 3, 1) := dk_29 (dk_at dksX0_alone_0 19 rfl rfl)
theorem dX0_alone_20 : decode cX0_alone 20 = .ok (.iconst 0, 1) := dk_3 (dk_at dksX0_alone_0 20 rfl rfl)
theorem dX0_alone_21 : decode cX0_alone 21 = .ok (.ldc 172, 2) := dk_18 172 (dk_at dksX0_alone_0 21 rfl rfl)
theorem dX0_alone_23 : decode cX0_alone 23 = .ok (.invokestatic 3, 3) := dk_184 0 3 (dk_at dksX0_alone_1 0 rfl rfl)
theorem dX0_alone_26 : decode cX0_alone 26 = .ok (.ifCond .eq 13, 3) := dk_153 0 13 (dk_at dksX0_alone_1 3 rfl rfl)
theorem dX0_alone_29 : decode cX0_alone 29 = .ok (.iload 4, 2) := dk_21 4 (dk_at dksX0_alone_1 6 rfl rfl)
theorem dX0_alone_31 : decode cX0_alone 31 = .ok (.iconst 0, 1) := dk_3 (dk_at dksX0_alone_1 8 rfl rfl)
theorem dX0_alone_32 : decode cX0_alone 32 = .ok (.iconst 2, 1) := dk_5 (dk_at dksX0_alone_1 9 rfl rfl)
theorem dX0_alone_33 : decode cX0_alone 33 = .ok (.invokestatic 3, 3) := dk_184 0 3 (dk_at dksX0_alone_1 10 rfl rfl)
theorem dX0_alone_36 : decode cX0_alone 36 = .ok (.ifCond .ne 6, 3) := dk_154 0 6 (dk_at dksX0_alone_1 13 rfl rfl)
theorem dX0_alone_39 : decode cX0_alone 39 = .ok (.bipush (-2), 2) := dk_16 254 (dk_at dksX0_alone_1 16 rfl rfl)
theorem dX0_alone_41 : decode cX0_alone 41 = .ok (.ireturn, 1) := dk_172 (dk_at dksX0_alone_1 18 rfl rfl)
theorem dX0_alone_42 : decode cX0_alone 42 = .ok (.iload 4, 2) := dk_21 4 (dk_at dksX0_alone_1 19 rfl rfl)
theorem dX0_alone_44 : decode cX0_alone 44 = .ok (.ifCond .ne 18, 3) := dk_154 0 18 (dk_at dksX0_alone_1 21 rfl rfl)
theorem dX0_alone_47 : decode cX0_alone 47 = .ok (.aload_n 0, 1) := dk_42 (dk_at dksX0_alone_2 0 rfl rfl)
theorem dX0_alone_48 : decode cX0_alone 48 = .ok (.iload_n 1, 1) := dk_27 (dk_at dksX0_alone_2 1 rfl rfl)
theorem dX0_alone_49 : decode cX0_alone 49 = .ok (.iload_n 2, 1) := dk_28 (dk_at dksX0_alone_2 2 rfl rfl)
theorem dX0_alone_50 : decode cX0_alone 50 = .ok (.iload_n 3, 1) := dk_29 (dk_at dksX0_alone_2 3 rfl rfl)
theorem dX0_alone_51 : decode cX0_alone 51 = .ok (.invokevirtual 173, 3) := dk_182 0 173 (dk_at dksX0_alone_2 4 rfl rfl)
theorem dX0_alone_54 : decode cX0_alone 54 = .ok (.aload_n 0, 1) := dk_42 (dk_at dksX0_alone_2 7 rfl rfl)
theorem dX0_alone_55 : decode cX0_alone 55 = .ok (.getfield 34, 3) := dk_180 0 34 (dk_at dksX0_alone_2 8 rfl rfl)
theorem dX0_alone_58 : decode cX0_alone 58 = .ok (.invokevirtual 177, 3) := dk_182 0 177 (dk_at dksX0_alone_2 11 rfl rfl)
theorem dX0_alone_61 : decode cX0_alone 61 = .ok (.ireturn, 1) := dk_172 (dk_at dksX0_alone_2 14 rfl rfl)
theorem dX0_alone_62 : decode cX0_alone 62 = .ok (.aload_n 0, 1) := dk_42 (dk_at dksX0_alone_2 15 rfl rfl)
theorem dX0_alone_63 : decode cX0_alone 63 = .ok (.getfield 38, 3) := dk_180 0 38 (dk_at dksX0_alone_2 16 rfl rfl)
theorem dX0_alone_66 : decode cX0_alone 66 = .ok (.iconst 0, 1) := dk_3 (dk_at dksX0_alone_2 19 rfl rfl)
theorem dX0_alone_67 : decode cX0_alone 67 = .ok (.invokestatic 180, 3) := dk_184 0 180 (dk_at dksX0_alone_2 20 rfl rfl)
theorem dX0_alone_70 : decode cX0_alone 70 = .ok (.bipush (-6), 2) := dk_16 250 (dk_at dksX0_alone_3 0 rfl rfl)
theorem dX0_alone_72 : decode cX0_alone 72 = .ok (.istore 5, 2) := dk_54 5 (dk_at dksX0_alone_3 2 rfl rfl)
theorem dX0_alone_74 : decode cX0_alone 74 = .ok (.iconst 0, 1) := dk_3 (dk_at dksX0_alone_3 4 rfl rfl)
theorem dX0_alone_75 : decode cX0_alone 75 = .ok (.istore 6, 2) := dk_54 6 (dk_at dksX0_alone_3 5 rfl rfl)
theorem dX0_alone_77 : decode cX0_alone 77 = .ok (.aload_n 0, 1) := dk_42 (dk_at dksX0_alone_3 7 rfl rfl)
theorem dX0_alone_78 : decode cX0_alone 78 = .ok (.getfield 34, 3) := dk_180 0 34 (dk_at dksX0_alone_3 8 rfl rfl)
theorem dX0_alone_81 : decode cX0_alone 81 = .ok (.iload_n 1, 1) := dk_27 (dk_at dksX0_alone_3 11 rfl rfl)
theorem dX0_alone_82 : decode cX0_alone 82 = .ok (.iload_n 2, 1) := dk_28 (dk_at dksX0_alone_3 12 rfl rfl)
theorem dX0_alone_83 : decode cX0_alone 83 = .ok (.invokevirtual 147, 3) := dk_182 0 147 (dk_at dksX0_alone_3 13 rfl rfl)
theorem dX0_alone_86 : decode cX0_alone 86 = .ok (.iconst 0, 1) := dk_3 (dk_at dksX0_alone_3 16 rfl rfl)
theorem dX0_alone_87 : decode cX0_alone 87 = .ok (.istore 7, 2) := dk_54 7 (dk_at dksX0_alone_3 17 rfl rfl)
theorem dX0_alone_89 : decode cX0_alone 89 = .ok (.iload 7, 2) := dk_21 7 (dk_at dksX0_alone_3 19 rfl rfl)
theorem dX0_alone_91 : decode cX0_alone 91 = .ok (.bipush 32, 2) := dk_16 32 (dk_at dksX0_alone_3 21 rfl rfl)
theorem dX0_alone_93 : decode cX0_alone 93 = .ok (.if_icmp .gt 100, 3) := dk_163 0 100 (dk_at dksX0_alone_4 0 rfl rfl)
theorem dX0_alone_96 : decode cX0_alone 96 = .ok (.aload_n 0, 1) := dk_42 (dk_at dksX0_alone_4 3 rfl rfl)
theorem dX0_alone_97 : decode cX0_alone 97 = .ok (.getfield 34, 3) := dk_180 0 34 (dk_at dksX0_alone_4 4 rfl rfl)
theorem dX0_alone_100 : decode cX0_alone 100 = .ok (.invokevirtual 177, 3) := dk_182 0 177 (dk_at dksX0_alone_4 7 rfl rfl)
theorem dX0_alone_103 : decode cX0_alone 103 = .ok (.istore 8, 2) := dk_54 8 (dk_at dksX0_alone_4 10 rfl rfl)
theorem dX0_alone_105 : decode cX0_alone 105 = .ok (.iload 6, 2) := dk_21 6 (dk_at dksX0_alone_4 12 rfl rfl)
theorem dX0_alone_107 : decode cX0_alone 107 = .ok (.aload_n 0, 1) := dk_42 (dk_at dksX0_alone_4 14 rfl rfl)
theorem dX0_alone_108 : decode cX0_alone 108 = .ok (.getfield 38, 3) := dk_180 0 38 (dk_at dksX0_alone_4 15 rfl rfl)
theorem dX0_alone_111 : decode cX0_alone 111 = .ok (.iload 8, 2) := dk_21 8 (dk_at dksX0_alone_4 18 rfl rfl)
theorem dX0_alone_113 : decode cX0_alone 113 = .ok (.baload, 1) := dk_51 (dk_at dksX0_alone_4 20 rfl rfl)
theorem dX0_alone_114 : decode cX0_alone 114 = .ok (.ifCond .ne 7, 3) := dk_154 0 7 (dk_at dksX0_alone_4 21 rfl rfl)
theorem dX0_alone_117 : decode cX0_alone 117 = .ok (.iconst 1, 1) := dk_4 (dk_at dksX0_alone_5 0 rfl rfl)
theorem dX0_alone_118 : decode cX0_alone 118 = .ok (.goto 4, 3) := dk_167 0 4 (dk_at dksX0_alone_5 1 rfl rfl)
theorem dX0_alone_121 : decode cX0_alone 121 = .ok (.iconst 0, 1) := dk_3 (dk_at dksX0_alone_5 4 rfl rfl)
theorem dX0_alone_122 : decode cX0_alone 122 = .ok (.invokestatic 186, 3) := dk_184 0 186 (dk_at dksX0_alone_5 5 rfl rfl)
theorem dX0_alone_125 : decode cX0_alone 125 = .ok (.iadd, 1) := dk_96 (dk_at dksX0_alone_5 8 rfl rfl)
theorem dX0_alone_126 : decode cX0_alone 126 = .ok (.istore 6, 2) := dk_54 6 (dk_at dksX0_alone_5 9 rfl rfl)
theorem dX0_alone_128 : decode cX0_alone 128 = .ok (.aload_n 0, 1) := dk_42 (dk_at dksX0_alone_5 11 rfl rfl)
theorem dX0_alone_129 : decode cX0_alone 129 = .ok (.getfield 38, 3) := dk_180 0 38 (dk_at dksX0_alone_5 12 rfl rfl)
theorem dX0_alone_132 : decode cX0_alone 132 = .ok (.iload 8, 2) := dk_21 8 (dk_at dksX0_alone_5 15 rfl rfl)
theorem dX0_alone_134 : decode cX0_alone 134 = .ok (.iconst 1, 1) := dk_4 (dk_at dksX0_alone_5 17 rfl rfl)
theorem dX0_alone_135 : decode cX0_alone 135 = .ok (.bastore, 1) := dk_84 (dk_at dksX0_alone_5 18 rfl rfl)
theorem dX0_alone_136 : decode cX0_alone 136 = .ok (.iload 7, 2) := dk_21 7 (dk_at dksX0_alone_5 19 rfl rfl)
theorem dX0_alone_138 : decode cX0_alone 138 = .ok (.ifCond .le 30, 3) := dk_158 0 30 (dk_at dksX0_alone_5 21 rfl rfl)
theorem dX0_alone_141 : decode cX0_alone 141 = .ok (.iload 5, 2) := dk_21 5 (dk_at dksX0_alone_6 0 rfl rfl)
theorem dX0_alone_143 : decode cX0_alone 143 = .ok (.ifCond .ge 25, 3) := dk_156 0 25 (dk_at dksX0_alone_6 2 rfl rfl)
theorem dX0_alone_146 : decode cX0_alone 146 = .ok (.iload 8, 2) := dk_21 8 (dk_at dksX0_alone_6 5 rfl rfl)
theorem dX0_alone_148 : decode cX0_alone 148 = .ok (.iload_n 1, 1) := dk_27 (dk_at dksX0_alone_6 7 rfl rfl)
theorem dX0_alone_149 : decode cX0_alone 149 = .ok (.if_icmp .ne 19, 3) := dk_160 0 19 (dk_at dksX0_alone_6 8 rfl rfl)
theorem dX0_alone_152 : decode cX0_alone 152 = .ok (.aload_n 0, 1) := dk_42 (dk_at dksX0_alone_6 11 rfl rfl)
theorem dX0_alone_153 : decode cX0_alone 153 = .ok (.getfield 34, 3) := dk_180 0 34 (dk_at dksX0_alone_6 12 rfl rfl)
theorem dX0_alone_156 : decode cX0_alone 156 = .ok (.invokevirtual 190, 3) := dk_182 0 190 (dk_at dksX0_alone_6 15 rfl rfl)
theorem dX0_alone_159 : decode cX0_alone 159 = .ok (.iload_n 2, 1) := dk_28 (dk_at dksX0_alone_6 18 rfl rfl)
theorem dX0_alone_160 : decode cX0_alone 160 = .ok (.if_icmp .ne 8, 3) := dk_160 0 8 (dk_at dksX0_alone_6 19 rfl rfl)
theorem dX0_alone_163 : decode cX0_alone 163 = .ok (.iload 7, 2) := dk_21 7 (dk_at dksX0_alone_6 22 rfl rfl)
theorem dX0_alone_165 : decode cX0_alone 165 = .ok (.goto 5, 3) := dk_167 0 5 (dk_at dksX0_alone_7 0 rfl rfl)
theorem dX0_alone_168 : decode cX0_alone 168 = .ok (.iload 5, 2) := dk_21 5 (dk_at dksX0_alone_7 3 rfl rfl)
theorem dX0_alone_170 : decode cX0_alone 170 = .ok (.istore 5, 2) := dk_54 5 (dk_at dksX0_alone_7 5 rfl rfl)
theorem dX0_alone_172 : decode cX0_alone 172 = .ok (.aload_n 0, 1) := dk_42 (dk_at dksX0_alone_7 7 rfl rfl)
theorem dX0_alone_173 : decode cX0_alone 173 = .ok (.getfield 34, 3) := dk_180 0 34 (dk_at dksX0_alone_7 8 rfl rfl)
theorem dX0_alone_176 : decode cX0_alone 176 = .ok (.invokevirtual 151, 3) := dk_182 0 151 (dk_at dksX0_alone_7 11 rfl rfl)
theorem dX0_alone_179 : decode cX0_alone 179 = .ok (.pop, 1) := dk_87 (dk_at dksX0_alone_7 14 rfl rfl)
theorem dX0_alone_180 : decode cX0_alone 180 = .ok (.aload_n 0, 1) := dk_42 (dk_at dksX0_alone_7 15 rfl rfl)
theorem dX0_alone_181 : decode cX0_alone 181 = .ok (.getfield 34, 3) := dk_180 0 34 (dk_at dksX0_alone_7 16 rfl rfl)
theorem dX0_alone_184 : decode cX0_alone 184 = .ok (.invokevirtual 156, 3) := dk_182 0 156 (dk_at dksX0_alone_7 19 rfl rfl)
theorem dX0_alone_187 : decode cX0_alone 187 = .ok (.iinc 7 1, 3) := dk_132 7 1 (dk_at dksX0_alone_8 0 rfl rfl)
theorem dX0_alone_190 : decode cX0_alone 190 = .ok (.goto (-101), 3) := dk_167 255 155 (dk_at dksX0_alone_8 3 rfl rfl)
theorem dX0_alone_193 : decode cX0_alone 193 = .ok (.iload 4, 2) := dk_21 4 (dk_at dksX0_alone_8 6 rfl rfl)
theorem dX0_alone_195 : decode cX0_alone 195 = .ok (.iconst 1, 1) := dk_4 (dk_at dksX0_alone_8 8 rfl rfl)
theorem dX0_alone_196 : decode cX0_alone 196 = .ok (.if_icmp .ne 8, 3) := dk_160 0 8 (dk_at dksX0_alone_8 9 rfl rfl)
theorem dX0_alone_199 : decode cX0_alone 199 = .ok (.iload 5, 2) := dk_21 5 (dk_at dksX0_alone_8 12 rfl rfl)
theorem dX0_alone_201 : decode cX0_alone 201 = .ok (.goto 5, 3) := dk_167 0 5 (dk_at dksX0_alone_8 14 rfl rfl)
theorem dX0_alone_204 : decode cX0_alone 204 = .ok (.iload 6, 2) := dk_21 6 (dk_at dksX0_alone_8 17 rfl rfl)
theorem dX0_alone_206 : decode cX0_alone 206 = .ok (.ireturn, 1) := dk_172 (dk_at dksX0_alone_8 19 rfl rfl)
abbrev cX0_isOpen : ByteArray := prog_1_method_26_code
def yX0_isOpen : MethodName := ⟨RX0, "isOpen", "(I)Z"⟩
def dkwX0_isOpen_0 : List UInt8 := [26, 184, 0, 69, 153, 0, 14, 26, 184, 0, 72, 154, 0, 7, 4, 167, 0, 4, 3, 172]
abbrev dktX0_isOpen_0 : List UInt8 := dkwX0_isOpen_0 ++ []
theorem dksX0_isOpen_0 : cX0_isOpen.data.toList.drop 0 = dktX0_isOpen_0 := by decide +kernel
theorem dX0_isOpen_0 : decode cX0_isOpen 0 = .ok (.iload_n 0, 1) := dk_26 (dk_at dksX0_isOpen_0 0 rfl rfl)
theorem dX0_isOpen_1 : decode cX0_isOpen 1 = .ok (.invokestatic 69, 3) := dk_184 0 69 (dk_at dksX0_isOpen_0 1 rfl rfl)
theorem dX0_isOpen_4 : decode cX0_isOpen 4 = .ok (.ifCond .eq 14, 3) := dk_153 0 14 (dk_at dksX0_isOpen_0 4 rfl rfl)
theorem dX0_isOpen_7 : decode cX0_isOpen 7 = .ok (.iload_n 0, 1) := dk_26 (dk_at dksX0_isOpen_0 7 rfl rfl)
theorem dX0_isOpen_8 : decode cX0_isOpen 8 = .ok (.invokestatic 72, 3) := dk_184 0 72 (dk_at dksX0_isOpen_0 8 rfl rfl)
theorem dX0_isOpen_11 : decode cX0_isOpen 11 = .ok (.ifCond .ne 7, 3) := dk_154 0 7 (dk_at dksX0_isOpen_0 11 rfl rfl)
theorem dX0_isOpen_14 : decode cX0_isOpen 14 = .ok (.iconst 1, 1) := dk_4 (dk_at dksX0_isOpen_0 14 rfl rfl)
theorem dX0_isOpen_15 : decode cX0_isOpen 15 = .ok (.goto 4, 3) := dk_167 0 4 (dk_at dksX0_isOpen_0 15 rfl rfl)
theorem dX0_isOpen_18 : decode cX0_isOpen 18 = .ok (.iconst 0, 1) := dk_3 (dk_at dksX0_isOpen_0 18 rfl rfl)
theorem dX0_isOpen_19 : decode cX0_isOpen 19 = .ok (.ireturn, 1) := dk_172 (dk_at dksX0_isOpen_0 19 rfl rfl)
abbrev cX0_walkAlone : ByteArray := prog_1_method_25_code
def yX0_walkAlone : MethodName := ⟨RX0, "walkAlone", "(III)V"⟩
def dkwX0_walkAlone_2 : List UInt8 := [42, 180, 0, 34, 182, 0, 156, 132, 5, 1, 167, 255, 231, 177]
abbrev dktX0_walkAlone_2 : List UInt8 := dkwX0_walkAlone_2 ++ []
def dkwX0_walkAlone_1 : List UInt8 := [167, 0, 4, 29, 54, 4, 3, 54, 5, 21, 5, 21, 4, 162, 0, 24, 42, 180, 0, 34, 182, 0, 151, 87]
abbrev dktX0_walkAlone_1 : List UInt8 := dkwX0_walkAlone_1 ++ dktX0_walkAlone_2
def dkwX0_walkAlone_0 : List UInt8 := [42, 180, 0, 34, 27, 28, 182, 0, 147, 29, 16, 32, 164, 0, 13, 16, 16, 29, 16, 16, 112, 96]
abbrev dktX0_walkAlone_0 : List UInt8 := dkwX0_walkAlone_0 ++ dktX0_walkAlone_1
theorem dksX0_walkAlone_0 : cX0_walkAlone.data.toList.drop 0 = dktX0_walkAlone_0 := by decide +kernel
theorem dksX0_walkAlone_1 : cX0_walkAlone.data.toList.drop 22 = dktX0_walkAlone_1 := dk_seg dksX0_walkAlone_0 22 rfl rfl
theorem dksX0_walkAlone_2 : cX0_walkAlone.data.toList.drop 46 = dktX0_walkAlone_2 := dk_seg dksX0_walkAlone_1 24 rfl rfl
theorem dX0_walkAlone_0 : decode cX0_walkAlone 0 = .ok (.aload_n 0, 1) := dk_42 (dk_at dksX0_walkAlone_0 0 rfl rfl)
theorem dX0_walkAlone_1 : decode cX0_walkAlone 1 = .ok (.getfield 34, 3) := dk_180 0 34 (dk_at dksX0_walkAlone_0 1 rfl rfl)
theorem dX0_walkAlone_4 : decode cX0_walkAlone 4 = .ok (.iload_n 1, 1) := dk_27 (dk_at dksX0_walkAlone_0 4 rfl rfl)
theorem dX0_walkAlone_5 : decode cX0_walkAlone 5 = .ok (.iload_n 2, 1) := dk_28 (dk_at dksX0_walkAlone_0 5 rfl rfl)
theorem dX0_walkAlone_6 : decode cX0_walkAlone 6 = .ok (.invokevirtual 147, 3) := dk_182 0 147 (dk_at dksX0_walkAlone_0 6 rfl rfl)
theorem dX0_walkAlone_9 : decode cX0_walkAlone 9 = .ok (.iload_n 3, 1) := dk_29 (dk_at dksX0_walkAlone_0 9 rfl rfl)
theorem dX0_walkAlone_10 : decode cX0_walkAlone 10 = .ok (.bipush 32, 2) := dk_16 32 (dk_at dksX0_walkAlone_0 10 rfl rfl)
theorem dX0_walkAlone_12 : decode cX0_walkAlone 12 = .ok (.if_icmp .le 13, 3) := dk_164 0 13 (dk_at dksX0_walkAlone_0 12 rfl rfl)
theorem dX0_walkAlone_15 : decode cX0_walkAlone 15 = .ok (.bipush 16, 2) := dk_16 16 (dk_at dksX0_walkAlone_0 15 rfl rfl)
theorem dX0_walkAlone_17 : decode cX0_walkAlone 17 = .ok (.iload_n 3, 1) := dk_29 (dk_at dksX0_walkAlone_0 17 rfl rfl)
theorem dX0_walkAlone_18 : decode cX0_walkAlone 18 = .ok (.bipush 16, 2) := dk_16 16 (dk_at dksX0_walkAlone_0 18 rfl rfl)
theorem dX0_walkAlone_20 : decode cX0_walkAlone 20 = .ok (.irem, 1) := dk_112 (dk_at dksX0_walkAlone_0 20 rfl rfl)
theorem dX0_walkAlone_21 : decode cX0_walkAlone 21 = .ok (.iadd, 1) := dk_96 (dk_at dksX0_walkAlone_0 21 rfl rfl)
theorem dX0_walkAlone_22 : decode cX0_walkAlone 22 = .ok (.goto 4, 3) := dk_167 0 4 (dk_at dksX0_walkAlone_1 0 rfl rfl)
theorem dX0_walkAlone_25 : decode cX0_walkAlone 25 = .ok (.iload_n 3, 1) := dk_29 (dk_at dksX0_walkAlone_1 3 rfl rfl)
theorem dX0_walkAlone_26 : decode cX0_walkAlone 26 = .ok (.istore 4, 2) := dk_54 4 (dk_at dksX0_walkAlone_1 4 rfl rfl)
theorem dX0_walkAlone_28 : decode cX0_walkAlone 28 = .ok (.iconst 0, 1) := dk_3 (dk_at dksX0_walkAlone_1 6 rfl rfl)
theorem dX0_walkAlone_29 : decode cX0_walkAlone 29 = .ok (.istore 5, 2) := dk_54 5 (dk_at dksX0_walkAlone_1 7 rfl rfl)
theorem dX0_walkAlone_31 : decode cX0_walkAlone 31 = .ok (.iload 5, 2) := dk_21 5 (dk_at dksX0_walkAlone_1 9 rfl rfl)
theorem dX0_walkAlone_33 : decode cX0_walkAlone 33 = .ok (.iload 4, 2) := dk_21 4 (dk_at dksX0_walkAlone_1 11 rfl rfl)
theorem dX0_walkAlone_35 : decode cX0_walkAlone 35 = .ok (.if_icmp .ge 24, 3) := dk_162 0 24 (dk_at dksX0_walkAlone_1 13 rfl rfl)
theorem dX0_walkAlone_38 : decode cX0_walkAlone 38 = .ok (.aload_n 0, 1) := dk_42 (dk_at dksX0_walkAlone_1 16 rfl rfl)
theorem dX0_walkAlone_39 : decode cX0_walkAlone 39 = .ok (.getfield 34, 3) := dk_180 0 34 (dk_at dksX0_walkAlone_1 17 rfl rfl)
theorem dX0_walkAlone_42 : decode cX0_walkAlone 42 = .ok (.invokevirtual 151, 3) := dk_182 0 151 (dk_at dksX0_walkAlone_1 20 rfl rfl)
theorem dX0_walkAlone_45 : decode cX0_walkAlone 45 = .ok (.pop, 1) := dk_87 (dk_at dksX0_walkAlone_1 23 rfl rfl)
theorem dX0_walkAlone_46 : decode cX0_walkAlone 46 = .ok (.aload_n 0, 1) := dk_42 (dk_at dksX0_walkAlone_2 0 rfl rfl)
theorem dX0_walkAlone_47 : decode cX0_walkAlone 47 = .ok (.getfield 34, 3) := dk_180 0 34 (dk_at dksX0_walkAlone_2 1 rfl rfl)
theorem dX0_walkAlone_50 : decode cX0_walkAlone 50 = .ok (.invokevirtual 156, 3) := dk_182 0 156 (dk_at dksX0_walkAlone_2 4 rfl rfl)
theorem dX0_walkAlone_53 : decode cX0_walkAlone 53 = .ok (.iinc 5 1, 3) := dk_132 5 1 (dk_at dksX0_walkAlone_2 7 rfl rfl)
theorem dX0_walkAlone_56 : decode cX0_walkAlone 56 = .ok (.goto (-25), 3) := dk_167 255 231 (dk_at dksX0_walkAlone_2 10 rfl rfl)
theorem dX0_walkAlone_59 : decode cX0_walkAlone 59 = .ok (.return_, 1) := dk_177 (dk_at dksX0_walkAlone_2 13 rfl rfl)
abbrev cX0_strokes : ByteArray := prog_1_method_29_code
def yX0_strokes : MethodName := ⟨RX0, "strokes", "(III)I"⟩
def dkwX0_strokes_5 : List UInt8 := [167, 0, 9, 42, 180, 0, 46, 28, 46, 172]
abbrev dktX0_strokes_5 : List UInt8 := dkwX0_strokes_5 ++ []
def dkwX0_strokes_4 : List UInt8 := [42, 180, 0, 42, 28, 46, 156, 0, 8, 16, 250, 167, 0, 22, 29, 154, 0, 12, 42, 180, 0, 42, 28, 46]
abbrev dktX0_strokes_4 : List UInt8 := dkwX0_strokes_4 ++ dktX0_strokes_5
def dkwX0_strokes_3 : List UInt8 := [42, 180, 0, 193, 162, 0, 20, 42, 42, 180, 0, 49, 21, 4, 46, 182, 0, 199, 132, 4, 1, 167, 255, 233]
abbrev dktX0_strokes_3 : List UInt8 := dkwX0_strokes_3 ++ dktX0_strokes_4
def dkwX0_strokes_2 : List UInt8 := [180, 0, 46, 27, 16, 250, 79, 42, 180, 0, 49, 3, 27, 79, 42, 4, 181, 0, 193, 3, 54, 4, 21, 4]
abbrev dktX0_strokes_2 : List UInt8 := dkwX0_strokes_2 ++ dktX0_strokes_3
def dkwX0_strokes_1 : List UInt8 := [154, 0, 6, 16, 254, 172, 42, 180, 0, 42, 16, 250, 184, 0, 196, 42, 180, 0, 42, 27, 3, 79, 42]
abbrev dktX0_strokes_1 : List UInt8 := dkwX0_strokes_1 ++ dktX0_strokes_2
def dkwX0_strokes_0 : List UInt8 := [27, 184, 0, 169, 153, 0, 10, 28, 184, 0, 169, 154, 0, 5, 2, 172, 29, 3, 4, 184, 0, 3]
abbrev dktX0_strokes_0 : List UInt8 := dkwX0_strokes_0 ++ dktX0_strokes_1
theorem dksX0_strokes_0 : cX0_strokes.data.toList.drop 0 = dktX0_strokes_0 := by decide +kernel
theorem dksX0_strokes_1 : cX0_strokes.data.toList.drop 22 = dktX0_strokes_1 := dk_seg dksX0_strokes_0 22 rfl rfl
theorem dksX0_strokes_2 : cX0_strokes.data.toList.drop 45 = dktX0_strokes_2 := dk_seg dksX0_strokes_1 23 rfl rfl
theorem dksX0_strokes_3 : cX0_strokes.data.toList.drop 69 = dktX0_strokes_3 := dk_seg dksX0_strokes_2 24 rfl rfl
theorem dksX0_strokes_4 : cX0_strokes.data.toList.drop 93 = dktX0_strokes_4 := dk_seg dksX0_strokes_3 24 rfl rfl
theorem dksX0_strokes_5 : cX0_strokes.data.toList.drop 117 = dktX0_strokes_5 := dk_seg dksX0_strokes_4 24 rfl rfl
theorem dX0_strokes_0 : decode cX0_strokes 0 = .ok (.iload_n 1, 1) := dk_27 (dk_at dksX0_strokes_0 0 rfl rfl)
theorem dX0_strokes_1 : decode cX0_strokes 1 = .ok (.invokestatic 169, 3) := dk_184 0 169 (dk_at dksX0_strokes_0 1 rfl rfl)
theorem dX0_strokes_4 : decode cX0_strokes 4 = .ok (.ifCond .eq 10, 3) := dk_153 0 10 (dk_at dksX0_strokes_0 4 rfl rfl)
theorem dX0_strokes_7 : decode cX0_strokes 7 = .ok (.iload_n 2, 1) := dk_28 (dk_at dksX0_strokes_0 7 rfl rfl)
theorem dX0_strokes_8 : decode cX0_strokes 8 = .ok (.invokestatic 169, 3) := dk_184 0 169 (dk_at dksX0_strokes_0 8 rfl rfl)
theorem dX0_strokes_11 : decode cX0_strokes 11 = .ok (.ifCond .ne 5, 3) := dk_154 0 5 (dk_at dksX0_strokes_0 11 rfl rfl)
theorem dX0_strokes_14 : decode cX0_strokes 14 = .ok (.iconst (-1), 1) := dk_2 (dk_at dksX0_strokes_0 14 rfl rfl)
theorem dX0_strokes_15 : decode cX0_strokes 15 = .ok (.ireturn, 1) := dk_172 (dk_at dksX0_strokes_0 15 rfl rfl)
theorem dX0_strokes_16 : decode cX0_strokes 16 = .ok (.iload_n 3, 1) := dk_29 (dk_at dksX0_strokes_0 16 rfl rfl)
theorem dX0_strokes_17 : decode cX0_strokes 17 = .ok (.iconst 0, 1) := dk_3 (dk_at dksX0_strokes_0 17 rfl rfl)
theorem dX0_strokes_18 : decode cX0_strokes 18 = .ok (.iconst 1, 1) := dk_4 (dk_at dksX0_strokes_0 18 rfl rfl)
theorem dX0_strokes_19 : decode cX0_strokes 19 = .ok (.invokestatic 3, 3) := dk_184 0 3 (dk_at dksX0_strokes_0 19 rfl rfl)
theorem dX0_strokes_22 : decode cX0_strokes 22 = .ok (.ifCond .ne 6, 3) := dk_154 0 6 (dk_at dksX0_strokes_1 0 rfl rfl)
theorem dX0_strokes_25 : decode cX0_strokes 25 = .ok (.bipush (-2), 2) := dk_16 254 (dk_at dksX0_strokes_1 3 rfl rfl)
theorem dX0_strokes_27 : decode cX0_strokes 27 = .ok (.ireturn, 1) := dk_172 (dk_at dksX0_strokes_1 5 rfl rfl)
theorem dX0_strokes_28 : decode cX0_strokes 28 = .ok (.aload_n 0, 1) := dk_42 (dk_at dksX0_strokes_1 6 rfl rfl)
theorem dX0_strokes_29 : decode cX0_strokes 29 = .ok (.getfield 42, 3) := dk_180 0 42 (dk_at dksX0_strokes_1 7 rfl rfl)
theorem dX0_strokes_32 : decode cX0_strokes 32 = .ok (.bipush (-6), 2) := dk_16 250 (dk_at dksX0_strokes_1 10 rfl rfl)
theorem dX0_strokes_34 : decode cX0_strokes 34 = .ok (.invokestatic 196, 3) := dk_184 0 196 (dk_at dksX0_strokes_1 12 rfl rfl)
theorem dX0_strokes_37 : decode cX0_strokes 37 = .ok (.aload_n 0, 1) := dk_42 (dk_at dksX0_strokes_1 15 rfl rfl)
theorem dX0_strokes_38 : decode cX0_strokes 38 = .ok (.getfield 42, 3) := dk_180 0 42 (dk_at dksX0_strokes_1 16 rfl rfl)
theorem dX0_strokes_41 : decode cX0_strokes 41 = .ok (.iload_n 1, 1) := dk_27 (dk_at dksX0_strokes_1 19 rfl rfl)
theorem dX0_strokes_42 : decode cX0_strokes 42 = .ok (.iconst 0, 1) := dk_3 (dk_at dksX0_strokes_1 20 rfl rfl)
theorem dX0_strokes_43 : decode cX0_strokes 43 = .ok (.iastore, 1) := dk_79 (dk_at dksX0_strokes_1 21 rfl rfl)
theorem dX0_strokes_44 : decode cX0_strokes 44 = .ok (.aload_n 0, 1) := dk_42 (dk_at dksX0_strokes_1 22 rfl rfl)
theorem dX0_strokes_45 : decode cX0_strokes 45 = .ok (.getfield 46, 3) := dk_180 0 46 (dk_at dksX0_strokes_2 0 rfl rfl)
theorem dX0_strokes_48 : decode cX0_strokes 48 = .ok (.iload_n 1, 1) := dk_27 (dk_at dksX0_strokes_2 3 rfl rfl)
theorem dX0_strokes_49 : decode cX0_strokes 49 = .ok (.bipush (-6), 2) := dk_16 250 (dk_at dksX0_strokes_2 4 rfl rfl)
theorem dX0_strokes_51 : decode cX0_strokes 51 = .ok (.iastore, 1) := dk_79 (dk_at dksX0_strokes_2 6 rfl rfl)
theorem dX0_strokes_52 : decode cX0_strokes 52 = .ok (.aload_n 0, 1) := dk_42 (dk_at dksX0_strokes_2 7 rfl rfl)
theorem dX0_strokes_53 : decode cX0_strokes 53 = .ok (.getfield 49, 3) := dk_180 0 49 (dk_at dksX0_strokes_2 8 rfl rfl)
theorem dX0_strokes_56 : decode cX0_strokes 56 = .ok (.iconst 0, 1) := dk_3 (dk_at dksX0_strokes_2 11 rfl rfl)
theorem dX0_strokes_57 : decode cX0_strokes 57 = .ok (.iload_n 1, 1) := dk_27 (dk_at dksX0_strokes_2 12 rfl rfl)
theorem dX0_strokes_58 : decode cX0_strokes 58 = .ok (.iastore, 1) := dk_79 (dk_at dksX0_strokes_2 13 rfl rfl)
theorem dX0_strokes_59 : decode cX0_strokes 59 = .ok (.aload_n 0, 1) := dk_42 (dk_at dksX0_strokes_2 14 rfl rfl)
theorem dX0_strokes_60 : decode cX0_strokes 60 = .ok (.iconst 1, 1) := dk_4 (dk_at dksX0_strokes_2 15 rfl rfl)
theorem dX0_strokes_61 : decode cX0_strokes 61 = .ok (.putfield 193, 3) := dk_181 0 193 (dk_at dksX0_strokes_2 16 rfl rfl)
theorem dX0_strokes_64 : decode cX0_strokes 64 = .ok (.iconst 0, 1) := dk_3 (dk_at dksX0_strokes_2 19 rfl rfl)
theorem dX0_strokes_65 : decode cX0_strokes 65 = .ok (.istore 4, 2) := dk_54 4 (dk_at dksX0_strokes_2 20 rfl rfl)
theorem dX0_strokes_67 : decode cX0_strokes 67 = .ok (.iload 4, 2) := dk_21 4 (dk_at dksX0_strokes_2 22 rfl rfl)
theorem dX0_strokes_69 : decode cX0_strokes 69 = .ok (.aload_n 0, 1) := dk_42 (dk_at dksX0_strokes_3 0 rfl rfl)
theorem dX0_strokes_70 : decode cX0_strokes 70 = .ok (.getfield 193, 3) := dk_180 0 193 (dk_at dksX0_strokes_3 1 rfl rfl)
theorem dX0_strokes_73 : decode cX0_strokes 73 = .ok (.if_icmp .ge 20, 3) := dk_162 0 20 (dk_at dksX0_strokes_3 4 rfl rfl)
theorem dX0_strokes_76 : decode cX0_strokes 76 = .ok (.aload_n 0, 1) := dk_42 (dk_at dksX0_strokes_3 7 rfl rfl)
theorem dX0_strokes_77 : decode cX0_strokes 77 = .ok (.aload_n 0, 1) := dk_42 (dk_at dksX0_strokes_3 8 rfl rfl)
theorem dX0_strokes_78 : decode cX0_strokes 78 = .ok (.getfield 49, 3) := dk_180 0 49 (dk_at dksX0_strokes_3 9 rfl rfl)
theorem dX0_strokes_81 : decode cX0_strokes 81 = .ok (.iload 4, 2) := dk_21 4 (dk_at dksX0_strokes_3 12 rfl rfl)
theorem dX0_strokes_83 : decode cX0_strokes 83 = .ok (.iaload, 1) := dk_46 (dk_at dksX0_strokes_3 14 rfl rfl)
theorem dX0_strokes_84 : decode cX0_strokes 84 = .ok (.invokevirtual 199, 3) := dk_182 0 199 (dk_at dksX0_strokes_3 15 rfl rfl)
theorem dX0_strokes_87 : decode cX0_strokes 87 = .ok (.iinc 4 1, 3) := dk_132 4 1 (dk_at dksX0_strokes_3 18 rfl rfl)
theorem dX0_strokes_90 : decode cX0_strokes 90 = .ok (.goto (-23), 3) := dk_167 255 233 (dk_at dksX0_strokes_3 21 rfl rfl)
theorem dX0_strokes_93 : decode cX0_strokes 93 = .ok (.aload_n 0, 1) := dk_42 (dk_at dksX0_strokes_4 0 rfl rfl)
theorem dX0_strokes_94 : decode cX0_strokes 94 = .ok (.getfield 42, 3) := dk_180 0 42 (dk_at dksX0_strokes_4 1 rfl rfl)
theorem dX0_strokes_97 : decode cX0_strokes 97 = .ok (.iload_n 2, 1) := dk_28 (dk_at dksX0_strokes_4 4 rfl rfl)
theorem dX0_strokes_98 : decode cX0_strokes 98 = .ok (.iaload, 1) := dk_46 (dk_at dksX0_strokes_4 5 rfl rfl)
theorem dX0_strokes_99 : decode cX0_strokes 99 = .ok (.ifCond .ge 8, 3) := dk_156 0 8 (dk_at dksX0_strokes_4 6 rfl rfl)
theorem dX0_strokes_102 : decode cX0_strokes 102 = .ok (.bipush (-6), 2) := dk_16 250 (dk_at dksX0_strokes_4 9 rfl rfl)
theorem dX0_strokes_104 : decode cX0_strokes 104 = .ok (.goto 22, 3) := dk_167 0 22 (dk_at dksX0_strokes_4 11 rfl rfl)
theorem dX0_strokes_107 : decode cX0_strokes 107 = .ok (.iload_n 3, 1) := dk_29 (dk_at dksX0_strokes_4 14 rfl rfl)
theorem dX0_strokes_108 : decode cX0_strokes 108 = .ok (.ifCond .ne 12, 3) := dk_154 0 12 (dk_at dksX0_strokes_4 15 rfl rfl)
theorem dX0_strokes_111 : decode cX0_strokes 111 = .ok (.aload_n 0, 1) := dk_42 (dk_at dksX0_strokes_4 18 rfl rfl)
theorem dX0_strokes_112 : decode cX0_strokes 112 = .ok (.getfield 42, 3) := dk_180 0 42 (dk_at dksX0_strokes_4 19 rfl rfl)
theorem dX0_strokes_115 : decode cX0_strokes 115 = .ok (.iload_n 2, 1) := dk_28 (dk_at dksX0_strokes_4 22 rfl rfl)
theorem dX0_strokes_116 : decode cX0_strokes 116 = .ok (.iaload, 1) := dk_46 (dk_at dksX0_strokes_4 23 rfl rfl)
theorem dX0_strokes_117 : decode cX0_strokes 117 = .ok (.goto 9, 3) := dk_167 0 9 (dk_at dksX0_strokes_5 0 rfl rfl)
theorem dX0_strokes_120 : decode cX0_strokes 120 = .ok (.aload_n 0, 1) := dk_42 (dk_at dksX0_strokes_5 3 rfl rfl)
theorem dX0_strokes_121 : decode cX0_strokes 121 = .ok (.getfield 46, 3) := dk_180 0 46 (dk_at dksX0_strokes_5 4 rfl rfl)
theorem dX0_strokes_124 : decode cX0_strokes 124 = .ok (.iload_n 2, 1) := dk_28 (dk_at dksX0_strokes_5 7 rfl rfl)
theorem dX0_strokes_125 : decode cX0_strokes 125 = .ok (.iaload, 1) := dk_46 (dk_at dksX0_strokes_5 8 rfl rfl)
theorem dX0_strokes_126 : decode cX0_strokes 126 = .ok (.ireturn, 1) := dk_172 (dk_at dksX0_strokes_5 9 rfl rfl)
abbrev cX0_reachFrom : ByteArray := prog_1_method_28_code
def yX0_reachFrom : MethodName := ⟨RX0, "reachFrom", "(I)V"⟩
def dkwX0_reachFrom_5 : List UInt8 := [180, 0, 193, 4, 96, 181, 0, 193, 132, 3, 1, 167, 255, 148, 132, 2, 1, 167, 255, 125, 177]
abbrev dktX0_reachFrom_5 : List UInt8 := dkwX0_reachFrom_5 ++ []
def dkwX0_reachFrom_4 : List UInt8 := [167, 0, 9, 42, 180, 0, 46, 27, 46, 79, 42, 180, 0, 49, 42, 180, 0, 193, 21, 4, 79, 42, 89]
abbrev dktX0_reachFrom_4 : List UInt8 := dkwX0_reachFrom_4 ++ dktX0_reachFrom_5
def dkwX0_reachFrom_3 : List UInt8 := [180, 0, 42, 27, 46, 4, 96, 79, 42, 180, 0, 46, 21, 4, 42, 180, 0, 42, 27, 46, 154, 0, 7, 28]
abbrev dktX0_reachFrom_3 : List UInt8 := dkwX0_reachFrom_3 ++ dktX0_reachFrom_4
def dkwX0_reachFrom_2 : List UInt8 := [180, 0, 34, 182, 0, 156, 42, 180, 0, 42, 21, 4, 46, 156, 0, 65, 42, 180, 0, 42, 21, 4, 42]
abbrev dktX0_reachFrom_2 : List UInt8 := dkwX0_reachFrom_2 ++ dktX0_reachFrom_3
def dkwX0_reachFrom_1 : List UInt8 := [163, 0, 108, 42, 180, 0, 34, 182, 0, 151, 54, 4, 21, 4, 184, 0, 72, 153, 0, 6, 167, 0, 88, 42]
abbrev dktX0_reachFrom_1 : List UInt8 := dkwX0_reachFrom_1 ++ dktX0_reachFrom_2
def dkwX0_reachFrom_0 : List UInt8 := [3, 61, 28, 16, 8, 162, 0, 131, 42, 180, 0, 34, 27, 28, 182, 0, 147, 4, 62, 29, 16, 9]
abbrev dktX0_reachFrom_0 : List UInt8 := dkwX0_reachFrom_0 ++ dktX0_reachFrom_1
theorem dksX0_reachFrom_0 : cX0_reachFrom.data.toList.drop 0 = dktX0_reachFrom_0 := by decide +kernel
theorem dksX0_reachFrom_1 : cX0_reachFrom.data.toList.drop 22 = dktX0_reachFrom_1 := dk_seg dksX0_reachFrom_0 22 rfl rfl
theorem dksX0_reachFrom_2 : cX0_reachFrom.data.toList.drop 46 = dktX0_reachFrom_2 := dk_seg dksX0_reachFrom_1 24 rfl rfl
theorem dksX0_reachFrom_3 : cX0_reachFrom.data.toList.drop 69 = dktX0_reachFrom_3 := dk_seg dksX0_reachFrom_2 23 rfl rfl
theorem dksX0_reachFrom_4 : cX0_reachFrom.data.toList.drop 93 = dktX0_reachFrom_4 := dk_seg dksX0_reachFrom_3 24 rfl rfl
theorem dksX0_reachFrom_5 : cX0_reachFrom.data.toList.drop 116 = dktX0_reachFrom_5 := dk_seg dksX0_reachFrom_4 23 rfl rfl
theorem dX0_reachFrom_0 : decode cX0_reachFrom 0 = .ok (.iconst 0, 1) := dk_3 (dk_at dksX0_reachFrom_0 0 rfl rfl)
theorem dX0_reachFrom_1 : decode cX0_reachFrom 1 = .ok (.istore_n 2, 1) := dk_61 (dk_at dksX0_reachFrom_0 1 rfl rfl)
theorem dX0_reachFrom_2 : decode cX0_reachFrom 2 = .ok (.iload_n 2, 1) := dk_28 (dk_at dksX0_reachFrom_0 2 rfl rfl)
theorem dX0_reachFrom_3 : decode cX0_reachFrom 3 = .ok (.bipush 8, 2) := dk_16 8 (dk_at dksX0_reachFrom_0 3 rfl rfl)
theorem dX0_reachFrom_5 : decode cX0_reachFrom 5 = .ok (.if_icmp .ge 131, 3) := dk_162 0 131 (dk_at dksX0_reachFrom_0 5 rfl rfl)
theorem dX0_reachFrom_8 : decode cX0_reachFrom 8 = .ok (.aload_n 0, 1) := dk_42 (dk_at dksX0_reachFrom_0 8 rfl rfl)
theorem dX0_reachFrom_9 : decode cX0_reachFrom 9 = .ok (.getfield 34, 3) := dk_180 0 34 (dk_at dksX0_reachFrom_0 9 rfl rfl)
theorem dX0_reachFrom_12 : decode cX0_reachFrom 12 = .ok (.iload_n 1, 1) := dk_27 (dk_at dksX0_reachFrom_0 12 rfl rfl)
theorem dX0_reachFrom_13 : decode cX0_reachFrom 13 = .ok (.iload_n 2, 1) := dk_28 (dk_at dksX0_reachFrom_0 13 rfl rfl)
theorem dX0_reachFrom_14 : decode cX0_reachFrom 14 = .ok (.invokevirtual 147, 3) := dk_182 0 147 (dk_at dksX0_reachFrom_0 14 rfl rfl)
theorem dX0_reachFrom_17 : decode cX0_reachFrom 17 = .ok (.iconst 1, 1) := dk_4 (dk_at dksX0_reachFrom_0 17 rfl rfl)
theorem dX0_reachFrom_18 : decode cX0_reachFrom 18 = .ok (.istore_n 3, 1) := dk_62 (dk_at dksX0_reachFrom_0 18 rfl rfl)
theorem dX0_reachFrom_19 : decode cX0_reachFrom 19 = .ok (.iload_n 3, 1) := dk_29 (dk_at dksX0_reachFrom_0 19 rfl rfl)
theorem dX0_reachFrom_20 : decode cX0_reachFrom 20 = .ok (.bipush 9, 2) := dk_16 9 (dk_at dksX0_reachFrom_0 20 rfl rfl)
theorem dX0_reachFrom_22 : decode cX0_reachFrom 22 = .ok (.if_icmp .gt 108, 3) := dk_163 0 108 (dk_at dksX0_reachFrom_1 0 rfl rfl)
theorem dX0_reachFrom_25 : decode cX0_reachFrom 25 = .ok (.aload_n 0, 1) := dk_42 (dk_at dksX0_reachFrom_1 3 rfl rfl)
theorem dX0_reachFrom_26 : decode cX0_reachFrom 26 = .ok (.getfield 34, 3) := dk_180 0 34 (dk_at dksX0_reachFrom_1 4 rfl rfl)
theorem dX0_reachFrom_29 : decode cX0_reachFrom 29 = .ok (.invokevirtual 151, 3) := dk_182 0 151 (dk_at dksX0_reachFrom_1 7 rfl rfl)
theorem dX0_reachFrom_32 : decode cX0_reachFrom 32 = .ok (.istore 4, 2) := dk_54 4 (dk_at dksX0_reachFrom_1 10 rfl rfl)
theorem dX0_reachFrom_34 : decode cX0_reachFrom 34 = .ok (.iload 4, 2) := dk_21 4 (dk_at dksX0_reachFrom_1 12 rfl rfl)
theorem dX0_reachFrom_36 : decode cX0_reachFrom 36 = .ok (.invokestatic 72, 3) := dk_184 0 72 (dk_at dksX0_reachFrom_1 14 rfl rfl)
theorem dX0_reachFrom_39 : decode cX0_reachFrom 39 = .ok (.ifCond .eq 6, 3) := dk_153 0 6 (dk_at dksX0_reachFrom_1 17 rfl rfl)
theorem dX0_reachFrom_42 : decode cX0_reachFrom 42 = .ok (.goto 88, 3) := dk_167 0 88 (dk_at dksX0_reachFrom_1 20 rfl rfl)
theorem dX0_reachFrom_45 : decode cX0_reachFrom 45 = .ok (.aload_n 0, 1) := dk_42 (dk_at dksX0_reachFrom_1 23 rfl rfl)
theorem dX0_reachFrom_46 : decode cX0_reachFrom 46 = .ok (.getfield 34, 3) := dk_180 0 34 (dk_at dksX0_reachFrom_2 0 rfl rfl)
theorem dX0_reachFrom_49 : decode cX0_reachFrom 49 = .ok (.invokevirtual 156, 3) := dk_182 0 156 (dk_at dksX0_reachFrom_2 3 rfl rfl)
theorem dX0_reachFrom_52 : decode cX0_reachFrom 52 = .ok (.aload_n 0, 1) := dk_42 (dk_at dksX0_reachFrom_2 6 rfl rfl)
theorem dX0_reachFrom_53 : decode cX0_reachFrom 53 = .ok (.getfield 42, 3) := dk_180 0 42 (dk_at dksX0_reachFrom_2 7 rfl rfl)
theorem dX0_reachFrom_56 : decode cX0_reachFrom 56 = .ok (.iload 4, 2) := dk_21 4 (dk_at dksX0_reachFrom_2 10 rfl rfl)
theorem dX0_reachFrom_58 : decode cX0_reachFrom 58 = .ok (.iaload, 1) := dk_46 (dk_at dksX0_reachFrom_2 12 rfl rfl)
theorem dX0_reachFrom_59 : decode cX0_reachFrom 59 = .ok (.ifCond .ge 65, 3) := dk_156 0 65 (dk_at dksX0_reachFrom_2 13 rfl rfl)
theorem dX0_reachFrom_62 : decode cX0_reachFrom 62 = .ok (.aload_n 0, 1) := dk_42 (dk_at dksX0_reachFrom_2 16 rfl rfl)
theorem dX0_reachFrom_63 : decode cX0_reachFrom 63 = .ok (.getfield 42, 3) := dk_180 0 42 (dk_at dksX0_reachFrom_2 17 rfl rfl)
theorem dX0_reachFrom_66 : decode cX0_reachFrom 66 = .ok (.iload 4, 2) := dk_21 4 (dk_at dksX0_reachFrom_2 20 rfl rfl)
theorem dX0_reachFrom_68 : decode cX0_reachFrom 68 = .ok (.aload_n 0, 1) := dk_42 (dk_at dksX0_reachFrom_2 22 rfl rfl)
theorem dX0_reachFrom_69 : decode cX0_reachFrom 69 = .ok (.getfield 42, 3) := dk_180 0 42 (dk_at dksX0_reachFrom_3 0 rfl rfl)
theorem dX0_reachFrom_72 : decode cX0_reachFrom 72 = .ok (.iload_n 1, 1) := dk_27 (dk_at dksX0_reachFrom_3 3 rfl rfl)
theorem dX0_reachFrom_73 : decode cX0_reachFrom 73 = .ok (.iaload, 1) := dk_46 (dk_at dksX0_reachFrom_3 4 rfl rfl)
theorem dX0_reachFrom_74 : decode cX0_reachFrom 74 = .ok (.iconst 1, 1) := dk_4 (dk_at dksX0_reachFrom_3 5 rfl rfl)
theorem dX0_reachFrom_75 : decode cX0_reachFrom 75 = .ok (.iadd, 1) := dk_96 (dk_at dksX0_reachFrom_3 6 rfl rfl)
theorem dX0_reachFrom_76 : decode cX0_reachFrom 76 = .ok (.iastore, 1) := dk_79 (dk_at dksX0_reachFrom_3 7 rfl rfl)
theorem dX0_reachFrom_77 : decode cX0_reachFrom 77 = .ok (.aload_n 0, 1) := dk_42 (dk_at dksX0_reachFrom_3 8 rfl rfl)
theorem dX0_reachFrom_78 : decode cX0_reachFrom 78 = .ok (.getfield 46, 3) := dk_180 0 46 (dk_at dksX0_reachFrom_3 9 rfl rfl)
theorem dX0_reachFrom_81 : decode cX0_reachFrom 81 = .ok (.iload 4, 2) := dk_21 4 (dk_at dksX0_reachFrom_3 12 rfl rfl)
theorem dX0_reachFrom_83 : decode cX0_reachFrom 83 = .ok (.aload_n 0, 1) := dk_42 (dk_at dksX0_reachFrom_3 14 rfl rfl)
theorem dX0_reachFrom_84 : decode cX0_reachFrom 84 = .ok (.getfield 42, 3) := dk_180 0 42 (dk_at dksX0_reachFrom_3 15 rfl rfl)
theorem dX0_reachFrom_87 : decode cX0_reachFrom 87 = .ok (.iload_n 1, 1) := dk_27 (dk_at dksX0_reachFrom_3 18 rfl rfl)
theorem dX0_reachFrom_88 : decode cX0_reachFrom 88 = .ok (.iaload, 1) := dk_46 (dk_at dksX0_reachFrom_3 19 rfl rfl)
theorem dX0_reachFrom_89 : decode cX0_reachFrom 89 = .ok (.ifCond .ne 7, 3) := dk_154 0 7 (dk_at dksX0_reachFrom_3 20 rfl rfl)
theorem dX0_reachFrom_92 : decode cX0_reachFrom 92 = .ok (.iload_n 2, 1) := dk_28 (dk_at dksX0_reachFrom_3 23 rfl rfl)
theorem dX0_reachFrom_93 : decode cX0_reachFrom 93 = .ok (.goto 9, 3) := dk_167 0 9 (dk_at dksX0_reachFrom_4 0 rfl rfl)
theorem dX0_reachFrom_96 : decode cX0_reachFrom 96 = .ok (.aload_n 0, 1) := dk_42 (dk_at dksX0_reachFrom_4 3 rfl rfl)
theorem dX0_reachFrom_97 : decode cX0_reachFrom 97 = .ok (.getfield 46, 3) := dk_180 0 46 (dk_at dksX0_reachFrom_4 4 rfl rfl)
theorem dX0_reachFrom_100 : decode cX0_reachFrom 100 = .ok (.iload_n 1, 1) := dk_27 (dk_at dksX0_reachFrom_4 7 rfl rfl)
theorem dX0_reachFrom_101 : decode cX0_reachFrom 101 = .ok (.iaload, 1) := dk_46 (dk_at dksX0_reachFrom_4 8 rfl rfl)
theorem dX0_reachFrom_102 : decode cX0_reachFrom 102 = .ok (.iastore, 1) := dk_79 (dk_at dksX0_reachFrom_4 9 rfl rfl)
theorem dX0_reachFrom_103 : decode cX0_reachFrom 103 = .ok (.aload_n 0, 1) := dk_42 (dk_at dksX0_reachFrom_4 10 rfl rfl)
theorem dX0_reachFrom_104 : decode cX0_reachFrom 104 = .ok (.getfield 49, 3) := dk_180 0 49 (dk_at dksX0_reachFrom_4 11 rfl rfl)
theorem dX0_reachFrom_107 : decode cX0_reachFrom 107 = .ok (.aload_n 0, 1) := dk_42 (dk_at dksX0_reachFrom_4 14 rfl rfl)
theorem dX0_reachFrom_108 : decode cX0_reachFrom 108 = .ok (.getfield 193, 3) := dk_180 0 193 (dk_at dksX0_reachFrom_4 15 rfl rfl)
theorem dX0_reachFrom_111 : decode cX0_reachFrom 111 = .ok (.iload 4, 2) := dk_21 4 (dk_at dksX0_reachFrom_4 18 rfl rfl)
theorem dX0_reachFrom_113 : decode cX0_reachFrom 113 = .ok (.iastore, 1) := dk_79 (dk_at dksX0_reachFrom_4 20 rfl rfl)
theorem dX0_reachFrom_114 : decode cX0_reachFrom 114 = .ok (.aload_n 0, 1) := dk_42 (dk_at dksX0_reachFrom_4 21 rfl rfl)
theorem dX0_reachFrom_115 : decode cX0_reachFrom 115 = .ok (.dup, 1) := dk_89 (dk_at dksX0_reachFrom_4 22 rfl rfl)
theorem dX0_reachFrom_116 : decode cX0_reachFrom 116 = .ok (.getfield 193, 3) := dk_180 0 193 (dk_at dksX0_reachFrom_5 0 rfl rfl)
theorem dX0_reachFrom_119 : decode cX0_reachFrom 119 = .ok (.iconst 1, 1) := dk_4 (dk_at dksX0_reachFrom_5 3 rfl rfl)
theorem dX0_reachFrom_120 : decode cX0_reachFrom 120 = .ok (.iadd, 1) := dk_96 (dk_at dksX0_reachFrom_5 4 rfl rfl)
theorem dX0_reachFrom_121 : decode cX0_reachFrom 121 = .ok (.putfield 193, 3) := dk_181 0 193 (dk_at dksX0_reachFrom_5 5 rfl rfl)
theorem dX0_reachFrom_124 : decode cX0_reachFrom 124 = .ok (.iinc 3 1, 3) := dk_132 3 1 (dk_at dksX0_reachFrom_5 8 rfl rfl)
theorem dX0_reachFrom_127 : decode cX0_reachFrom 127 = .ok (.goto (-108), 3) := dk_167 255 148 (dk_at dksX0_reachFrom_5 11 rfl rfl)
theorem dX0_reachFrom_130 : decode cX0_reachFrom 130 = .ok (.iinc 2 1, 3) := dk_132 2 1 (dk_at dksX0_reachFrom_5 14 rfl rfl)
theorem dX0_reachFrom_133 : decode cX0_reachFrom 133 = .ok (.goto (-131), 3) := dk_167 255 125 (dk_at dksX0_reachFrom_5 17 rfl rfl)
theorem dX0_reachFrom_136 : decode cX0_reachFrom 136 = .ok (.return_, 1) := dk_177 (dk_at dksX0_reachFrom_5 20 rfl rfl)
abbrev cX0_seen : ByteArray := prog_1_method_30_code
def yX0_seen : MethodName := ⟨RX0, "seen", "(II)I"⟩
def dkwX0_seen_3 : List UInt8 := [42, 180, 0, 16, 89, 180, 0, 203, 4, 96, 181, 0, 203, 42, 180, 0, 16, 180, 0, 203, 172]
abbrev dktX0_seen_3 : List UInt8 := dkwX0_seen_3 ++ []
def dkwX0_seen_2 : List UInt8 := [180, 0, 16, 180, 0, 203, 27, 79, 42, 180, 0, 16, 180, 0, 209, 42, 180, 0, 16, 180, 0, 203, 28, 79]
abbrev dktX0_seen_2 : List UInt8 := dkwX0_seen_2 ++ dktX0_seen_3
def dkwX0_seen_1 : List UInt8 := [180, 0, 16, 180, 0, 203, 16, 8, 160, 0, 6, 16, 252, 172, 42, 180, 0, 16, 180, 0, 206, 42]
abbrev dktX0_seen_1 : List UInt8 := dkwX0_seen_1 ++ dktX0_seen_2
def dkwX0_seen_0 : List UInt8 := [28, 184, 0, 69, 154, 0, 5, 2, 172, 27, 3, 16, 60, 184, 0, 3, 154, 0, 6, 16, 254, 172, 42]
abbrev dktX0_seen_0 : List UInt8 := dkwX0_seen_0 ++ dktX0_seen_1
theorem dksX0_seen_0 : cX0_seen.data.toList.drop 0 = dktX0_seen_0 := by decide +kernel
theorem dksX0_seen_1 : cX0_seen.data.toList.drop 23 = dktX0_seen_1 := dk_seg dksX0_seen_0 23 rfl rfl
theorem dksX0_seen_2 : cX0_seen.data.toList.drop 45 = dktX0_seen_2 := dk_seg dksX0_seen_1 22 rfl rfl
theorem dksX0_seen_3 : cX0_seen.data.toList.drop 69 = dktX0_seen_3 := dk_seg dksX0_seen_2 24 rfl rfl
theorem dX0_seen_0 : decode cX0_seen 0 = .ok (.iload_n 2, 1) := dk_28 (dk_at dksX0_seen_0 0 rfl rfl)
theorem dX0_seen_1 : decode cX0_seen 1 = .ok (.invokestatic 69, 3) := dk_184 0 69 (dk_at dksX0_seen_0 1 rfl rfl)
theorem dX0_seen_4 : decode cX0_seen 4 = .ok (.ifCond .ne 5, 3) := dk_154 0 5 (dk_at dksX0_seen_0 4 rfl rfl)
theorem dX0_seen_7 : decode cX0_seen 7 = .ok (.iconst (-1), 1) := dk_2 (dk_at dksX0_seen_0 7 rfl rfl)
theorem dX0_seen_8 : decode cX0_seen 8 = .ok (.ireturn, 1) := dk_172 (dk_at dksX0_seen_0 8 rfl rfl)
theorem dX0_seen_9 : decode cX0_seen 9 = .ok (.iload_n 1, 1) := dk_27 (dk_at dksX0_seen_0 9 rfl rfl)
theorem dX0_seen_10 : decode cX0_seen 10 = .ok (.iconst 0, 1) := dk_3 (dk_at dksX0_seen_0 10 rfl rfl)
theorem dX0_seen_11 : decode cX0_seen 11 = .ok (.bipush 60, 2) := dk_16 60 (dk_at dksX0_seen_0 11 rfl rfl)
theorem dX0_seen_13 : decode cX0_seen 13 = .ok (.invokestatic 3, 3) := dk_184 0 3 (dk_at dksX0_seen_0 13 rfl rfl)
theorem dX0_seen_16 : decode cX0_seen 16 = .ok (.ifCond .ne 6, 3) := dk_154 0 6 (dk_at dksX0_seen_0 16 rfl rfl)
theorem dX0_seen_19 : decode cX0_seen 19 = .ok (.bipush (-2), 2) := dk_16 254 (dk_at dksX0_seen_0 19 rfl rfl)
theorem dX0_seen_21 : decode cX0_seen 21 = .ok (.ireturn, 1) := dk_172 (dk_at dksX0_seen_0 21 rfl rfl)
theorem dX0_seen_22 : decode cX0_seen 22 = .ok (.aload_n 0, 1) := dk_42 (dk_at dksX0_seen_0 22 rfl rfl)
theorem dX0_seen_23 : decode cX0_seen 23 = .ok (.getfield 16, 3) := dk_180 0 16 (dk_at dksX0_seen_1 0 rfl rfl)
theorem dX0_seen_26 : decode cX0_seen 26 = .ok (.getfield 203, 3) := dk_180 0 203 (dk_at dksX0_seen_1 3 rfl rfl)
theorem dX0_seen_29 : decode cX0_seen 29 = .ok (.bipush 8, 2) := dk_16 8 (dk_at dksX0_seen_1 6 rfl rfl)
theorem dX0_seen_31 : decode cX0_seen 31 = .ok (.if_icmp .ne 6, 3) := dk_160 0 6 (dk_at dksX0_seen_1 8 rfl rfl)
theorem dX0_seen_34 : decode cX0_seen 34 = .ok (.bipush (-4), 2) := dk_16 252 (dk_at dksX0_seen_1 11 rfl rfl)
theorem dX0_seen_36 : decode cX0_seen 36 = .ok (.ireturn, 1) := dk_172 (dk_at dksX0_seen_1 13 rfl rfl)
theorem dX0_seen_37 : decode cX0_seen 37 = .ok (.aload_n 0, 1) := dk_42 (dk_at dksX0_seen_1 14 rfl rfl)
theorem dX0_seen_38 : decode cX0_seen 38 = .ok (.getfield 16, 3) := dk_180 0 16 (dk_at dksX0_seen_1 15 rfl rfl)
theorem dX0_seen_41 : decode cX0_seen 41 = .ok (.getfield 206, 3) := dk_180 0 206 (dk_at dksX0_seen_1 18 rfl rfl)
theorem dX0_seen_44 : decode cX0_seen 44 = .ok (.aload_n 0, 1) := dk_42 (dk_at dksX0_seen_1 21 rfl rfl)
theorem dX0_seen_45 : decode cX0_seen 45 = .ok (.getfield 16, 3) := dk_180 0 16 (dk_at dksX0_seen_2 0 rfl rfl)
theorem dX0_seen_48 : decode cX0_seen 48 = .ok (.getfield 203, 3) := dk_180 0 203 (dk_at dksX0_seen_2 3 rfl rfl)
theorem dX0_seen_51 : decode cX0_seen 51 = .ok (.iload_n 1, 1) := dk_27 (dk_at dksX0_seen_2 6 rfl rfl)
theorem dX0_seen_52 : decode cX0_seen 52 = .ok (.iastore, 1) := dk_79 (dk_at dksX0_seen_2 7 rfl rfl)
theorem dX0_seen_53 : decode cX0_seen 53 = .ok (.aload_n 0, 1) := dk_42 (dk_at dksX0_seen_2 8 rfl rfl)
theorem dX0_seen_54 : decode cX0_seen 54 = .ok (.getfield 16, 3) := dk_180 0 16 (dk_at dksX0_seen_2 9 rfl rfl)
theorem dX0_seen_57 : decode cX0_seen 57 = .ok (.getfield 209, 3) := dk_180 0 209 (dk_at dksX0_seen_2 12 rfl rfl)
theorem dX0_seen_60 : decode cX0_seen 60 = .ok (.aload_n 0, 1) := dk_42 (dk_at dksX0_seen_2 15 rfl rfl)
theorem dX0_seen_61 : decode cX0_seen 61 = .ok (.getfield 16, 3) := dk_180 0 16 (dk_at dksX0_seen_2 16 rfl rfl)
theorem dX0_seen_64 : decode cX0_seen 64 = .ok (.getfield 203, 3) := dk_180 0 203 (dk_at dksX0_seen_2 19 rfl rfl)
theorem dX0_seen_67 : decode cX0_seen 67 = .ok (.iload_n 2, 1) := dk_28 (dk_at dksX0_seen_2 22 rfl rfl)
theorem dX0_seen_68 : decode cX0_seen 68 = .ok (.iastore, 1) := dk_79 (dk_at dksX0_seen_2 23 rfl rfl)
theorem dX0_seen_69 : decode cX0_seen 69 = .ok (.aload_n 0, 1) := dk_42 (dk_at dksX0_seen_3 0 rfl rfl)
theorem dX0_seen_70 : decode cX0_seen 70 = .ok (.getfield 16, 3) := dk_180 0 16 (dk_at dksX0_seen_3 1 rfl rfl)
theorem dX0_seen_73 : decode cX0_seen 73 = .ok (.dup, 1) := dk_89 (dk_at dksX0_seen_3 4 rfl rfl)
theorem dX0_seen_74 : decode cX0_seen 74 = .ok (.getfield 203, 3) := dk_180 0 203 (dk_at dksX0_seen_3 5 rfl rfl)
theorem dX0_seen_77 : decode cX0_seen 77 = .ok (.iconst 1, 1) := dk_4 (dk_at dksX0_seen_3 8 rfl rfl)
theorem dX0_seen_78 : decode cX0_seen 78 = .ok (.iadd, 1) := dk_96 (dk_at dksX0_seen_3 9 rfl rfl)
theorem dX0_seen_79 : decode cX0_seen 79 = .ok (.putfield 203, 3) := dk_181 0 203 (dk_at dksX0_seen_3 10 rfl rfl)
theorem dX0_seen_82 : decode cX0_seen 82 = .ok (.aload_n 0, 1) := dk_42 (dk_at dksX0_seen_3 13 rfl rfl)
theorem dX0_seen_83 : decode cX0_seen 83 = .ok (.getfield 16, 3) := dk_180 0 16 (dk_at dksX0_seen_3 14 rfl rfl)
theorem dX0_seen_86 : decode cX0_seen 86 = .ok (.getfield 203, 3) := dk_180 0 203 (dk_at dksX0_seen_3 17 rfl rfl)
theorem dX0_seen_89 : decode cX0_seen 89 = .ok (.ireturn, 1) := dk_172 (dk_at dksX0_seen_3 20 rfl rfl)
abbrev cX0_forget : ByteArray := prog_1_method_31_code
def yX0_forget : MethodName := ⟨RX0, "forget", "()I"⟩
def dkwX0_forget_0 : List UInt8 := [42, 180, 0, 16, 180, 0, 203, 60, 42, 180, 0, 16, 3, 181, 0, 203, 27, 172]
abbrev dktX0_forget_0 : List UInt8 := dkwX0_forget_0 ++ []
theorem dksX0_forget_0 : cX0_forget.data.toList.drop 0 = dktX0_forget_0 := by decide +kernel
theorem dX0_forget_0 : decode cX0_forget 0 = .ok (.aload_n 0, 1) := dk_42 (dk_at dksX0_forget_0 0 rfl rfl)
theorem dX0_forget_1 : decode cX0_forget 1 = .ok (.getfield 16, 3) := dk_180 0 16 (dk_at dksX0_forget_0 1 rfl rfl)
theorem dX0_forget_4 : decode cX0_forget 4 = .ok (.getfield 203, 3) := dk_180 0 203 (dk_at dksX0_forget_0 4 rfl rfl)
theorem dX0_forget_7 : decode cX0_forget 7 = .ok (.istore_n 1, 1) := dk_60 (dk_at dksX0_forget_0 7 rfl rfl)
theorem dX0_forget_8 : decode cX0_forget 8 = .ok (.aload_n 0, 1) := dk_42 (dk_at dksX0_forget_0 8 rfl rfl)
theorem dX0_forget_9 : decode cX0_forget 9 = .ok (.getfield 16, 3) := dk_180 0 16 (dk_at dksX0_forget_0 9 rfl rfl)
theorem dX0_forget_12 : decode cX0_forget 12 = .ok (.iconst 0, 1) := dk_3 (dk_at dksX0_forget_0 12 rfl rfl)
theorem dX0_forget_13 : decode cX0_forget 13 = .ok (.putfield 203, 3) := dk_181 0 203 (dk_at dksX0_forget_0 13 rfl rfl)
theorem dX0_forget_16 : decode cX0_forget 16 = .ok (.iload_n 1, 1) := dk_27 (dk_at dksX0_forget_0 16 rfl rfl)
theorem dX0_forget_17 : decode cX0_forget 17 = .ok (.ireturn, 1) := dk_172 (dk_at dksX0_forget_0 17 rfl rfl)
abbrev cX0_sent : ByteArray := prog_1_method_34_code
def yX0_sent : MethodName := ⟨RX0, "sent", "(I)I"⟩
def dkwX0_sent_1 : List UInt8 := [29, 172, 132, 2, 1, 132, 3, 1, 167, 255, 228, 27, 2, 160, 0, 7, 28, 167, 0, 5, 16, 250, 172]
abbrev dktX0_sent_1 : List UInt8 := dkwX0_sent_1 ++ []
def dkwX0_sent_0 : List UInt8 := [3, 61, 3, 62, 29, 17, 1, 194, 162, 0, 27, 42, 29, 182, 0, 215, 153, 0, 13, 28, 27, 160, 0, 5]
abbrev dktX0_sent_0 : List UInt8 := dkwX0_sent_0 ++ dktX0_sent_1
theorem dksX0_sent_0 : cX0_sent.data.toList.drop 0 = dktX0_sent_0 := by decide +kernel
theorem dksX0_sent_1 : cX0_sent.data.toList.drop 24 = dktX0_sent_1 := dk_seg dksX0_sent_0 24 rfl rfl
theorem dX0_sent_0 : decode cX0_sent 0 = .ok (.iconst 0, 1) := dk_3 (dk_at dksX0_sent_0 0 rfl rfl)
theorem dX0_sent_1 : decode cX0_sent 1 = .ok (.istore_n 2, 1) := dk_61 (dk_at dksX0_sent_0 1 rfl rfl)
theorem dX0_sent_2 : decode cX0_sent 2 = .ok (.iconst 0, 1) := dk_3 (dk_at dksX0_sent_0 2 rfl rfl)
theorem dX0_sent_3 : decode cX0_sent 3 = .ok (.istore_n 3, 1) := dk_62 (dk_at dksX0_sent_0 3 rfl rfl)
theorem dX0_sent_4 : decode cX0_sent 4 = .ok (.iload_n 3, 1) := dk_29 (dk_at dksX0_sent_0 4 rfl rfl)
theorem dX0_sent_5 : decode cX0_sent 5 = .ok (.sipush 450, 3) := dk_17 1 194 (dk_at dksX0_sent_0 5 rfl rfl)
theorem dX0_sent_8 : decode cX0_sent 8 = .ok (.if_icmp .ge 27, 3) := dk_162 0 27 (dk_at dksX0_sent_0 8 rfl rfl)
theorem dX0_sent_11 : decode cX0_sent 11 = .ok (.aload_n 0, 1) := dk_42 (dk_at dksX0_sent_0 11 rfl rfl)
theorem dX0_sent_12 : decode cX0_sent 12 = .ok (.iload_n 3, 1) := dk_29 (dk_at dksX0_sent_0 12 rfl rfl)
theorem dX0_sent_13 : decode cX0_sent 13 = .ok (.invokevirtual 215, 3) := dk_182 0 215 (dk_at dksX0_sent_0 13 rfl rfl)
theorem dX0_sent_16 : decode cX0_sent 16 = .ok (.ifCond .eq 13, 3) := dk_153 0 13 (dk_at dksX0_sent_0 16 rfl rfl)
theorem dX0_sent_19 : decode cX0_sent 19 = .ok (.iload_n 2, 1) := dk_28 (dk_at dksX0_sent_0 19 rfl rfl)
theorem dX0_sent_20 : decode cX0_sent 20 = .ok (.iload_n 1, 1) := dk_27 (dk_at dksX0_sent_0 20 rfl rfl)
theorem dX0_sent_21 : decode cX0_sent 21 = .ok (.if_icmp .ne 5, 3) := dk_160 0 5 (dk_at dksX0_sent_0 21 rfl rfl)
theorem dX0_sent_24 : decode cX0_sent 24 = .ok (.iload_n 3, 1) := dk_29 (dk_at dksX0_sent_1 0 rfl rfl)
theorem dX0_sent_25 : decode cX0_sent 25 = .ok (.ireturn, 1) := dk_172 (dk_at dksX0_sent_1 1 rfl rfl)
theorem dX0_sent_26 : decode cX0_sent 26 = .ok (.iinc 2 1, 3) := dk_132 2 1 (dk_at dksX0_sent_1 2 rfl rfl)
theorem dX0_sent_29 : decode cX0_sent 29 = .ok (.iinc 3 1, 3) := dk_132 3 1 (dk_at dksX0_sent_1 5 rfl rfl)
theorem dX0_sent_32 : decode cX0_sent 32 = .ok (.goto (-28), 3) := dk_167 255 228 (dk_at dksX0_sent_1 8 rfl rfl)
theorem dX0_sent_35 : decode cX0_sent 35 = .ok (.iload_n 1, 1) := dk_27 (dk_at dksX0_sent_1 11 rfl rfl)
theorem dX0_sent_36 : decode cX0_sent 36 = .ok (.iconst (-1), 1) := dk_2 (dk_at dksX0_sent_1 12 rfl rfl)
theorem dX0_sent_37 : decode cX0_sent 37 = .ok (.if_icmp .ne 7, 3) := dk_160 0 7 (dk_at dksX0_sent_1 13 rfl rfl)
theorem dX0_sent_40 : decode cX0_sent 40 = .ok (.iload_n 2, 1) := dk_28 (dk_at dksX0_sent_1 16 rfl rfl)
theorem dX0_sent_41 : decode cX0_sent 41 = .ok (.goto 5, 3) := dk_167 0 5 (dk_at dksX0_sent_1 17 rfl rfl)
theorem dX0_sent_44 : decode cX0_sent 44 = .ok (.bipush (-6), 2) := dk_16 250 (dk_at dksX0_sent_1 20 rfl rfl)
theorem dX0_sent_46 : decode cX0_sent 46 = .ok (.ireturn, 1) := dk_172 (dk_at dksX0_sent_1 22 rfl rfl)
abbrev cX0_canBe : ByteArray := prog_1_method_33_code
def yX0_canBe : MethodName := ⟨RX0, "canBe", "(I)Z"⟩
def dkwX0_canBe_3 : List UInt8 := [3, 61, 132, 3, 1, 167, 255, 206, 28, 172]
abbrev dktX0_canBe_3 : List UInt8 := dkwX0_canBe_3 ++ []
def dkwX0_canBe_2 : List UInt8 := [180, 0, 206, 29, 46, 182, 0, 212, 42, 180, 0, 16, 180, 0, 209, 29, 46, 160, 0, 7, 4, 167, 0, 4]
abbrev dktX0_canBe_2 : List UInt8 := dkwX0_canBe_2 ++ dktX0_canBe_3
def dkwX0_canBe_1 : List UInt8 := [61, 3, 62, 29, 42, 180, 0, 16, 180, 0, 203, 162, 0, 45, 28, 153, 0, 41, 42, 27, 42, 180, 0, 16]
abbrev dktX0_canBe_1 : List UInt8 := dkwX0_canBe_1 ++ dktX0_canBe_2
def dkwX0_canBe_0 : List UInt8 := [27, 16, 10, 112, 16, 8, 162, 0, 17, 27, 16, 10, 108, 184, 0, 169, 153, 0, 7, 4, 167, 0, 4, 3]
abbrev dktX0_canBe_0 : List UInt8 := dkwX0_canBe_0 ++ dktX0_canBe_1
theorem dksX0_canBe_0 : cX0_canBe.data.toList.drop 0 = dktX0_canBe_0 := by decide +kernel
theorem dksX0_canBe_1 : cX0_canBe.data.toList.drop 24 = dktX0_canBe_1 := dk_seg dksX0_canBe_0 24 rfl rfl
theorem dksX0_canBe_2 : cX0_canBe.data.toList.drop 48 = dktX0_canBe_2 := dk_seg dksX0_canBe_1 24 rfl rfl
theorem dksX0_canBe_3 : cX0_canBe.data.toList.drop 72 = dktX0_canBe_3 := dk_seg dksX0_canBe_2 24 rfl rfl
theorem dX0_canBe_0 : decode cX0_canBe 0 = .ok (.iload_n 1, 1) := dk_27 (dk_at dksX0_canBe_0 0 rfl rfl)
theorem dX0_canBe_1 : decode cX0_canBe 1 = .ok (.bipush 10, 2) := dk_16 10 (dk_at dksX0_canBe_0 1 rfl rfl)
theorem dX0_canBe_3 : decode cX0_canBe 3 = .ok (.irem, 1) := dk_112 (dk_at dksX0_canBe_0 3 rfl rfl)
theorem dX0_canBe_4 : decode cX0_canBe 4 = .ok (.bipush 8, 2) := dk_16 8 (dk_at dksX0_canBe_0 4 rfl rfl)
theorem dX0_canBe_6 : decode cX0_canBe 6 = .ok (.if_icmp .ge 17, 3) := dk_162 0 17 (dk_at dksX0_canBe_0 6 rfl rfl)
theorem dX0_canBe_9 : decode cX0_canBe 9 = .ok (.iload_n 1, 1) := dk_27 (dk_at dksX0_canBe_0 9 rfl rfl)
theorem dX0_canBe_10 : decode cX0_canBe 10 = .ok (.bipush 10, 2) := dk_16 10 (dk_at dksX0_canBe_0 10 rfl rfl)
theorem dX0_canBe_12 : decode cX0_canBe 12 = .ok (.idiv, 1) := dk_108 (dk_at dksX0_canBe_0 12 rfl rfl)
theorem dX0_canBe_13 : decode cX0_canBe 13 = .ok (.invokestatic 169, 3) := dk_184 0 169 (dk_at dksX0_canBe_0 13 rfl rfl)
theorem dX0_canBe_16 : decode cX0_canBe 16 = .ok (.ifCond .eq 7, 3) := dk_153 0 7 (dk_at dksX0_canBe_0 16 rfl rfl)
theorem dX0_canBe_19 : decode cX0_canBe 19 = .ok (.iconst 1, 1) := dk_4 (dk_at dksX0_canBe_0 19 rfl rfl)
theorem dX0_canBe_20 : decode cX0_canBe 20 = .ok (.goto 4, 3) := dk_167 0 4 (dk_at dksX0_canBe_0 20 rfl rfl)
theorem dX0_canBe_23 : decode cX0_canBe 23 = .ok (.iconst 0, 1) := dk_3 (dk_at dksX0_canBe_0 23 rfl rfl)
theorem dX0_canBe_24 : decode cX0_canBe 24 = .ok (.istore_n 2, 1) := dk_61 (dk_at dksX0_canBe_1 0 rfl rfl)
theorem dX0_canBe_25 : decode cX0_canBe 25 = .ok (.iconst 0, 1) := dk_3 (dk_at dksX0_canBe_1 1 rfl rfl)
theorem dX0_canBe_26 : decode cX0_canBe 26 = .ok (.istore_n 3, 1) := dk_62 (dk_at dksX0_canBe_1 2 rfl rfl)
theorem dX0_canBe_27 : decode cX0_canBe 27 = .ok (.iload_n 3, 1) := dk_29 (dk_at dksX0_canBe_1 3 rfl rfl)
theorem dX0_canBe_28 : decode cX0_canBe 28 = .ok (.aload_n 0, 1) := dk_42 (dk_at dksX0_canBe_1 4 rfl rfl)
theorem dX0_canBe_29 : decode cX0_canBe 29 = .ok (.getfield 16, 3) := dk_180 0 16 (dk_at dksX0_canBe_1 5 rfl rfl)
theorem dX0_canBe_32 : decode cX0_canBe 32 = .ok (.getfield 203, 3) := dk_180 0 203 (dk_at dksX0_canBe_1 8 rfl rfl)
theorem dX0_canBe_35 : decode cX0_canBe 35 = .ok (.if_icmp .ge 45, 3) := dk_162 0 45 (dk_at dksX0_canBe_1 11 rfl rfl)
theorem dX0_canBe_38 : decode cX0_canBe 38 = .ok (.iload_n 2, 1) := dk_28 (dk_at dksX0_canBe_1 14 rfl rfl)
theorem dX0_canBe_39 : decode cX0_canBe 39 = .ok (.ifCond .eq 41, 3) := dk_153 0 41 (dk_at dksX0_canBe_1 15 rfl rfl)
theorem dX0_canBe_42 : decode cX0_canBe 42 = .ok (.aload_n 0, 1) := dk_42 (dk_at dksX0_canBe_1 18 rfl rfl)
theorem dX0_canBe_43 : decode cX0_canBe 43 = .ok (.iload_n 1, 1) := dk_27 (dk_at dksX0_canBe_1 19 rfl rfl)
theorem dX0_canBe_44 : decode cX0_canBe 44 = .ok (.aload_n 0, 1) := dk_42 (dk_at dksX0_canBe_1 20 rfl rfl)
theorem dX0_canBe_45 : decode cX0_canBe 45 = .ok (.getfield 16, 3) := dk_180 0 16 (dk_at dksX0_canBe_1 21 rfl rfl)
theorem dX0_canBe_48 : decode cX0_canBe 48 = .ok (.getfield 206, 3) := dk_180 0 206 (dk_at dksX0_canBe_2 0 rfl rfl)
theorem dX0_canBe_51 : decode cX0_canBe 51 = .ok (.iload_n 3, 1) := dk_29 (dk_at dksX0_canBe_2 3 rfl rfl)
theorem dX0_canBe_52 : decode cX0_canBe 52 = .ok (.iaload, 1) := dk_46 (dk_at dksX0_canBe_2 4 rfl rfl)
theorem dX0_canBe_53 : decode cX0_canBe 53 = .ok (.invokevirtual 212, 3) := dk_182 0 212 (dk_at dksX0_canBe_2 5 rfl rfl)
theorem dX0_canBe_56 : decode cX0_canBe 56 = .ok (.aload_n 0, 1) := dk_42 (dk_at dksX0_canBe_2 8 rfl rfl)
theorem dX0_canBe_57 : decode cX0_canBe 57 = .ok (.getfield 16, 3) := dk_180 0 16 (dk_at dksX0_canBe_2 9 rfl rfl)
theorem dX0_canBe_60 : decode cX0_canBe 60 = .ok (.getfield 209, 3) := dk_180 0 209 (dk_at dksX0_canBe_2 12 rfl rfl)
theorem dX0_canBe_63 : decode cX0_canBe 63 = .ok (.iload_n 3, 1) := dk_29 (dk_at dksX0_canBe_2 15 rfl rfl)
theorem dX0_canBe_64 : decode cX0_canBe 64 = .ok (.iaload, 1) := dk_46 (dk_at dksX0_canBe_2 16 rfl rfl)
theorem dX0_canBe_65 : decode cX0_canBe 65 = .ok (.if_icmp .ne 7, 3) := dk_160 0 7 (dk_at dksX0_canBe_2 17 rfl rfl)
theorem dX0_canBe_68 : decode cX0_canBe 68 = .ok (.iconst 1, 1) := dk_4 (dk_at dksX0_canBe_2 20 rfl rfl)
theorem dX0_canBe_69 : decode cX0_canBe 69 = .ok (.goto 4, 3) := dk_167 0 4 (dk_at dksX0_canBe_2 21 rfl rfl)
theorem dX0_canBe_72 : decode cX0_canBe 72 = .ok (.iconst 0, 1) := dk_3 (dk_at dksX0_canBe_3 0 rfl rfl)
theorem dX0_canBe_73 : decode cX0_canBe 73 = .ok (.istore_n 2, 1) := dk_61 (dk_at dksX0_canBe_3 1 rfl rfl)
theorem dX0_canBe_74 : decode cX0_canBe 74 = .ok (.iinc 3 1, 3) := dk_132 3 1 (dk_at dksX0_canBe_3 2 rfl rfl)
theorem dX0_canBe_77 : decode cX0_canBe 77 = .ok (.goto (-50), 3) := dk_167 255 206 (dk_at dksX0_canBe_3 5 rfl rfl)
theorem dX0_canBe_80 : decode cX0_canBe 80 = .ok (.iload_n 2, 1) := dk_28 (dk_at dksX0_canBe_3 8 rfl rfl)
theorem dX0_canBe_81 : decode cX0_canBe 81 = .ok (.ireturn, 1) := dk_172 (dk_at dksX0_canBe_3 9 rfl rfl)
abbrev cX0_cellAfter : ByteArray := prog_1_method_32_code
def yX0_cellAfter : MethodName := ⟨RX0, "cellAfter", "(II)I"⟩
def dkwX0_cellAfter_0 : List UInt8 := [42, 27, 16, 10, 108, 27, 16, 10, 112, 28, 182, 0, 173, 42, 180, 0, 34, 182, 0, 177, 172]
abbrev dktX0_cellAfter_0 : List UInt8 := dkwX0_cellAfter_0 ++ []
theorem dksX0_cellAfter_0 : cX0_cellAfter.data.toList.drop 0 = dktX0_cellAfter_0 := by decide +kernel
theorem dX0_cellAfter_0 : decode cX0_cellAfter 0 = .ok (.aload_n 0, 1) := dk_42 (dk_at dksX0_cellAfter_0 0 rfl rfl)
theorem dX0_cellAfter_1 : decode cX0_cellAfter 1 = .ok (.iload_n 1, 1) := dk_27 (dk_at dksX0_cellAfter_0 1 rfl rfl)
theorem dX0_cellAfter_2 : decode cX0_cellAfter 2 = .ok (.bipush 10, 2) := dk_16 10 (dk_at dksX0_cellAfter_0 2 rfl rfl)
theorem dX0_cellAfter_4 : decode cX0_cellAfter 4 = .ok (.idiv, 1) := dk_108 (dk_at dksX0_cellAfter_0 4 rfl rfl)
theorem dX0_cellAfter_5 : decode cX0_cellAfter 5 = .ok (.iload_n 1, 1) := dk_27 (dk_at dksX0_cellAfter_0 5 rfl rfl)
theorem dX0_cellAfter_6 : decode cX0_cellAfter 6 = .ok (.bipush 10, 2) := dk_16 10 (dk_at dksX0_cellAfter_0 6 rfl rfl)
theorem dX0_cellAfter_8 : decode cX0_cellAfter 8 = .ok (.irem, 1) := dk_112 (dk_at dksX0_cellAfter_0 8 rfl rfl)
theorem dX0_cellAfter_9 : decode cX0_cellAfter 9 = .ok (.iload_n 2, 1) := dk_28 (dk_at dksX0_cellAfter_0 9 rfl rfl)
theorem dX0_cellAfter_10 : decode cX0_cellAfter 10 = .ok (.invokevirtual 173, 3) := dk_182 0 173 (dk_at dksX0_cellAfter_0 10 rfl rfl)
theorem dX0_cellAfter_13 : decode cX0_cellAfter 13 = .ok (.aload_n 0, 1) := dk_42 (dk_at dksX0_cellAfter_0 13 rfl rfl)
theorem dX0_cellAfter_14 : decode cX0_cellAfter 14 = .ok (.getfield 34, 3) := dk_180 0 34 (dk_at dksX0_cellAfter_0 14 rfl rfl)
theorem dX0_cellAfter_17 : decode cX0_cellAfter 17 = .ok (.invokevirtual 177, 3) := dk_182 0 177 (dk_at dksX0_cellAfter_0 17 rfl rfl)
theorem dX0_cellAfter_20 : decode cX0_cellAfter 20 = .ok (.ireturn, 1) := dk_172 (dk_at dksX0_cellAfter_0 20 rfl rfl)
abbrev cX0_ask : ByteArray := prog_1_method_35_code
def yX0_ask : MethodName := ⟨RX0, "ask", "(I)I"⟩
def dkwX0_ask_7 : List UInt8 := [155, 0, 7, 27, 154, 0, 7, 29, 167, 0, 5, 21, 4, 172]
abbrev dktX0_ask_7 : List UInt8 := dkwX0_ask_7 ++ []
def dkwX0_ask_6 : List UInt8 := [21, 5, 167, 0, 4, 29, 62, 21, 4, 21, 6, 184, 0, 163, 54, 4, 132, 5, 1, 167, 255, 153, 29]
abbrev dktX0_ask_6 : List UInt8 := dkwX0_ask_6 ++ dktX0_ask_7
def dkwX0_ask_5 : List UInt8 := [180, 0, 55, 21, 8, 46, 184, 0, 218, 54, 6, 132, 7, 1, 167, 255, 207, 21, 6, 21, 4, 162, 0, 8]
abbrev dktX0_ask_5 : List UInt8 := dkwX0_ask_5 ++ dktX0_ask_6
def dkwX0_ask_4 : List UInt8 := [21, 7, 46, 21, 5, 182, 0, 212, 54, 8, 42, 180, 0, 55, 21, 8, 92, 46, 4, 96, 79, 21, 6, 42]
abbrev dktX0_ask_4 : List UInt8 := dkwX0_ask_4 ++ dktX0_ask_5
def dkwX0_ask_3 : List UInt8 := [180, 0, 55, 3, 184, 0, 196, 3, 54, 6, 3, 54, 7, 21, 7, 28, 162, 0, 49, 42, 42, 180, 0, 52]
abbrev dktX0_ask_3 : List UInt8 := dkwX0_ask_3 ++ dktX0_ask_4
def dkwX0_ask_2 : List UInt8 := [16, 250, 62, 18, 155, 54, 4, 3, 54, 5, 21, 5, 16, 60, 163, 0, 102, 28, 158, 0, 98, 42]
abbrev dktX0_ask_2 : List UInt8 := dkwX0_ask_2 ++ dktX0_ask_3
def dkwX0_ask_1 : List UInt8 := [29, 182, 0, 215, 153, 0, 13, 42, 180, 0, 52, 28, 29, 79, 132, 2, 1, 132, 3, 1, 167, 255, 228]
abbrev dktX0_ask_1 : List UInt8 := dkwX0_ask_1 ++ dktX0_ask_2
def dkwX0_ask_0 : List UInt8 := [27, 3, 4, 184, 0, 3, 154, 0, 6, 16, 254, 172, 3, 61, 3, 62, 29, 17, 1, 194, 162, 0, 27, 42]
abbrev dktX0_ask_0 : List UInt8 := dkwX0_ask_0 ++ dktX0_ask_1
theorem dksX0_ask_0 : cX0_ask.data.toList.drop 0 = dktX0_ask_0 := by decide +kernel
theorem dksX0_ask_1 : cX0_ask.data.toList.drop 24 = dktX0_ask_1 := dk_seg dksX0_ask_0 24 rfl rfl
theorem dksX0_ask_2 : cX0_ask.data.toList.drop 47 = dktX0_ask_2 := dk_seg dksX0_ask_1 23 rfl rfl
theorem dksX0_ask_3 : cX0_ask.data.toList.drop 69 = dktX0_ask_3 := dk_seg dksX0_ask_2 22 rfl rfl
theorem dksX0_ask_4 : cX0_ask.data.toList.drop 93 = dktX0_ask_4 := dk_seg dksX0_ask_3 24 rfl rfl
theorem dksX0_ask_5 : cX0_ask.data.toList.drop 117 = dktX0_ask_5 := dk_seg dksX0_ask_4 24 rfl rfl
theorem dksX0_ask_6 : cX0_ask.data.toList.drop 141 = dktX0_ask_6 := dk_seg dksX0_ask_5 24 rfl rfl
theorem dksX0_ask_7 : cX0_ask.data.toList.drop 164 = dktX0_ask_7 := dk_seg dksX0_ask_6 23 rfl rfl
theorem dX0_ask_0 : decode cX0_ask 0 = .ok (.iload_n 1, 1) := dk_27 (dk_at dksX0_ask_0 0 rfl rfl)
theorem dX0_ask_1 : decode cX0_ask 1 = .ok (.iconst 0, 1) := dk_3 (dk_at dksX0_ask_0 1 rfl rfl)
theorem dX0_ask_2 : decode cX0_ask 2 = .ok (.iconst 1, 1) := dk_4 (dk_at dksX0_ask_0 2 rfl rfl)
theorem dX0_ask_3 : decode cX0_ask 3 = .ok (.invokestatic 3, 3) := dk_184 0 3 (dk_at dksX0_ask_0 3 rfl rfl)
theorem dX0_ask_6 : decode cX0_ask 6 = .ok (.ifCond .ne 6, 3) := dk_154 0 6 (dk_at dksX0_ask_0 6 rfl rfl)
theorem dX0_ask_9 : decode cX0_ask 9 = .ok (.bipush (-2), 2) := dk_16 254 (dk_at dksX0_ask_0 9 rfl rfl)
theorem dX0_ask_11 : decode cX0_ask 11 = .ok (.ireturn, 1) := dk_172 (dk_at dksX0_ask_0 11 rfl rfl)
theorem dX0_ask_12 : decode cX0_ask 12 = .ok (.iconst 0, 1) := dk_3 (dk_at dksX0_ask_0 12 rfl rfl)
theorem dX0_ask_13 : decode cX0_ask 13 = .ok (.istore_n 2, 1) := dk_61 (dk_at dksX0_ask_0 13 rfl rfl)
theorem dX0_ask_14 : decode cX0_ask 14 = .ok (.iconst 0, 1) := dk_3 (dk_at dksX0_ask_0 14 rfl rfl)
theorem dX0_ask_15 : decode cX0_ask 15 = .ok (.istore_n 3, 1) := dk_62 (dk_at dksX0_ask_0 15 rfl rfl)
theorem dX0_ask_16 : decode cX0_ask 16 = .ok (.iload_n 3, 1) := dk_29 (dk_at dksX0_ask_0 16 rfl rfl)
theorem dX0_ask_17 : decode cX0_ask 17 = .ok (.sipush 450, 3) := dk_17 1 194 (dk_at dksX0_ask_0 17 rfl rfl)
theorem dX0_ask_20 : decode cX0_ask 20 = .ok (.if_icmp .ge 27, 3) := dk_162 0 27 (dk_at dksX0_ask_0 20 rfl rfl)
theorem dX0_ask_23 : decode cX0_ask 23 = .ok (.aload_n 0, 1) := dk_42 (dk_at dksX0_ask_0 23 rfl rfl)
theorem dX0_ask_24 : decode cX0_ask 24 = .ok (.iload_n 3, 1) := dk_29 (dk_at dksX0_ask_1 0 rfl rfl)
theorem dX0_ask_25 : decode cX0_ask 25 = .ok (.invokevirtual 215, 3) := dk_182 0 215 (dk_at dksX0_ask_1 1 rfl rfl)
theorem dX0_ask_28 : decode cX0_ask 28 = .ok (.ifCond .eq 13, 3) := dk_153 0 13 (dk_at dksX0_ask_1 4 rfl rfl)
theorem dX0_ask_31 : decode cX0_ask 31 = .ok (.aload_n 0, 1) := dk_42 (dk_at dksX0_ask_1 7 rfl rfl)
theorem dX0_ask_32 : decode cX0_ask 32 = .ok (.getfield 52, 3) := dk_180 0 52 (dk_at dksX0_ask_1 8 rfl rfl)
theorem dX0_ask_35 : decode cX0_ask 35 = .ok (.iload_n 2, 1) := dk_28 (dk_at dksX0_ask_1 11 rfl rfl)
theorem dX0_ask_36 : decode cX0_ask 36 = .ok (.iload_n 3, 1) := dk_29 (dk_at dksX0_ask_1 12 rfl rfl)
theorem dX0_ask_37 : decode cX0_ask 37 = .ok (.iastore, 1) := dk_79 (dk_at dksX0_ask_1 13 rfl rfl)
theorem dX0_ask_38 : decode cX0_ask 38 = .ok (.iinc 2 1, 3) := dk_132 2 1 (dk_at dksX0_ask_1 14 rfl rfl)
theorem dX0_ask_41 : decode cX0_ask 41 = .ok (.iinc 3 1, 3) := dk_132 3 1 (dk_at dksX0_ask_1 17 rfl rfl)
theorem dX0_ask_44 : decode cX0_ask 44 = .ok (.goto (-28), 3) := dk_167 255 228 (dk_at dksX0_ask_1 20 rfl rfl)
theorem dX0_ask_47 : decode cX0_ask 47 = .ok (.bipush (-6), 2) := dk_16 250 (dk_at dksX0_ask_2 0 rfl rfl)
theorem dX0_ask_49 : decode cX0_ask 49 = .ok (.istore_n 3, 1) := dk_62 (dk_at dksX0_ask_2 2 rfl rfl)
theorem dX0_ask_50 : decode cX0_ask 50 = .ok (.ldc 155, 2) := dk_18 155 (dk_at dksX0_ask_2 3 rfl rfl)
theorem dX0_ask_52 : decode cX0_ask 52 = .ok (.istore 4, 2) := dk_54 4 (dk_at dksX0_ask_2 5 rfl rfl)
theorem dX0_ask_54 : decode cX0_ask 54 = .ok (.iconst 0, 1) := dk_3 (dk_at dksX0_ask_2 7 rfl rfl)
theorem dX0_ask_55 : decode cX0_ask 55 = .ok (.istore 5, 2) := dk_54 5 (dk_at dksX0_ask_2 8 rfl rfl)
theorem dX0_ask_57 : decode cX0_ask 57 = .ok (.iload 5, 2) := dk_21 5 (dk_at dksX0_ask_2 10 rfl rfl)
theorem dX0_ask_59 : decode cX0_ask 59 = .ok (.bipush 60, 2) := dk_16 60 (dk_at dksX0_ask_2 12 rfl rfl)
theorem dX0_ask_61 : decode cX0_ask 61 = .ok (.if_icmp .gt 102, 3) := dk_163 0 102 (dk_at dksX0_ask_2 14 rfl rfl)
theorem dX0_ask_64 : decode cX0_ask 64 = .ok (.iload_n 2, 1) := dk_28 (dk_at dksX0_ask_2 17 rfl rfl)
theorem dX0_ask_65 : decode cX0_ask 65 = .ok (.ifCond .le 98, 3) := dk_158 0 98 (dk_at dksX0_ask_2 18 rfl rfl)
theorem dX0_ask_68 : decode cX0_ask 68 = .ok (.aload_n 0, 1) := dk_42 (dk_at dksX0_ask_2 21 rfl rfl)
theorem dX0_ask_69 : decode cX0_ask 69 = .ok (.getfield 55, 3) := dk_180 0 55 (dk_at dksX0_ask_3 0 rfl rfl)
theorem dX0_ask_72 : decode cX0_ask 72 = .ok (.iconst 0, 1) := dk_3 (dk_at dksX0_ask_3 3 rfl rfl)
theorem dX0_ask_73 : decode cX0_ask 73 = .ok (.invokestatic 196, 3) := dk_184 0 196 (dk_at dksX0_ask_3 4 rfl rfl)
theorem dX0_ask_76 : decode cX0_ask 76 = .ok (.iconst 0, 1) := dk_3 (dk_at dksX0_ask_3 7 rfl rfl)
theorem dX0_ask_77 : decode cX0_ask 77 = .ok (.istore 6, 2) := dk_54 6 (dk_at dksX0_ask_3 8 rfl rfl)
theorem dX0_ask_79 : decode cX0_ask 79 = .ok (.iconst 0, 1) := dk_3 (dk_at dksX0_ask_3 10 rfl rfl)
theorem dX0_ask_80 : decode cX0_ask 80 = .ok (.istore 7, 2) := dk_54 7 (dk_at dksX0_ask_3 11 rfl rfl)
theorem dX0_ask_82 : decode cX0_ask 82 = .ok (.iload 7, 2) := dk_21 7 (dk_at dksX0_ask_3 13 rfl rfl)
theorem dX0_ask_84 : decode cX0_ask 84 = .ok (.iload_n 2, 1) := dk_28 (dk_at dksX0_ask_3 15 rfl rfl)
theorem dX0_ask_85 : decode cX0_ask 85 = .ok (.if_icmp .ge 49, 3) := dk_162 0 49 (dk_at dksX0_ask_3 16 rfl rfl)
theorem dX0_ask_88 : decode cX0_ask 88 = .ok (.aload_n 0, 1) := dk_42 (dk_at dksX0_ask_3 19 rfl rfl)
theorem dX0_ask_89 : decode cX0_ask 89 = .ok (.aload_n 0, 1) := dk_42 (dk_at dksX0_ask_3 20 rfl rfl)
theorem dX0_ask_90 : decode cX0_ask 90 = .ok (.getfield 52, 3) := dk_180 0 52 (dk_at dksX0_ask_3 21 rfl rfl)
theorem dX0_ask_93 : decode cX0_ask 93 = .ok (.iload 7, 2) := dk_21 7 (dk_at dksX0_ask_4 0 rfl rfl)
theorem dX0_ask_95 : decode cX0_ask 95 = .ok (.iaload, 1) := dk_46 (dk_at dksX0_ask_4 2 rfl rfl)
theorem dX0_ask_96 : decode cX0_ask 96 = .ok (.iload 5, 2) := dk_21 5 (dk_at dksX0_ask_4 3 rfl rfl)
theorem dX0_ask_98 : decode cX0_ask 98 = .ok (.invokevirtual 212, 3) := dk_182 0 212 (dk_at dksX0_ask_4 5 rfl rfl)
theorem dX0_ask_101 : decode cX0_ask 101 = .ok (.istore 8, 2) := dk_54 8 (dk_at dksX0_ask_4 8 rfl rfl)
theorem dX0_ask_103 : decode cX0_ask 103 = .ok (.aload_n 0, 1) := dk_42 (dk_at dksX0_ask_4 10 rfl rfl)
theorem dX0_ask_104 : decode cX0_ask 104 = .ok (.getfield 55, 3) := dk_180 0 55 (dk_at dksX0_ask_4 11 rfl rfl)
theorem dX0_ask_107 : decode cX0_ask 107 = .ok (.iload 8, 2) := dk_21 8 (dk_at dksX0_ask_4 14 rfl rfl)
theorem dX0_ask_109 : decode cX0_ask 109 = .ok (.dup2, 1) := dk_92 (dk_at dksX0_ask_4 16 rfl rfl)
theorem dX0_ask_110 : decode cX0_ask 110 = .ok (.iaload, 1) := dk_46 (dk_at dksX0_ask_4 17 rfl rfl)
theorem dX0_ask_111 : decode cX0_ask 111 = .ok (.iconst 1, 1) := dk_4 (dk_at dksX0_ask_4 18 rfl rfl)
theorem dX0_ask_112 : decode cX0_ask 112 = .ok (.iadd, 1) := dk_96 (dk_at dksX0_ask_4 19 rfl rfl)
theorem dX0_ask_113 : decode cX0_ask 113 = .ok (.iastore, 1) := dk_79 (dk_at dksX0_ask_4 20 rfl rfl)
theorem dX0_ask_114 : decode cX0_ask 114 = .ok (.iload 6, 2) := dk_21 6 (dk_at dksX0_ask_4 21 rfl rfl)
theorem dX0_ask_116 : decode cX0_ask 116 = .ok (.aload_n 0, 1) := dk_42 (dk_at dksX0_ask_4 23 rfl rfl)
theorem dX0_ask_117 : decode cX0_ask 117 = .ok (.getfield 55, 3) := dk_180 0 55 (dk_at dksX0_ask_5 0 rfl rfl)
theorem dX0_ask_120 : decode cX0_ask 120 = .ok (.iload 8, 2) := dk_21 8 (dk_at dksX0_ask_5 3 rfl rfl)
theorem dX0_ask_122 : decode cX0_ask 122 = .ok (.iaload, 1) := dk_46 (dk_at dksX0_ask_5 5 rfl rfl)
theorem dX0_ask_123 : decode cX0_ask 123 = .ok (.invokestatic 218, 3) := dk_184 0 218 (dk_at dksX0_ask_5 6 rfl rfl)
theorem dX0_ask_126 : decode cX0_ask 126 = .ok (.istore 6, 2) := dk_54 6 (dk_at dksX0_ask_5 9 rfl rfl)
theorem dX0_ask_128 : decode cX0_ask 128 = .ok (.iinc 7 1, 3) := dk_132 7 1 (dk_at dksX0_ask_5 11 rfl rfl)
theorem dX0_ask_131 : decode cX0_ask 131 = .ok (.goto (-49), 3) := dk_167 255 207 (dk_at dksX0_ask_5 14 rfl rfl)
theorem dX0_ask_134 : decode cX0_ask 134 = .ok (.iload 6, 2) := dk_21 6 (dk_at dksX0_ask_5 17 rfl rfl)
theorem dX0_ask_136 : decode cX0_ask 136 = .ok (.iload 4, 2) := dk_21 4 (dk_at dksX0_ask_5 19 rfl rfl)
theorem dX0_ask_138 : decode cX0_ask 138 = .ok (.if_icmp .ge 8, 3) := dk_162 0 8 (dk_at dksX0_ask_5 21 rfl rfl)
theorem dX0_ask_141 : decode cX0_ask 141 = .ok (.iload 5, 2) := dk_21 5 (dk_at dksX0_ask_6 0 rfl rfl)
theorem dX0_ask_143 : decode cX0_ask 143 = .ok (.goto 4, 3) := dk_167 0 4 (dk_at dksX0_ask_6 2 rfl rfl)
theorem dX0_ask_146 : decode cX0_ask 146 = .ok (.iload_n 3, 1) := dk_29 (dk_at dksX0_ask_6 5 rfl rfl)
theorem dX0_ask_147 : decode cX0_ask 147 = .ok (.istore_n 3, 1) := dk_62 (dk_at dksX0_ask_6 6 rfl rfl)
theorem dX0_ask_148 : decode cX0_ask 148 = .ok (.iload 4, 2) := dk_21 4 (dk_at dksX0_ask_6 7 rfl rfl)
theorem dX0_ask_150 : decode cX0_ask 150 = .ok (.iload 6, 2) := dk_21 6 (dk_at dksX0_ask_6 9 rfl rfl)
theorem dX0_ask_152 : decode cX0_ask 152 = .ok (.invokestatic 163, 3) := dk_184 0 163 (dk_at dksX0_ask_6 11 rfl rfl)
theorem dX0_ask_155 : decode cX0_ask 155 = .ok (.istore 4, 2) := dk_54 4 (dk_at dksX0_ask_6 14 rfl rfl)
theorem dX0_ask_157 : decode cX0_ask 157 = .ok (.iinc 5 1, 3) := dk_132 5 1 (dk_at dksX0_ask_6 16 rfl rfl)
theorem dX0_ask_160 : decode cX0_ask 160 = .ok (.goto (-103), 3) := dk_167 255 153 (dk_at dksX0_ask_6 19 rfl rfl)
theorem dX0_ask_163 : decode cX0_ask 163 = .ok (.iload_n 3, 1) := dk_29 (dk_at dksX0_ask_6 22 rfl rfl)
theorem dX0_ask_164 : decode cX0_ask 164 = .ok (.ifCond .lt 7, 3) := dk_155 0 7 (dk_at dksX0_ask_7 0 rfl rfl)
theorem dX0_ask_167 : decode cX0_ask 167 = .ok (.iload_n 1, 1) := dk_27 (dk_at dksX0_ask_7 3 rfl rfl)
theorem dX0_ask_168 : decode cX0_ask 168 = .ok (.ifCond .ne 7, 3) := dk_154 0 7 (dk_at dksX0_ask_7 4 rfl rfl)
theorem dX0_ask_171 : decode cX0_ask 171 = .ok (.iload_n 3, 1) := dk_29 (dk_at dksX0_ask_7 7 rfl rfl)
theorem dX0_ask_172 : decode cX0_ask 172 = .ok (.goto 5, 3) := dk_167 0 5 (dk_at dksX0_ask_7 8 rfl rfl)
theorem dX0_ask_175 : decode cX0_ask 175 = .ok (.iload 4, 2) := dk_21 4 (dk_at dksX0_ask_7 11 rfl rfl)
theorem dX0_ask_177 : decode cX0_ask 177 = .ok (.ireturn, 1) := dk_172 (dk_at dksX0_ask_7 13 rfl rfl)
abbrev cX0_chalk : ByteArray := prog_1_method_38_code
def yX0_chalk : MethodName := ⟨RX0, "chalk", "(III)I"⟩
def dkwX0_chalk_5 : List UInt8 := [167, 0, 5, 21, 4, 172]
abbrev dktX0_chalk_5 : List UInt8 := dkwX0_chalk_5 ++ []
def dkwX0_chalk_4 : List UInt8 := [182, 0, 224, 54, 4, 29, 154, 0, 19, 21, 4, 155, 0, 7, 4, 167, 0, 4, 3, 184, 0, 186]
abbrev dktX0_chalk_4 : List UInt8 := dkwX0_chalk_4 ++ dktX0_chalk_5
def dkwX0_chalk_3 : List UInt8 := [155, 0, 7, 4, 167, 0, 4, 3, 84, 132, 5, 1, 167, 255, 217, 132, 4, 1, 167, 255, 202, 42, 27, 28]
abbrev dktX0_chalk_3 : List UInt8 := dkwX0_chalk_3 ++ dktX0_chalk_4
def dkwX0_chalk_2 : List UInt8 := [163, 0, 39, 42, 180, 0, 58, 21, 4, 17, 3, 232, 104, 21, 5, 96, 42, 21, 5, 21, 4, 182, 0, 224]
abbrev dktX0_chalk_2 : List UInt8 := dkwX0_chalk_2 ++ dktX0_chalk_3
def dkwX0_chalk_1 : List UInt8 := [184, 0, 3, 154, 0, 6, 16, 254, 172, 3, 54, 4, 21, 4, 28, 163, 0, 54, 3, 54, 5, 21, 5, 27]
abbrev dktX0_chalk_1 : List UInt8 := dkwX0_chalk_1 ++ dktX0_chalk_2
def dkwX0_chalk_0 : List UInt8 := [27, 3, 17, 3, 231, 184, 0, 3, 153, 0, 21, 28, 3, 4, 184, 0, 3, 153, 0, 12, 29, 3, 4]
abbrev dktX0_chalk_0 : List UInt8 := dkwX0_chalk_0 ++ dktX0_chalk_1
theorem dksX0_chalk_0 : cX0_chalk.data.toList.drop 0 = dktX0_chalk_0 := by decide +kernel
theorem dksX0_chalk_1 : cX0_chalk.data.toList.drop 23 = dktX0_chalk_1 := dk_seg dksX0_chalk_0 23 rfl rfl
theorem dksX0_chalk_2 : cX0_chalk.data.toList.drop 47 = dktX0_chalk_2 := dk_seg dksX0_chalk_1 24 rfl rfl
theorem dksX0_chalk_3 : cX0_chalk.data.toList.drop 71 = dktX0_chalk_3 := dk_seg dksX0_chalk_2 24 rfl rfl
theorem dksX0_chalk_4 : cX0_chalk.data.toList.drop 95 = dktX0_chalk_4 := dk_seg dksX0_chalk_3 24 rfl rfl
theorem dksX0_chalk_5 : cX0_chalk.data.toList.drop 117 = dktX0_chalk_5 := dk_seg dksX0_chalk_4 22 rfl rfl
theorem dX0_chalk_0 : decode cX0_chalk 0 = .ok (.iload_n 1, 1) := dk_27 (dk_at dksX0_chalk_0 0 rfl rfl)
theorem dX0_chalk_1 : decode cX0_chalk 1 = .ok (.iconst 0, 1) := dk_3 (dk_at dksX0_chalk_0 1 rfl rfl)
theorem dX0_chalk_2 : decode cX0_chalk 2 = .ok (.sipush 999, 3) := dk_17 3 231 (dk_at dksX0_chalk_0 2 rfl rfl)
theorem dX0_chalk_5 : decode cX0_chalk 5 = .ok (.invokestatic 3, 3) := dk_184 0 3 (dk_at dksX0_chalk_0 5 rfl rfl)
theorem dX0_chalk_8 : decode cX0_chalk 8 = .ok (.ifCond .eq 21, 3) := dk_153 0 21 (dk_at dksX0_chalk_0 8 rfl rfl)
theorem dX0_chalk_11 : decode cX0_chalk 11 = .ok (.iload_n 2, 1) := dk_28 (dk_at dksX0_chalk_0 11 rfl rfl)
theorem dX0_chalk_12 : decode cX0_chalk 12 = .ok (.iconst 0, 1) := dk_3 (dk_at dksX0_chalk_0 12 rfl rfl)
theorem dX0_chalk_13 : decode cX0_chalk 13 = .ok (.iconst 1, 1) := dk_4 (dk_at dksX0_chalk_0 13 rfl rfl)
theorem dX0_chalk_14 : decode cX0_chalk 14 = .ok (.invokestatic 3, 3) := dk_184 0 3 (dk_at dksX0_chalk_0 14 rfl rfl)
theorem dX0_chalk_17 : decode cX0_chalk 17 = .ok (.ifCond .eq 12, 3) := dk_153 0 12 (dk_at dksX0_chalk_0 17 rfl rfl)
theorem dX0_chalk_20 : decode cX0_chalk 20 = .ok (.iload_n 3, 1) := dk_29 (dk_at dksX0_chalk_0 20 rfl rfl)
theorem dX0_chalk_21 : decode cX0_chalk 21 = .ok (.iconst 0, 1) := dk_3 (dk_at dksX0_chalk_0 21 rfl rfl)
theorem dX0_chalk_22 : decode cX0_chalk 22 = .ok (.iconst 1, 1) := dk_4 (dk_at dksX0_chalk_0 22 rfl rfl)
theorem dX0_chalk_23 : decode cX0_chalk 23 = .ok (.invokestatic 3, 3) := dk_184 0 3 (dk_at dksX0_chalk_1 0 rfl rfl)
theorem dX0_chalk_26 : decode cX0_chalk 26 = .ok (.ifCond .ne 6, 3) := dk_154 0 6 (dk_at dksX0_chalk_1 3 rfl rfl)
theorem dX0_chalk_29 : decode cX0_chalk 29 = .ok (.bipush (-2), 2) := dk_16 254 (dk_at dksX0_chalk_1 6 rfl rfl)
theorem dX0_chalk_31 : decode cX0_chalk 31 = .ok (.ireturn, 1) := dk_172 (dk_at dksX0_chalk_1 8 rfl rfl)
theorem dX0_chalk_32 : decode cX0_chalk 32 = .ok (.iconst 0, 1) := dk_3 (dk_at dksX0_chalk_1 9 rfl rfl)
theorem dX0_chalk_33 : decode cX0_chalk 33 = .ok (.istore 4, 2) := dk_54 4 (dk_at dksX0_chalk_1 10 rfl rfl)
theorem dX0_chalk_35 : decode cX0_chalk 35 = .ok (.iload 4, 2) := dk_21 4 (dk_at dksX0_chalk_1 12 rfl rfl)
theorem dX0_chalk_37 : decode cX0_chalk 37 = .ok (.iload_n 2, 1) := dk_28 (dk_at dksX0_chalk_1 14 rfl rfl)
theorem dX0_chalk_38 : decode cX0_chalk 38 = .ok (.if_icmp .gt 54, 3) := dk_163 0 54 (dk_at dksX0_chalk_1 15 rfl rfl)
theorem dX0_chalk_41 : decode cX0_chalk 41 = .ok (.iconst 0, 1) := dk_3 (dk_at dksX0_chalk_1 18 rfl rfl)
theorem dX0_chalk_42 : decode cX0_chalk 42 = .ok (.istore 5, 2) := dk_54 5 (dk_at dksX0_chalk_1 19 rfl rfl)
theorem dX0_chalk_44 : decode cX0_chalk 44 = .ok (.iload 5, 2) := dk_21 5 (dk_at dksX0_chalk_1 21 rfl rfl)
theorem dX0_chalk_46 : decode cX0_chalk 46 = .ok (.iload_n 1, 1) := dk_27 (dk_at dksX0_chalk_1 23 rfl rfl)
theorem dX0_chalk_47 : decode cX0_chalk 47 = .ok (.if_icmp .gt 39, 3) := dk_163 0 39 (dk_at dksX0_chalk_2 0 rfl rfl)
theorem dX0_chalk_50 : decode cX0_chalk 50 = .ok (.aload_n 0, 1) := dk_42 (dk_at dksX0_chalk_2 3 rfl rfl)
theorem dX0_chalk_51 : decode cX0_chalk 51 = .ok (.getfield 58, 3) := dk_180 0 58 (dk_at dksX0_chalk_2 4 rfl rfl)
theorem dX0_chalk_54 : decode cX0_chalk 54 = .ok (.iload 4, 2) := dk_21 4 (dk_at dksX0_chalk_2 7 rfl rfl)
theorem dX0_chalk_56 : decode cX0_chalk 56 = .ok (.sipush 1000, 3) := dk_17 3 232 (dk_at dksX0_chalk_2 9 rfl rfl)
theorem dX0_chalk_59 : decode cX0_chalk 59 = .ok (.imul, 1) := dk_104 (dk_at dksX0_chalk_2 12 rfl rfl)
theorem dX0_chalk_60 : decode cX0_chalk 60 = .ok (.iload 5, 2) := dk_21 5 (dk_at dksX0_chalk_2 13 rfl rfl)
theorem dX0_chalk_62 : decode cX0_chalk 62 = .ok (.iadd, 1) := dk_96 (dk_at dksX0_chalk_2 15 rfl rfl)
theorem dX0_chalk_63 : decode cX0_chalk 63 = .ok (.aload_n 0, 1) := dk_42 (dk_at dksX0_chalk_2 16 rfl rfl)
theorem dX0_chalk_64 : decode cX0_chalk 64 = .ok (.iload 5, 2) := dk_21 5 (dk_at dksX0_chalk_2 17 rfl rfl)
theorem dX0_chalk_66 : decode cX0_chalk 66 = .ok (.iload 4, 2) := dk_21 4 (dk_at dksX0_chalk_2 19 rfl rfl)
theorem dX0_chalk_68 : decode cX0_chalk 68 = .ok (.invokevirtual 224, 3) := dk_182 0 224 (dk_at dksX0_chalk_2 21 rfl rfl)
theorem dX0_chalk_71 : decode cX0_chalk 71 = .ok (.ifCond .lt 7, 3) := dk_155 0 7 (dk_at dksX0_chalk_3 0 rfl rfl)
theorem dX0_chalk_74 : decode cX0_chalk 74 = .ok (.iconst 1, 1) := dk_4 (dk_at dksX0_chalk_3 3 rfl rfl)
theorem dX0_chalk_75 : decode cX0_chalk 75 = .ok (.goto 4, 3) := dk_167 0 4 (dk_at dksX0_chalk_3 4 rfl rfl)
theorem dX0_chalk_78 : decode cX0_chalk 78 = .ok (.iconst 0, 1) := dk_3 (dk_at dksX0_chalk_3 7 rfl rfl)
theorem dX0_chalk_79 : decode cX0_chalk 79 = .ok (.bastore, 1) := dk_84 (dk_at dksX0_chalk_3 8 rfl rfl)
theorem dX0_chalk_80 : decode cX0_chalk 80 = .ok (.iinc 5 1, 3) := dk_132 5 1 (dk_at dksX0_chalk_3 9 rfl rfl)
theorem dX0_chalk_83 : decode cX0_chalk 83 = .ok (.goto (-39), 3) := dk_167 255 217 (dk_at dksX0_chalk_3 12 rfl rfl)
theorem dX0_chalk_86 : decode cX0_chalk 86 = .ok (.iinc 4 1, 3) := dk_132 4 1 (dk_at dksX0_chalk_3 15 rfl rfl)
theorem dX0_chalk_89 : decode cX0_chalk 89 = .ok (.goto (-54), 3) := dk_167 255 202 (dk_at dksX0_chalk_3 18 rfl rfl)
theorem dX0_chalk_92 : decode cX0_chalk 92 = .ok (.aload_n 0, 1) := dk_42 (dk_at dksX0_chalk_3 21 rfl rfl)
theorem dX0_chalk_93 : decode cX0_chalk 93 = .ok (.iload_n 1, 1) := dk_27 (dk_at dksX0_chalk_3 22 rfl rfl)
theorem dX0_chalk_94 : decode cX0_chalk 94 = .ok (.iload_n 2, 1) := dk_28 (dk_at dksX0_chalk_3 23 rfl rfl)
theorem dX0_chalk_95 : decode cX0_chalk 95 = .ok (.invokevirtual 224, 3) := dk_182 0 224 (dk_at dksX0_chalk_4 0 rfl rfl)
theorem dX0_chalk_98 : decode cX0_chalk 98 = .ok (.istore 4, 2) := dk_54 4 (dk_at dksX0_chalk_4 3 rfl rfl)
theorem dX0_chalk_100 : decode cX0_chalk 100 = .ok (.iload_n 3, 1) := dk_29 (dk_at dksX0_chalk_4 5 rfl rfl)
theorem dX0_chalk_101 : decode cX0_chalk 101 = .ok (.ifCond .ne 19, 3) := dk_154 0 19 (dk_at dksX0_chalk_4 6 rfl rfl)
theorem dX0_chalk_104 : decode cX0_chalk 104 = .ok (.iload 4, 2) := dk_21 4 (dk_at dksX0_chalk_4 9 rfl rfl)
theorem dX0_chalk_106 : decode cX0_chalk 106 = .ok (.ifCond .lt 7, 3) := dk_155 0 7 (dk_at dksX0_chalk_4 11 rfl rfl)
theorem dX0_chalk_109 : decode cX0_chalk 109 = .ok (.iconst 1, 1) := dk_4 (dk_at dksX0_chalk_4 14 rfl rfl)
theorem dX0_chalk_110 : decode cX0_chalk 110 = .ok (.goto 4, 3) := dk_167 0 4 (dk_at dksX0_chalk_4 15 rfl rfl)
theorem dX0_chalk_113 : decode cX0_chalk 113 = .ok (.iconst 0, 1) := dk_3 (dk_at dksX0_chalk_4 18 rfl rfl)
theorem dX0_chalk_114 : decode cX0_chalk 114 = .ok (.invokestatic 186, 3) := dk_184 0 186 (dk_at dksX0_chalk_4 19 rfl rfl)
theorem dX0_chalk_117 : decode cX0_chalk 117 = .ok (.goto 5, 3) := dk_167 0 5 (dk_at dksX0_chalk_5 0 rfl rfl)
theorem dX0_chalk_120 : decode cX0_chalk 120 = .ok (.iload 4, 2) := dk_21 4 (dk_at dksX0_chalk_5 3 rfl rfl)
theorem dX0_chalk_122 : decode cX0_chalk 122 = .ok (.ireturn, 1) := dk_172 (dk_at dksX0_chalk_5 5 rfl rfl)
abbrev cX0_firstOf : ByteArray := prog_1_method_37_code
def yX0_firstOf : MethodName := ⟨RX0, "firstOf", "(II)I"⟩
def dkwX0_firstOf_4 : List UInt8 := [16, 250, 172]
abbrev dktX0_firstOf_4 : List UInt8 := dkwX0_firstOf_4 ++ []
def dkwX0_firstOf_3 : List UInt8 := [28, 4, 160, 0, 21, 27, 158, 0, 17, 42, 180, 0, 58, 27, 51, 154, 0, 8, 16, 99, 167, 0, 5]
abbrev dktX0_firstOf_3 : List UInt8 := dkwX0_firstOf_3 ++ dktX0_firstOf_4
def dkwX0_firstOf_2 : List UInt8 := [155, 0, 18, 42, 180, 0, 58, 29, 21, 5, 96, 51, 154, 0, 6, 21, 4, 172, 132, 4, 1, 167, 255, 197]
abbrev dktX0_firstOf_2 : List UInt8 := dkwX0_firstOf_2 ++ dktX0_firstOf_3
def dkwX0_firstOf_1 : List UInt8 := [16, 250, 167, 0, 17, 27, 21, 4, 16, 10, 108, 21, 4, 16, 10, 112, 184, 0, 221, 54, 5, 21, 5]
abbrev dktX0_firstOf_1 : List UInt8 := dkwX0_firstOf_1 ++ dktX0_firstOf_2
def dkwX0_firstOf_0 : List UInt8 := [28, 17, 3, 232, 104, 62, 4, 54, 4, 21, 4, 16, 30, 162, 0, 58, 21, 4, 16, 10, 112, 154, 0, 8]
abbrev dktX0_firstOf_0 : List UInt8 := dkwX0_firstOf_0 ++ dktX0_firstOf_1
theorem dksX0_firstOf_0 : cX0_firstOf.data.toList.drop 0 = dktX0_firstOf_0 := by decide +kernel
theorem dksX0_firstOf_1 : cX0_firstOf.data.toList.drop 24 = dktX0_firstOf_1 := dk_seg dksX0_firstOf_0 24 rfl rfl
theorem dksX0_firstOf_2 : cX0_firstOf.data.toList.drop 47 = dktX0_firstOf_2 := dk_seg dksX0_firstOf_1 23 rfl rfl
theorem dksX0_firstOf_3 : cX0_firstOf.data.toList.drop 71 = dktX0_firstOf_3 := dk_seg dksX0_firstOf_2 24 rfl rfl
theorem dksX0_firstOf_4 : cX0_firstOf.data.toList.drop 94 = dktX0_firstOf_4 := dk_seg dksX0_firstOf_3 23 rfl rfl
theorem dX0_firstOf_0 : decode cX0_firstOf 0 = .ok (.iload_n 2, 1) := dk_28 (dk_at dksX0_firstOf_0 0 rfl rfl)
theorem dX0_firstOf_1 : decode cX0_firstOf 1 = .ok (.sipush 1000, 3) := dk_17 3 232 (dk_at dksX0_firstOf_0 1 rfl rfl)
theorem dX0_firstOf_4 : decode cX0_firstOf 4 = .ok (.imul, 1) := dk_104 (dk_at dksX0_firstOf_0 4 rfl rfl)
theorem dX0_firstOf_5 : decode cX0_firstOf 5 = .ok (.istore_n 3, 1) := dk_62 (dk_at dksX0_firstOf_0 5 rfl rfl)
theorem dX0_firstOf_6 : decode cX0_firstOf 6 = .ok (.iconst 1, 1) := dk_4 (dk_at dksX0_firstOf_0 6 rfl rfl)
theorem dX0_firstOf_7 : decode cX0_firstOf 7 = .ok (.istore 4, 2) := dk_54 4 (dk_at dksX0_firstOf_0 7 rfl rfl)
theorem dX0_firstOf_9 : decode cX0_firstOf 9 = .ok (.iload 4, 2) := dk_21 4 (dk_at dksX0_firstOf_0 9 rfl rfl)
theorem dX0_firstOf_11 : decode cX0_firstOf 11 = .ok (.bipush 30, 2) := dk_16 30 (dk_at dksX0_firstOf_0 11 rfl rfl)
theorem dX0_firstOf_13 : decode cX0_firstOf 13 = .ok (.if_icmp .ge 58, 3) := dk_162 0 58 (dk_at dksX0_firstOf_0 13 rfl rfl)
theorem dX0_firstOf_16 : decode cX0_firstOf 16 = .ok (.iload 4, 2) := dk_21 4 (dk_at dksX0_firstOf_0 16 rfl rfl)
theorem dX0_firstOf_18 : decode cX0_firstOf 18 = .ok (.bipush 10, 2) := dk_16 10 (dk_at dksX0_firstOf_0 18 rfl rfl)
theorem dX0_firstOf_20 : decode cX0_firstOf 20 = .ok (.irem, 1) := dk_112 (dk_at dksX0_firstOf_0 20 rfl rfl)
theorem dX0_firstOf_21 : decode cX0_firstOf 21 = .ok (.ifCond .ne 8, 3) := dk_154 0 8 (dk_at dksX0_firstOf_0 21 rfl rfl)
theorem dX0_firstOf_24 : decode cX0_firstOf 24 = .ok (.bipush (-6), 2) := dk_16 250 (dk_at dksX0_firstOf_1 0 rfl rfl)
theorem dX0_firstOf_26 : decode cX0_firstOf 26 = .ok (.goto 17, 3) := dk_167 0 17 (dk_at dksX0_firstOf_1 2 rfl rfl)
theorem dX0_firstOf_29 : decode cX0_firstOf 29 = .ok (.iload_n 1, 1) := dk_27 (dk_at dksX0_firstOf_1 5 rfl rfl)
theorem dX0_firstOf_30 : decode cX0_firstOf 30 = .ok (.iload 4, 2) := dk_21 4 (dk_at dksX0_firstOf_1 6 rfl rfl)
theorem dX0_firstOf_32 : decode cX0_firstOf 32 = .ok (.bipush 10, 2) := dk_16 10 (dk_at dksX0_firstOf_1 8 rfl rfl)
theorem dX0_firstOf_34 : decode cX0_firstOf 34 = .ok (.idiv, 1) := dk_108 (dk_at dksX0_firstOf_1 10 rfl rfl)
theorem dX0_firstOf_35 : decode cX0_firstOf 35 = .ok (.iload 4, 2) := dk_21 4 (dk_at dksX0_firstOf_1 11 rfl rfl)
theorem dX0_firstOf_37 : decode cX0_firstOf 37 = .ok (.bipush 10, 2) := dk_16 10 (dk_at dksX0_firstOf_1 13 rfl rfl)
theorem dX0_firstOf_39 : decode cX0_firstOf 39 = .ok (.irem, 1) := dk_112 (dk_at dksX0_firstOf_1 15 rfl rfl)
theorem dX0_firstOf_40 : decode cX0_firstOf 40 = .ok (.invokestatic 221, 3) := dk_184 0 221 (dk_at dksX0_firstOf_1 16 rfl rfl)
theorem dX0_firstOf_43 : decode cX0_firstOf 43 = .ok (.istore 5, 2) := dk_54 5 (dk_at dksX0_firstOf_1 19 rfl rfl)
theorem dX0_firstOf_45 : decode cX0_firstOf 45 = .ok (.iload 5, 2) := dk_21 5 (dk_at dksX0_firstOf_1 21 rfl rfl)
theorem dX0_firstOf_47 : decode cX0_firstOf 47 = .ok (.ifCond .lt 18, 3) := dk_155 0 18 (dk_at dksX0_firstOf_2 0 rfl rfl)
theorem dX0_firstOf_50 : decode cX0_firstOf 50 = .ok (.aload_n 0, 1) := dk_42 (dk_at dksX0_firstOf_2 3 rfl rfl)
theorem dX0_firstOf_51 : decode cX0_firstOf 51 = .ok (.getfield 58, 3) := dk_180 0 58 (dk_at dksX0_firstOf_2 4 rfl rfl)
theorem dX0_firstOf_54 : decode cX0_firstOf 54 = .ok (.iload_n 3, 1) := dk_29 (dk_at dksX0_firstOf_2 7 rfl rfl)
theorem dX0_firstOf_55 : decode cX0_firstOf 55 = .ok (.iload 5, 2) := dk_21 5 (dk_at dksX0_firstOf_2 8 rfl rfl)
theorem dX0_firstOf_57 : decode cX0_firstOf 57 = .ok (.iadd, 1) := dk_96 (dk_at dksX0_firstOf_2 10 rfl rfl)
theorem dX0_firstOf_58 : decode cX0_firstOf 58 = .ok (.baload, 1) := dk_51 (dk_at dksX0_firstOf_2 11 rfl rfl)
theorem dX0_firstOf_59 : decode cX0_firstOf 59 = .ok (.ifCond .ne 6, 3) := dk_154 0 6 (dk_at dksX0_firstOf_2 12 rfl rfl)
theorem dX0_firstOf_62 : decode cX0_firstOf 62 = .ok (.iload 4, 2) := dk_21 4 (dk_at dksX0_firstOf_2 15 rfl rfl)
theorem dX0_firstOf_64 : decode cX0_firstOf 64 = .ok (.ireturn, 1) := dk_172 (dk_at dksX0_firstOf_2 17 rfl rfl)
theorem dX0_firstOf_65 : decode cX0_firstOf 65 = .ok (.iinc 4 1, 3) := dk_132 4 1 (dk_at dksX0_firstOf_2 18 rfl rfl)
theorem dX0_firstOf_68 : decode cX0_firstOf 68 = .ok (.goto (-59), 3) := dk_167 255 197 (dk_at dksX0_firstOf_2 21 rfl rfl)
theorem dX0_firstOf_71 : decode cX0_firstOf 71 = .ok (.iload_n 2, 1) := dk_28 (dk_at dksX0_firstOf_3 0 rfl rfl)
theorem dX0_firstOf_72 : decode cX0_firstOf 72 = .ok (.iconst 1, 1) := dk_4 (dk_at dksX0_firstOf_3 1 rfl rfl)
theorem dX0_firstOf_73 : decode cX0_firstOf 73 = .ok (.if_icmp .ne 21, 3) := dk_160 0 21 (dk_at dksX0_firstOf_3 2 rfl rfl)
theorem dX0_firstOf_76 : decode cX0_firstOf 76 = .ok (.iload_n 1, 1) := dk_27 (dk_at dksX0_firstOf_3 5 rfl rfl)
theorem dX0_firstOf_77 : decode cX0_firstOf 77 = .ok (.ifCond .le 17, 3) := dk_158 0 17 (dk_at dksX0_firstOf_3 6 rfl rfl)
theorem dX0_firstOf_80 : decode cX0_firstOf 80 = .ok (.aload_n 0, 1) := dk_42 (dk_at dksX0_firstOf_3 9 rfl rfl)
theorem dX0_firstOf_81 : decode cX0_firstOf 81 = .ok (.getfield 58, 3) := dk_180 0 58 (dk_at dksX0_firstOf_3 10 rfl rfl)
theorem dX0_firstOf_84 : decode cX0_firstOf 84 = .ok (.iload_n 1, 1) := dk_27 (dk_at dksX0_firstOf_3 13 rfl rfl)
theorem dX0_firstOf_85 : decode cX0_firstOf 85 = .ok (.baload, 1) := dk_51 (dk_at dksX0_firstOf_3 14 rfl rfl)
theorem dX0_firstOf_86 : decode cX0_firstOf 86 = .ok (.ifCond .ne 8, 3) := dk_154 0 8 (dk_at dksX0_firstOf_3 15 rfl rfl)
theorem dX0_firstOf_89 : decode cX0_firstOf 89 = .ok (.bipush 99, 2) := dk_16 99 (dk_at dksX0_firstOf_3 18 rfl rfl)
theorem dX0_firstOf_91 : decode cX0_firstOf 91 = .ok (.goto 5, 3) := dk_167 0 5 (dk_at dksX0_firstOf_3 20 rfl rfl)
theorem dX0_firstOf_94 : decode cX0_firstOf 94 = .ok (.bipush (-6), 2) := dk_16 250 (dk_at dksX0_firstOf_4 0 rfl rfl)
theorem dX0_firstOf_96 : decode cX0_firstOf 96 = .ok (.ireturn, 1) := dk_172 (dk_at dksX0_firstOf_4 2 rfl rfl)
abbrev cX0_taken : ByteArray := prog_1_method_36_code
def yX0_taken : MethodName := ⟨RX0, "taken", "(III)I"⟩
def dkwX0_taken_1 : List UInt8 := [16, 10, 112, 28, 162, 0, 8, 16, 250, 167, 0, 8, 26, 28, 29, 104, 100, 172]
abbrev dktX0_taken_1 : List UInt8 := dkwX0_taken_1 ++ []
def dkwX0_taken_0 : List UInt8 := [27, 154, 0, 8, 16, 100, 167, 0, 14, 27, 4, 160, 0, 8, 16, 10, 167, 0, 4, 4, 62, 26, 29, 108]
abbrev dktX0_taken_0 : List UInt8 := dkwX0_taken_0 ++ dktX0_taken_1
theorem dksX0_taken_0 : cX0_taken.data.toList.drop 0 = dktX0_taken_0 := by decide +kernel
theorem dksX0_taken_1 : cX0_taken.data.toList.drop 24 = dktX0_taken_1 := dk_seg dksX0_taken_0 24 rfl rfl
theorem dX0_taken_0 : decode cX0_taken 0 = .ok (.iload_n 1, 1) := dk_27 (dk_at dksX0_taken_0 0 rfl rfl)
theorem dX0_taken_1 : decode cX0_taken 1 = .ok (.ifCond .ne 8, 3) := dk_154 0 8 (dk_at dksX0_taken_0 1 rfl rfl)
theorem dX0_taken_4 : decode cX0_taken 4 = .ok (.bipush 100, 2) := dk_16 100 (dk_at dksX0_taken_0 4 rfl rfl)
theorem dX0_taken_6 : decode cX0_taken 6 = .ok (.goto 14, 3) := dk_167 0 14 (dk_at dksX0_taken_0 6 rfl rfl)
theorem dX0_taken_9 : decode cX0_taken 9 = .ok (.iload_n 1, 1) := dk_27 (dk_at dksX0_taken_0 9 rfl rfl)
theorem dX0_taken_10 : decode cX0_taken 10 = .ok (.iconst 1, 1) := dk_4 (dk_at dksX0_taken_0 10 rfl rfl)
theorem dX0_taken_11 : decode cX0_taken 11 = .ok (.if_icmp .ne 8, 3) := dk_160 0 8 (dk_at dksX0_taken_0 11 rfl rfl)
theorem dX0_taken_14 : decode cX0_taken 14 = .ok (.bipush 10, 2) := dk_16 10 (dk_at dksX0_taken_0 14 rfl rfl)
theorem dX0_taken_16 : decode cX0_taken 16 = .ok (.goto 4, 3) := dk_167 0 4 (dk_at dksX0_taken_0 16 rfl rfl)
theorem dX0_taken_19 : decode cX0_taken 19 = .ok (.iconst 1, 1) := dk_4 (dk_at dksX0_taken_0 19 rfl rfl)
theorem dX0_taken_20 : decode cX0_taken 20 = .ok (.istore_n 3, 1) := dk_62 (dk_at dksX0_taken_0 20 rfl rfl)
theorem dX0_taken_21 : decode cX0_taken 21 = .ok (.iload_n 0, 1) := dk_26 (dk_at dksX0_taken_0 21 rfl rfl)
theorem dX0_taken_22 : decode cX0_taken 22 = .ok (.iload_n 3, 1) := dk_29 (dk_at dksX0_taken_0 22 rfl rfl)
theorem dX0_taken_23 : decode cX0_taken 23 = .ok (.idiv, 1) := dk_108 (dk_at dksX0_taken_0 23 rfl rfl)
theorem dX0_taken_24 : decode cX0_taken 24 = .ok (.bipush 10, 2) := dk_16 10 (dk_at dksX0_taken_1 0 rfl rfl)
theorem dX0_taken_26 : decode cX0_taken 26 = .ok (.irem, 1) := dk_112 (dk_at dksX0_taken_1 2 rfl rfl)
theorem dX0_taken_27 : decode cX0_taken 27 = .ok (.iload_n 2, 1) := dk_28 (dk_at dksX0_taken_1 3 rfl rfl)
theorem dX0_taken_28 : decode cX0_taken 28 = .ok (.if_icmp .ge 8, 3) := dk_162 0 8 (dk_at dksX0_taken_1 4 rfl rfl)
theorem dX0_taken_31 : decode cX0_taken 31 = .ok (.bipush (-6), 2) := dk_16 250 (dk_at dksX0_taken_1 7 rfl rfl)
theorem dX0_taken_33 : decode cX0_taken 33 = .ok (.goto 8, 3) := dk_167 0 8 (dk_at dksX0_taken_1 9 rfl rfl)
theorem dX0_taken_36 : decode cX0_taken 36 = .ok (.iload_n 0, 1) := dk_26 (dk_at dksX0_taken_1 12 rfl rfl)
theorem dX0_taken_37 : decode cX0_taken 37 = .ok (.iload_n 2, 1) := dk_28 (dk_at dksX0_taken_1 13 rfl rfl)
theorem dX0_taken_38 : decode cX0_taken 38 = .ok (.iload_n 3, 1) := dk_29 (dk_at dksX0_taken_1 14 rfl rfl)
theorem dX0_taken_39 : decode cX0_taken 39 = .ok (.imul, 1) := dk_104 (dk_at dksX0_taken_1 15 rfl rfl)
theorem dX0_taken_40 : decode cX0_taken 40 = .ok (.isub, 1) := dk_100 (dk_at dksX0_taken_1 16 rfl rfl)
theorem dX0_taken_41 : decode cX0_taken 41 = .ok (.ireturn, 1) := dk_172 (dk_at dksX0_taken_1 17 rfl rfl)
abbrev cX0_match : ByteArray := prog_1_method_41_code
def yX0_match : MethodName := ⟨RX0, "match", "(IIIIII)J"⟩
def dkwX0_match_13 : List UInt8 := [184, 0, 227, 55, 12, 21, 6, 154, 0, 11, 22, 8, 22, 12, 109, 167, 0, 8, 22, 10, 22, 12, 109, 173]
abbrev dktX0_match_13 : List UInt8 := dkwX0_match_13 ++ []
def dkwX0_match_12 : List UInt8 := [132, 11, 1, 167, 255, 87, 132, 10, 1, 167, 255, 71, 21, 7, 184, 0, 238, 55, 10, 22, 8, 22, 10]
abbrev dktX0_match_12 : List UInt8 := dkwX0_match_12 ++ dktX0_match_13
def dkwX0_match_11 : List UInt8 := [16, 9, 21, 10, 104, 21, 11, 96, 4, 96, 92, 47, 22, 12, 16, 10, 28, 100, 133, 105, 97, 80]
abbrev dktX0_match_11 : List UInt8 := dkwX0_match_11 ++ dktX0_match_12
def dkwX0_match_10 : List UInt8 := [16, 9, 21, 10, 4, 96, 104, 21, 11, 96, 92, 47, 22, 12, 28, 133, 105, 97, 80, 42, 180, 0, 61]
abbrev dktX0_match_10 : List UInt8 := dkwX0_match_10 ++ dktX0_match_11
def dkwX0_match_9 : List UInt8 := [21, 14, 100, 184, 0, 238, 105, 97, 55, 8, 167, 0, 59, 22, 12, 9, 148, 158, 0, 52, 42, 180, 0, 61]
abbrev dktX0_match_9 : List UInt8 := dkwX0_match_9 ++ dktX0_match_10
def dkwX0_match_8 : List UInt8 := [167, 0, 17, 21, 10, 27, 160, 0, 7, 4, 167, 0, 4, 3, 184, 0, 186, 133, 22, 12, 105, 21, 7]
abbrev dktX0_match_8 : List UInt8 := dkwX0_match_8 ++ dktX0_match_9
def dkwX0_match_7 : List UInt8 := [54, 15, 21, 15, 153, 0, 56, 22, 12, 9, 148, 158, 0, 49, 22, 8, 21, 5, 4, 160, 0, 8, 21, 14]
abbrev dktX0_match_7 : List UInt8 := dkwX0_match_7 ++ dktX0_match_8
def dkwX0_match_6 : List UInt8 := [100, 21, 4, 100, 54, 14, 21, 10, 27, 159, 0, 9, 21, 11, 27, 160, 0, 7, 4, 167, 0, 4, 3]
abbrev dktX0_match_6 : List UInt8 := dkwX0_match_6 ++ dktX0_match_7
def dkwX0_match_5 : List UInt8 := [163, 0, 169, 42, 180, 0, 61, 16, 9, 21, 10, 104, 21, 11, 96, 47, 55, 12, 21, 10, 21, 11, 96, 29]
abbrev dktX0_match_5 : List UInt8 := dkwX0_match_5 ++ dktX0_match_6
def dkwX0_match_4 : List UInt8 := [21, 4, 96, 10, 80, 9, 55, 8, 29, 54, 10, 21, 10, 27, 163, 0, 185, 21, 4, 54, 11, 21, 11, 27]
abbrev dktX0_match_4 : List UInt8 := dkwX0_match_4 ++ dktX0_match_5
def dkwX0_match_3 : List UInt8 := [100, 21, 4, 100, 4, 100, 54, 7, 42, 180, 0, 61, 9, 184, 0, 235, 42, 180, 0, 61, 16, 9, 29, 104]
abbrev dktX0_match_3 : List UInt8 := dkwX0_match_3 ++ dktX0_match_4
def dkwX0_match_2 : List UInt8 := [184, 0, 3, 153, 0, 13, 21, 6, 3, 4, 184, 0, 3, 154, 0, 7, 20, 0, 233, 173, 5, 27, 104, 29]
abbrev dktX0_match_2 : List UInt8 := dkwX0_match_2 ++ dktX0_match_3
def dkwX0_match_1 : List UInt8 := [100, 184, 0, 3, 153, 0, 35, 21, 4, 3, 27, 4, 100, 184, 0, 3, 153, 0, 23, 21, 5, 3, 4]
abbrev dktX0_match_1 : List UInt8 := dkwX0_match_1 ++ dktX0_match_2
def dkwX0_match_0 : List UInt8 := [27, 4, 16, 8, 184, 0, 3, 153, 0, 56, 28, 3, 16, 10, 184, 0, 3, 153, 0, 46, 29, 3, 27, 4]
abbrev dktX0_match_0 : List UInt8 := dkwX0_match_0 ++ dktX0_match_1
theorem dksX0_match_0 : cX0_match.data.toList.drop 0 = dktX0_match_0 := by decide +kernel
theorem dksX0_match_1 : cX0_match.data.toList.drop 24 = dktX0_match_1 := dk_seg dksX0_match_0 24 rfl rfl
theorem dksX0_match_2 : cX0_match.data.toList.drop 47 = dktX0_match_2 := dk_seg dksX0_match_1 23 rfl rfl
theorem dksX0_match_3 : cX0_match.data.toList.drop 71 = dktX0_match_3 := dk_seg dksX0_match_2 24 rfl rfl
theorem dksX0_match_4 : cX0_match.data.toList.drop 95 = dktX0_match_4 := dk_seg dksX0_match_3 24 rfl rfl
theorem dksX0_match_5 : cX0_match.data.toList.drop 119 = dktX0_match_5 := dk_seg dksX0_match_4 24 rfl rfl
theorem dksX0_match_6 : cX0_match.data.toList.drop 143 = dktX0_match_6 := dk_seg dksX0_match_5 24 rfl rfl
theorem dksX0_match_7 : cX0_match.data.toList.drop 166 = dktX0_match_7 := dk_seg dksX0_match_6 23 rfl rfl
theorem dksX0_match_8 : cX0_match.data.toList.drop 190 = dktX0_match_8 := dk_seg dksX0_match_7 24 rfl rfl
theorem dksX0_match_9 : cX0_match.data.toList.drop 213 = dktX0_match_9 := dk_seg dksX0_match_8 23 rfl rfl
theorem dksX0_match_10 : cX0_match.data.toList.drop 237 = dktX0_match_10 := dk_seg dksX0_match_9 24 rfl rfl
theorem dksX0_match_11 : cX0_match.data.toList.drop 260 = dktX0_match_11 := dk_seg dksX0_match_10 23 rfl rfl
theorem dksX0_match_12 : cX0_match.data.toList.drop 282 = dktX0_match_12 := dk_seg dksX0_match_11 22 rfl rfl
theorem dksX0_match_13 : cX0_match.data.toList.drop 305 = dktX0_match_13 := dk_seg dksX0_match_12 23 rfl rfl
theorem dX0_match_0 : decode cX0_match 0 = .ok (.iload_n 1, 1) := dk_27 (dk_at dksX0_match_0 0 rfl rfl)
theorem dX0_match_1 : decode cX0_match 1 = .ok (.iconst 1, 1) := dk_4 (dk_at dksX0_match_0 1 rfl rfl)
theorem dX0_match_2 : decode cX0_match 2 = .ok (.bipush 8, 2) := dk_16 8 (dk_at dksX0_match_0 2 rfl rfl)
theorem dX0_match_4 : decode cX0_match 4 = .ok (.invokestatic 3, 3) := dk_184 0 3 (dk_at dksX0_match_0 4 rfl rfl)
theorem dX0_match_7 : decode cX0_match 7 = .ok (.ifCond .eq 56, 3) := dk_153 0 56 (dk_at dksX0_match_0 7 rfl rfl)
theorem dX0_match_10 : decode cX0_match 10 = .ok (.iload_n 2, 1) := dk_28 (dk_at dksX0_match_0 10 rfl rfl)
theorem dX0_match_11 : decode cX0_match 11 = .ok (.iconst 0, 1) := dk_3 (dk_at dksX0_match_0 11 rfl rfl)
theorem dX0_match_12 : decode cX0_match 12 = .ok (.bipush 10, 2) := dk_16 10 (dk_at dksX0_match_0 12 rfl rfl)
theorem dX0_match_14 : decode cX0_match 14 = .ok (.invokestatic 3, 3) := dk_184 0 3 (dk_at dksX0_match_0 14 rfl rfl)
theorem dX0_match_17 : decode cX0_match 17 = .ok (.ifCond .eq 46, 3) := dk_153 0 46 (dk_at dksX0_match_0 17 rfl rfl)
theorem dX0_match_20 : decode cX0_match 20 = .ok (.iload_n 3, 1) := dk_29 (dk_at dksX0_match_0 20 rfl rfl)
theorem dX0_match_21 : decode cX0_match 21 = .ok (.iconst 0, 1) := dk_3 (dk_at dksX0_match_0 21 rfl rfl)
theorem dX0_match_22 : decode cX0_match 22 = .ok (.iload_n 1, 1) := dk_27 (dk_at dksX0_match_0 22 rfl rfl)
theorem dX0_match_23 : decode cX0_match 23 = .ok (.iconst 1, 1) := dk_4 (dk_at dksX0_match_0 23 rfl rfl)
theorem dX0_match_24 : decode cX0_match 24 = .ok (.isub, 1) := dk_100 (dk_at dksX0_match_1 0 rfl rfl)
theorem dX0_match_25 : decode cX0_match 25 = .ok (.invokestatic 3, 3) := dk_184 0 3 (dk_at dksX0_match_1 1 rfl rfl)
theorem dX0_match_28 : decode cX0_match 28 = .ok (.ifCond .eq 35, 3) := dk_153 0 35 (dk_at dksX0_match_1 4 rfl rfl)
theorem dX0_match_31 : decode cX0_match 31 = .ok (.iload 4, 2) := dk_21 4 (dk_at dksX0_match_1 7 rfl rfl)
theorem dX0_match_33 : decode cX0_match 33 = .ok (.iconst 0, 1) := dk_3 (dk_at dksX0_match_1 9 rfl rfl)
theorem dX0_match_34 : decode cX0_match 34 = .ok (.iload_n 1, 1) := dk_27 (dk_at dksX0_match_1 10 rfl rfl)
theorem dX0_match_35 : decode cX0_match 35 = .ok (.iconst 1, 1) := dk_4 (dk_at dksX0_match_1 11 rfl rfl)
theorem dX0_match_36 : decode cX0_match 36 = .ok (.isub, 1) := dk_100 (dk_at dksX0_match_1 12 rfl rfl)
theorem dX0_match_37 : decode cX0_match 37 = .ok (.invokestatic 3, 3) := dk_184 0 3 (dk_at dksX0_match_1 13 rfl rfl)
theorem dX0_match_40 : decode cX0_match 40 = .ok (.ifCond .eq 23, 3) := dk_153 0 23 (dk_at dksX0_match_1 16 rfl rfl)
theorem dX0_match_43 : decode cX0_match 43 = .ok (.iload 5, 2) := dk_21 5 (dk_at dksX0_match_1 19 rfl rfl)
theorem dX0_match_45 : decode cX0_match 45 = .ok (.iconst 0, 1) := dk_3 (dk_at dksX0_match_1 21 rfl rfl)
theorem dX0_match_46 : decode cX0_match 46 = .ok (.iconst 1, 1) := dk_4 (dk_at dksX0_match_1 22 rfl rfl)
theorem dX0_match_47 : decode cX0_match 47 = .ok (.invokestatic 3, 3) := dk_184 0 3 (dk_at dksX0_match_2 0 rfl rfl)
theorem dX0_match_50 : decode cX0_match 50 = .ok (.ifCond .eq 13, 3) := dk_153 0 13 (dk_at dksX0_match_2 3 rfl rfl)
theorem dX0_match_53 : decode cX0_match 53 = .ok (.iload 6, 2) := dk_21 6 (dk_at dksX0_match_2 6 rfl rfl)
theorem dX0_match_55 : decode cX0_match 55 = .ok (.iconst 0, 1) := dk_3 (dk_at dksX0_match_2 8 rfl rfl)
theorem dX0_match_56 : decode cX0_match 56 = .ok (.iconst 1, 1) := dk_4 (dk_at dksX0_match_2 9 rfl rfl)
theorem dX0_match_57 : decode cX0_match 57 = .ok (.invokestatic 3, 3) := dk_184 0 3 (dk_at dksX0_match_2 10 rfl rfl)
theorem dX0_match_60 : decode cX0_match 60 = .ok (.ifCond .ne 7, 3) := dk_154 0 7 (dk_at dksX0_match_2 13 rfl rfl)
theorem dX0_match_63 : decode cX0_match 63 = .ok (.ldc2_w 233, 3) := dk_20 0 233 (dk_at dksX0_match_2 16 rfl rfl)
theorem dX0_match_66 : decode cX0_match 66 = .ok (.lreturn, 1) := dk_173 (dk_at dksX0_match_2 19 rfl rfl)
theorem dX0_match_67 : decode cX0_match 67 = .ok (.iconst 2, 1) := dk_5 (dk_at dksX0_match_2 20 rfl rfl)
theorem dX0_match_68 : decode cX0_match 68 = .ok (.iload_n 1, 1) := dk_27 (dk_at dksX0_match_2 21 rfl rfl)
theorem dX0_match_69 : decode cX0_match 69 = .ok (.imul, 1) := dk_104 (dk_at dksX0_match_2 22 rfl rfl)
theorem dX0_match_70 : decode cX0_match 70 = .ok (.iload_n 3, 1) := dk_29 (dk_at dksX0_match_2 23 rfl rfl)
theorem dX0_match_71 : decode cX0_match 71 = .ok (.isub, 1) := dk_100 (dk_at dksX0_match_3 0 rfl rfl)
theorem dX0_match_72 : decode cX0_match 72 = .ok (.iload 4, 2) := dk_21 4 (dk_at dksX0_match_3 1 rfl rfl)
theorem dX0_match_74 : decode cX0_match 74 = .ok (.isub, 1) := dk_100 (dk_at dksX0_match_3 3 rfl rfl)
theorem dX0_match_75 : decode cX0_match 75 = .ok (.iconst 1, 1) := dk_4 (dk_at dksX0_match_3 4 rfl rfl)
theorem dX0_match_76 : decode cX0_match 76 = .ok (.isub, 1) := dk_100 (dk_at dksX0_match_3 5 rfl rfl)
theorem dX0_match_77 : decode cX0_match 77 = .ok (.istore 7, 2) := dk_54 7 (dk_at dksX0_match_3 6 rfl rfl)
theorem dX0_match_79 : decode cX0_match 79 = .ok (.aload_n 0, 1) := dk_42 (dk_at dksX0_match_3 8 rfl rfl)
theorem dX0_match_80 : decode cX0_match 80 = .ok (.getfield 61, 3) := dk_180 0 61 (dk_at dksX0_match_3 9 rfl rfl)
theorem dX0_match_83 : decode cX0_match 83 = .ok (.lconst 0, 1) := dk_9 (dk_at dksX0_match_3 12 rfl rfl)
theorem dX0_match_84 : decode cX0_match 84 = .ok (.invokestatic 235, 3) := dk_184 0 235 (dk_at dksX0_match_3 13 rfl rfl)
theorem dX0_match_87 : decode cX0_match 87 = .ok (.aload_n 0, 1) := dk_42 (dk_at dksX0_match_3 16 rfl rfl)
theorem dX0_match_88 : decode cX0_match 88 = .ok (.getfield 61, 3) := dk_180 0 61 (dk_at dksX0_match_3 17 rfl rfl)
theorem dX0_match_91 : decode cX0_match 91 = .ok (.bipush 9, 2) := dk_16 9 (dk_at dksX0_match_3 20 rfl rfl)
theorem dX0_match_93 : decode cX0_match 93 = .ok (.iload_n 3, 1) := dk_29 (dk_at dksX0_match_3 22 rfl rfl)
theorem dX0_match_94 : decode cX0_match 94 = .ok (.imul, 1) := dk_104 (dk_at dksX0_match_3 23 rfl rfl)
theorem dX0_match_95 : decode cX0_match 95 = .ok (.iload 4, 2) := dk_21 4 (dk_at dksX0_match_4 0 rfl rfl)
theorem dX0_match_97 : decode cX0_match 97 = .ok (.iadd, 1) := dk_96 (dk_at dksX0_match_4 2 rfl rfl)
theorem dX0_match_98 : decode cX0_match 98 = .ok (.lconst 1, 1) := dk_10 (dk_at dksX0_match_4 3 rfl rfl)
theorem dX0_match_99 : decode cX0_match 99 = .ok (.lastore, 1) := dk_80 (dk_at dksX0_match_4 4 rfl rfl)
theorem dX0_match_100 : decode cX0_match 100 = .ok (.lconst 0, 1) := dk_9 (dk_at dksX0_match_4 5 rfl rfl)
theorem dX0_match_101 : decode cX0_match 101 = .ok (.lstore 8, 2) := dk_55 8 (dk_at dksX0_match_4 6 rfl rfl)
theorem dX0_match_103 : decode cX0_match 103 = .ok (.iload_n 3, 1) := dk_29 (dk_at dksX0_match_4 8 rfl rfl)
theorem dX0_match_104 : decode cX0_match 104 = .ok (.istore 10, 2) := dk_54 10 (dk_at dksX0_match_4 9 rfl rfl)
theorem dX0_match_106 : decode cX0_match 106 = .ok (.iload 10, 2) := dk_21 10 (dk_at dksX0_match_4 11 rfl rfl)
theorem dX0_match_108 : decode cX0_match 108 = .ok (.iload_n 1, 1) := dk_27 (dk_at dksX0_match_4 13 rfl rfl)
theorem dX0_match_109 : decode cX0_match 109 = .ok (.if_icmp .gt 185, 3) := dk_163 0 185 (dk_at dksX0_match_4 14 rfl rfl)
theorem dX0_match_112 : decode cX0_match 112 = .ok (.iload 4, 2) := dk_21 4 (dk_at dksX0_match_4 17 rfl rfl)
theorem dX0_match_114 : decode cX0_match 114 = .ok (.istore 11, 2) := dk_54 11 (dk_at dksX0_match_4 19 rfl rfl)
theorem dX0_match_116 : decode cX0_match 116 = .ok (.iload 11, 2) := dk_21 11 (dk_at dksX0_match_4 21 rfl rfl)
theorem dX0_match_118 : decode cX0_match 118 = .ok (.iload_n 1, 1) := dk_27 (dk_at dksX0_match_4 23 rfl rfl)
theorem dX0_match_119 : decode cX0_match 119 = .ok (.if_icmp .gt 169, 3) := dk_163 0 169 (dk_at dksX0_match_5 0 rfl rfl)
theorem dX0_match_122 : decode cX0_match 122 = .ok (.aload_n 0, 1) := dk_42 (dk_at dksX0_match_5 3 rfl rfl)
theorem dX0_match_123 : decode cX0_match 123 = .ok (.getfield 61, 3) := dk_180 0 61 (dk_at dksX0_match_5 4 rfl rfl)
theorem dX0_match_126 : decode cX0_match 126 = .ok (.bipush 9, 2) := dk_16 9 (dk_at dksX0_match_5 7 rfl rfl)
theorem dX0_match_128 : decode cX0_match 128 = .ok (.iload 10, 2) := dk_21 10 (dk_at dksX0_match_5 9 rfl rfl)
theorem dX0_match_130 : decode cX0_match 130 = .ok (.imul, 1) := dk_104 (dk_at dksX0_match_5 11 rfl rfl)
theorem dX0_match_131 : decode cX0_match 131 = .ok (.iload 11, 2) := dk_21 11 (dk_at dksX0_match_5 12 rfl rfl)
theorem dX0_match_133 : decode cX0_match 133 = .ok (.iadd, 1) := dk_96 (dk_at dksX0_match_5 14 rfl rfl)
theorem dX0_match_134 : decode cX0_match 134 = .ok (.laload, 1) := dk_47 (dk_at dksX0_match_5 15 rfl rfl)
theorem dX0_match_135 : decode cX0_match 135 = .ok (.lstore 12, 2) := dk_55 12 (dk_at dksX0_match_5 16 rfl rfl)
theorem dX0_match_137 : decode cX0_match 137 = .ok (.iload 10, 2) := dk_21 10 (dk_at dksX0_match_5 18 rfl rfl)
theorem dX0_match_139 : decode cX0_match 139 = .ok (.iload 11, 2) := dk_21 11 (dk_at dksX0_match_5 20 rfl rfl)
theorem dX0_match_141 : decode cX0_match 141 = .ok (.iadd, 1) := dk_96 (dk_at dksX0_match_5 22 rfl rfl)
theorem dX0_match_142 : decode cX0_match 142 = .ok (.iload_n 3, 1) := dk_29 (dk_at dksX0_match_5 23 rfl rfl)
theorem dX0_match_143 : decode cX0_match 143 = .ok (.isub, 1) := dk_100 (dk_at dksX0_match_6 0 rfl rfl)
theorem dX0_match_144 : decode cX0_match 144 = .ok (.iload 4, 2) := dk_21 4 (dk_at dksX0_match_6 1 rfl rfl)
theorem dX0_match_146 : decode cX0_match 146 = .ok (.isub, 1) := dk_100 (dk_at dksX0_match_6 3 rfl rfl)
theorem dX0_match_147 : decode cX0_match 147 = .ok (.istore 14, 2) := dk_54 14 (dk_at dksX0_match_6 4 rfl rfl)
theorem dX0_match_149 : decode cX0_match 149 = .ok (.iload 10, 2) := dk_21 10 (dk_at dksX0_match_6 6 rfl rfl)
theorem dX0_match_151 : decode cX0_match 151 = .ok (.iload_n 1, 1) := dk_27 (dk_at dksX0_match_6 8 rfl rfl)
theorem dX0_match_152 : decode cX0_match 152 = .ok (.if_icmp .eq 9, 3) := dk_159 0 9 (dk_at dksX0_match_6 9 rfl rfl)
theorem dX0_match_155 : decode cX0_match 155 = .ok (.iload 11, 2) := dk_21 11 (dk_at dksX0_match_6 12 rfl rfl)
theorem dX0_match_157 : decode cX0_match 157 = .ok (.iload_n 1, 1) := dk_27 (dk_at dksX0_match_6 14 rfl rfl)
theorem dX0_match_158 : decode cX0_match 158 = .ok (.if_icmp .ne 7, 3) := dk_160 0 7 (dk_at dksX0_match_6 15 rfl rfl)
theorem dX0_match_161 : decode cX0_match 161 = .ok (.iconst 1, 1) := dk_4 (dk_at dksX0_match_6 18 rfl rfl)
theorem dX0_match_162 : decode cX0_match 162 = .ok (.goto 4, 3) := dk_167 0 4 (dk_at dksX0_match_6 19 rfl rfl)
theorem dX0_match_165 : decode cX0_match 165 = .ok (.iconst 0, 1) := dk_3 (dk_at dksX0_match_6 22 rfl rfl)
theorem dX0_match_166 : decode cX0_match 166 = .ok (.istore 15, 2) := dk_54 15 (dk_at dksX0_match_7 0 rfl rfl)
theorem dX0_match_168 : decode cX0_match 168 = .ok (.iload 15, 2) := dk_21 15 (dk_at dksX0_match_7 2 rfl rfl)
theorem dX0_match_170 : decode cX0_match 170 = .ok (.ifCond .eq 56, 3) := dk_153 0 56 (dk_at dksX0_match_7 4 rfl rfl)
theorem dX0_match_173 : decode cX0_match 173 = .ok (.lload 12, 2) := dk_22 12 (dk_at dksX0_match_7 7 rfl rfl)
theorem dX0_match_175 : decode cX0_match 175 = .ok (.lconst 0, 1) := dk_9 (dk_at dksX0_match_7 9 rfl rfl)
theorem dX0_match_176 : decode cX0_match 176 = .ok (.lcmp, 1) := dk_148 (dk_at dksX0_match_7 10 rfl rfl)
theorem dX0_match_177 : decode cX0_match 177 = .ok (.ifCond .le 49, 3) := dk_158 0 49 (dk_at dksX0_match_7 11 rfl rfl)
theorem dX0_match_180 : decode cX0_match 180 = .ok (.lload 8, 2) := dk_22 8 (dk_at dksX0_match_7 14 rfl rfl)
theorem dX0_match_182 : decode cX0_match 182 = .ok (.iload 5, 2) := dk_21 5 (dk_at dksX0_match_7 16 rfl rfl)
theorem dX0_match_184 : decode cX0_match 184 = .ok (.iconst 1, 1) := dk_4 (dk_at dksX0_match_7 18 rfl rfl)
theorem dX0_match_185 : decode cX0_match 185 = .ok (.if_icmp .ne 8, 3) := dk_160 0 8 (dk_at dksX0_match_7 19 rfl rfl)
theorem dX0_match_188 : decode cX0_match 188 = .ok (.iload 14, 2) := dk_21 14 (dk_at dksX0_match_7 22 rfl rfl)
theorem dX0_match_190 : decode cX0_match 190 = .ok (.goto 17, 3) := dk_167 0 17 (dk_at dksX0_match_8 0 rfl rfl)
theorem dX0_match_193 : decode cX0_match 193 = .ok (.iload 10, 2) := dk_21 10 (dk_at dksX0_match_8 3 rfl rfl)
theorem dX0_match_195 : decode cX0_match 195 = .ok (.iload_n 1, 1) := dk_27 (dk_at dksX0_match_8 5 rfl rfl)
theorem dX0_match_196 : decode cX0_match 196 = .ok (.if_icmp .ne 7, 3) := dk_160 0 7 (dk_at dksX0_match_8 6 rfl rfl)
theorem dX0_match_199 : decode cX0_match 199 = .ok (.iconst 1, 1) := dk_4 (dk_at dksX0_match_8 9 rfl rfl)
theorem dX0_match_200 : decode cX0_match 200 = .ok (.goto 4, 3) := dk_167 0 4 (dk_at dksX0_match_8 10 rfl rfl)
theorem dX0_match_203 : decode cX0_match 203 = .ok (.iconst 0, 1) := dk_3 (dk_at dksX0_match_8 13 rfl rfl)
theorem dX0_match_204 : decode cX0_match 204 = .ok (.invokestatic 186, 3) := dk_184 0 186 (dk_at dksX0_match_8 14 rfl rfl)
theorem dX0_match_207 : decode cX0_match 207 = .ok (.i2l, 1) := dk_133 (dk_at dksX0_match_8 17 rfl rfl)
theorem dX0_match_208 : decode cX0_match 208 = .ok (.lload 12, 2) := dk_22 12 (dk_at dksX0_match_8 18 rfl rfl)
theorem dX0_match_210 : decode cX0_match 210 = .ok (.lmul, 1) := dk_105 (dk_at dksX0_match_8 20 rfl rfl)
theorem dX0_match_211 : decode cX0_match 211 = .ok (.iload 7, 2) := dk_21 7 (dk_at dksX0_match_8 21 rfl rfl)
theorem dX0_match_213 : decode cX0_match 213 = .ok (.iload 14, 2) := dk_21 14 (dk_at dksX0_match_9 0 rfl rfl)
theorem dX0_match_215 : decode cX0_match 215 = .ok (.isub, 1) := dk_100 (dk_at dksX0_match_9 2 rfl rfl)
theorem dX0_match_216 : decode cX0_match 216 = .ok (.invokestatic 238, 3) := dk_184 0 238 (dk_at dksX0_match_9 3 rfl rfl)
theorem dX0_match_219 : decode cX0_match 219 = .ok (.lmul, 1) := dk_105 (dk_at dksX0_match_9 6 rfl rfl)
theorem dX0_match_220 : decode cX0_match 220 = .ok (.ladd, 1) := dk_97 (dk_at dksX0_match_9 7 rfl rfl)
theorem dX0_match_221 : decode cX0_match 221 = .ok (.lstore 8, 2) := dk_55 8 (dk_at dksX0_match_9 8 rfl rfl)
theorem dX0_match_223 : decode cX0_match 223 = .ok (.goto 59, 3) := dk_167 0 59 (dk_at dksX0_match_9 10 rfl rfl)
theorem dX0_match_226 : decode cX0_match 226 = .ok (.lload 12, 2) := dk_22 12 (dk_at dksX0_match_9 13 rfl rfl)
theorem dX0_match_228 : decode cX0_match 228 = .ok (.lconst 0, 1) := dk_9 (dk_at dksX0_match_9 15 rfl rfl)
theorem dX0_match_229 : decode cX0_match 229 = .ok (.lcmp, 1) := dk_148 (dk_at dksX0_match_9 16 rfl rfl)
theorem dX0_match_230 : decode cX0_match 230 = .ok (.ifCond .le 52, 3) := dk_158 0 52 (dk_at dksX0_match_9 17 rfl rfl)
theorem dX0_match_233 : decode cX0_match 233 = .ok (.aload_n 0, 1) := dk_42 (dk_at dksX0_match_9 20 rfl rfl)
theorem dX0_match_234 : decode cX0_match 234 = .ok (.getfield 61, 3) := dk_180 0 61 (dk_at dksX0_match_9 21 rfl rfl)
theorem dX0_match_237 : decode cX0_match 237 = .ok (.bipush 9, 2) := dk_16 9 (dk_at dksX0_match_10 0 rfl rfl)
theorem dX0_match_239 : decode cX0_match 239 = .ok (.iload 10, 2) := dk_21 10 (dk_at dksX0_match_10 2 rfl rfl)
theorem dX0_match_241 : decode cX0_match 241 = .ok (.iconst 1, 1) := dk_4 (dk_at dksX0_match_10 4 rfl rfl)
theorem dX0_match_242 : decode cX0_match 242 = .ok (.iadd, 1) := dk_96 (dk_at dksX0_match_10 5 rfl rfl)
theorem dX0_match_243 : decode cX0_match 243 = .ok (.imul, 1) := dk_104 (dk_at dksX0_match_10 6 rfl rfl)
theorem dX0_match_244 : decode cX0_match 244 = .ok (.iload 11, 2) := dk_21 11 (dk_at dksX0_match_10 7 rfl rfl)
theorem dX0_match_246 : decode cX0_match 246 = .ok (.iadd, 1) := dk_96 (dk_at dksX0_match_10 9 rfl rfl)
theorem dX0_match_247 : decode cX0_match 247 = .ok (.dup2, 1) := dk_92 (dk_at dksX0_match_10 10 rfl rfl)
theorem dX0_match_248 : decode cX0_match 248 = .ok (.laload, 1) := dk_47 (dk_at dksX0_match_10 11 rfl rfl)
theorem dX0_match_249 : decode cX0_match 249 = .ok (.lload 12, 2) := dk_22 12 (dk_at dksX0_match_10 12 rfl rfl)
theorem dX0_match_251 : decode cX0_match 251 = .ok (.iload_n 2, 1) := dk_28 (dk_at dksX0_match_10 14 rfl rfl)
theorem dX0_match_252 : decode cX0_match 252 = .ok (.i2l, 1) := dk_133 (dk_at dksX0_match_10 15 rfl rfl)
theorem dX0_match_253 : decode cX0_match 253 = .ok (.lmul, 1) := dk_105 (dk_at dksX0_match_10 16 rfl rfl)
theorem dX0_match_254 : decode cX0_match 254 = .ok (.ladd, 1) := dk_97 (dk_at dksX0_match_10 17 rfl rfl)
theorem dX0_match_255 : decode cX0_match 255 = .ok (.lastore, 1) := dk_80 (dk_at dksX0_match_10 18 rfl rfl)
theorem dX0_match_256 : decode cX0_match 256 = .ok (.aload_n 0, 1) := dk_42 (dk_at dksX0_match_10 19 rfl rfl)
theorem dX0_match_257 : decode cX0_match 257 = .ok (.getfield 61, 3) := dk_180 0 61 (dk_at dksX0_match_10 20 rfl rfl)
theorem dX0_match_260 : decode cX0_match 260 = .ok (.bipush 9, 2) := dk_16 9 (dk_at dksX0_match_11 0 rfl rfl)
theorem dX0_match_262 : decode cX0_match 262 = .ok (.iload 10, 2) := dk_21 10 (dk_at dksX0_match_11 2 rfl rfl)
theorem dX0_match_264 : decode cX0_match 264 = .ok (.imul, 1) := dk_104 (dk_at dksX0_match_11 4 rfl rfl)
theorem dX0_match_265 : decode cX0_match 265 = .ok (.iload 11, 2) := dk_21 11 (dk_at dksX0_match_11 5 rfl rfl)
theorem dX0_match_267 : decode cX0_match 267 = .ok (.iadd, 1) := dk_96 (dk_at dksX0_match_11 7 rfl rfl)
theorem dX0_match_268 : decode cX0_match 268 = .ok (.iconst 1, 1) := dk_4 (dk_at dksX0_match_11 8 rfl rfl)
theorem dX0_match_269 : decode cX0_match 269 = .ok (.iadd, 1) := dk_96 (dk_at dksX0_match_11 9 rfl rfl)
theorem dX0_match_270 : decode cX0_match 270 = .ok (.dup2, 1) := dk_92 (dk_at dksX0_match_11 10 rfl rfl)
theorem dX0_match_271 : decode cX0_match 271 = .ok (.laload, 1) := dk_47 (dk_at dksX0_match_11 11 rfl rfl)
theorem dX0_match_272 : decode cX0_match 272 = .ok (.lload 12, 2) := dk_22 12 (dk_at dksX0_match_11 12 rfl rfl)
theorem dX0_match_274 : decode cX0_match 274 = .ok (.bipush 10, 2) := dk_16 10 (dk_at dksX0_match_11 14 rfl rfl)
theorem dX0_match_276 : decode cX0_match 276 = .ok (.iload_n 2, 1) := dk_28 (dk_at dksX0_match_11 16 rfl rfl)
theorem dX0_match_277 : decode cX0_match 277 = .ok (.isub, 1) := dk_100 (dk_at dksX0_match_11 17 rfl rfl)
theorem dX0_match_278 : decode cX0_match 278 = .ok (.i2l, 1) := dk_133 (dk_at dksX0_match_11 18 rfl rfl)
theorem dX0_match_279 : decode cX0_match 279 = .ok (.lmul, 1) := dk_105 (dk_at dksX0_match_11 19 rfl rfl)
theorem dX0_match_280 : decode cX0_match 280 = .ok (.ladd, 1) := dk_97 (dk_at dksX0_match_11 20 rfl rfl)
theorem dX0_match_281 : decode cX0_match 281 = .ok (.lastore, 1) := dk_80 (dk_at dksX0_match_11 21 rfl rfl)
theorem dX0_match_282 : decode cX0_match 282 = .ok (.iinc 11 1, 3) := dk_132 11 1 (dk_at dksX0_match_12 0 rfl rfl)
theorem dX0_match_285 : decode cX0_match 285 = .ok (.goto (-169), 3) := dk_167 255 87 (dk_at dksX0_match_12 3 rfl rfl)
theorem dX0_match_288 : decode cX0_match 288 = .ok (.iinc 10 1, 3) := dk_132 10 1 (dk_at dksX0_match_12 6 rfl rfl)
theorem dX0_match_291 : decode cX0_match 291 = .ok (.goto (-185), 3) := dk_167 255 71 (dk_at dksX0_match_12 9 rfl rfl)
theorem dX0_match_294 : decode cX0_match 294 = .ok (.iload 7, 2) := dk_21 7 (dk_at dksX0_match_12 12 rfl rfl)
theorem dX0_match_296 : decode cX0_match 296 = .ok (.invokestatic 238, 3) := dk_184 0 238 (dk_at dksX0_match_12 14 rfl rfl)
theorem dX0_match_299 : decode cX0_match 299 = .ok (.lstore 10, 2) := dk_55 10 (dk_at dksX0_match_12 17 rfl rfl)
theorem dX0_match_301 : decode cX0_match 301 = .ok (.lload 8, 2) := dk_22 8 (dk_at dksX0_match_12 19 rfl rfl)
theorem dX0_match_303 : decode cX0_match 303 = .ok (.lload 10, 2) := dk_22 10 (dk_at dksX0_match_12 21 rfl rfl)
theorem dX0_match_305 : decode cX0_match 305 = .ok (.invokestatic 227, 3) := dk_184 0 227 (dk_at dksX0_match_13 0 rfl rfl)
theorem dX0_match_308 : decode cX0_match 308 = .ok (.lstore 12, 2) := dk_55 12 (dk_at dksX0_match_13 3 rfl rfl)
theorem dX0_match_310 : decode cX0_match 310 = .ok (.iload 6, 2) := dk_21 6 (dk_at dksX0_match_13 5 rfl rfl)
theorem dX0_match_312 : decode cX0_match 312 = .ok (.ifCond .ne 11, 3) := dk_154 0 11 (dk_at dksX0_match_13 7 rfl rfl)
theorem dX0_match_315 : decode cX0_match 315 = .ok (.lload 8, 2) := dk_22 8 (dk_at dksX0_match_13 10 rfl rfl)
theorem dX0_match_317 : decode cX0_match 317 = .ok (.lload 12, 2) := dk_22 12 (dk_at dksX0_match_13 12 rfl rfl)
theorem dX0_match_319 : decode cX0_match 319 = .ok (.ldiv, 1) := dk_109 (dk_at dksX0_match_13 14 rfl rfl)
theorem dX0_match_320 : decode cX0_match 320 = .ok (.goto 8, 3) := dk_167 0 8 (dk_at dksX0_match_13 15 rfl rfl)
theorem dX0_match_323 : decode cX0_match 323 = .ok (.lload 10, 2) := dk_22 10 (dk_at dksX0_match_13 18 rfl rfl)
theorem dX0_match_325 : decode cX0_match 325 = .ok (.lload 12, 2) := dk_22 12 (dk_at dksX0_match_13 20 rfl rfl)
theorem dX0_match_327 : decode cX0_match 327 = .ok (.ldiv, 1) := dk_109 (dk_at dksX0_match_13 22 rfl rfl)
theorem dX0_match_328 : decode cX0_match 328 = .ok (.lreturn, 1) := dk_173 (dk_at dksX0_match_13 23 rfl rfl)
abbrev cX0_power : ByteArray := prog_1_method_40_code
def yX0_power : MethodName := ⟨RX0, "power", "(I)J"⟩
def dkwX0_power_0 : List UInt8 := [10, 64, 3, 62, 29, 26, 162, 0, 15, 31, 20, 0, 231, 105, 64, 132, 3, 1, 167, 255, 242, 31, 173]
abbrev dktX0_power_0 : List UInt8 := dkwX0_power_0 ++ []
theorem dksX0_power_0 : cX0_power.data.toList.drop 0 = dktX0_power_0 := by decide +kernel
theorem dX0_power_0 : decode cX0_power 0 = .ok (.lconst 1, 1) := dk_10 (dk_at dksX0_power_0 0 rfl rfl)
theorem dX0_power_1 : decode cX0_power 1 = .ok (.lstore_n 1, 1) := dk_64 (dk_at dksX0_power_0 1 rfl rfl)
theorem dX0_power_2 : decode cX0_power 2 = .ok (.iconst 0, 1) := dk_3 (dk_at dksX0_power_0 2 rfl rfl)
theorem dX0_power_3 : decode cX0_power 3 = .ok (.istore_n 3, 1) := dk_62 (dk_at dksX0_power_0 3 rfl rfl)
theorem dX0_power_4 : decode cX0_power 4 = .ok (.iload_n 3, 1) := dk_29 (dk_at dksX0_power_0 4 rfl rfl)
theorem dX0_power_5 : decode cX0_power 5 = .ok (.iload_n 0, 1) := dk_26 (dk_at dksX0_power_0 5 rfl rfl)
theorem dX0_power_6 : decode cX0_power 6 = .ok (.if_icmp .ge 15, 3) := dk_162 0 15 (dk_at dksX0_power_0 6 rfl rfl)
theorem dX0_power_9 : decode cX0_power 9 = .ok (.lload_n 1, 1) := dk_31 (dk_at dksX0_power_0 9 rfl rfl)
theorem dX0_power_10 : decode cX0_power 10 = .ok (.ldc2_w 231, 3) := dk_20 0 231 (dk_at dksX0_power_0 10 rfl rfl)
theorem dX0_power_13 : decode cX0_power 13 = .ok (.lmul, 1) := dk_105 (dk_at dksX0_power_0 13 rfl rfl)
theorem dX0_power_14 : decode cX0_power 14 = .ok (.lstore_n 1, 1) := dk_64 (dk_at dksX0_power_0 14 rfl rfl)
theorem dX0_power_15 : decode cX0_power 15 = .ok (.iinc 3 1, 3) := dk_132 3 1 (dk_at dksX0_power_0 15 rfl rfl)
theorem dX0_power_18 : decode cX0_power 18 = .ok (.goto (-14), 3) := dk_167 255 242 (dk_at dksX0_power_0 18 rfl rfl)
theorem dX0_power_21 : decode cX0_power 21 = .ok (.lload_n 1, 1) := dk_31 (dk_at dksX0_power_0 21 rfl rfl)
theorem dX0_power_22 : decode cX0_power 22 = .ok (.lreturn, 1) := dk_173 (dk_at dksX0_power_0 22 rfl rfl)
abbrev cX0_divisor : ByteArray := prog_1_method_39_code
def yX0_divisor : MethodName := ⟨RX0, "divisor", "(JJ)J"⟩
def dkwX0_divisor_0 : List UInt8 := [32, 9, 148, 154, 0, 7, 30, 167, 0, 10, 32, 30, 32, 113, 184, 0, 227, 173]
abbrev dktX0_divisor_0 : List UInt8 := dkwX0_divisor_0 ++ []
theorem dksX0_divisor_0 : cX0_divisor.data.toList.drop 0 = dktX0_divisor_0 := by decide +kernel
theorem dX0_divisor_0 : decode cX0_divisor 0 = .ok (.lload_n 2, 1) := dk_32 (dk_at dksX0_divisor_0 0 rfl rfl)
theorem dX0_divisor_1 : decode cX0_divisor 1 = .ok (.lconst 0, 1) := dk_9 (dk_at dksX0_divisor_0 1 rfl rfl)
theorem dX0_divisor_2 : decode cX0_divisor 2 = .ok (.lcmp, 1) := dk_148 (dk_at dksX0_divisor_0 2 rfl rfl)
theorem dX0_divisor_3 : decode cX0_divisor 3 = .ok (.ifCond .ne 7, 3) := dk_154 0 7 (dk_at dksX0_divisor_0 3 rfl rfl)
theorem dX0_divisor_6 : decode cX0_divisor 6 = .ok (.lload_n 0, 1) := dk_30 (dk_at dksX0_divisor_0 6 rfl rfl)
theorem dX0_divisor_7 : decode cX0_divisor 7 = .ok (.goto 10, 3) := dk_167 0 10 (dk_at dksX0_divisor_0 7 rfl rfl)
theorem dX0_divisor_10 : decode cX0_divisor 10 = .ok (.lload_n 2, 1) := dk_32 (dk_at dksX0_divisor_0 10 rfl rfl)
theorem dX0_divisor_11 : decode cX0_divisor 11 = .ok (.lload_n 0, 1) := dk_30 (dk_at dksX0_divisor_0 11 rfl rfl)
theorem dX0_divisor_12 : decode cX0_divisor 12 = .ok (.lload_n 2, 1) := dk_32 (dk_at dksX0_divisor_0 12 rfl rfl)
theorem dX0_divisor_13 : decode cX0_divisor 13 = .ok (.lrem, 1) := dk_113 (dk_at dksX0_divisor_0 13 rfl rfl)
theorem dX0_divisor_14 : decode cX0_divisor 14 = .ok (.invokestatic 227, 3) := dk_184 0 227 (dk_at dksX0_divisor_0 14 rfl rfl)
theorem dX0_divisor_17 : decode cX0_divisor 17 = .ok (.lreturn, 1) := dk_173 (dk_at dksX0_divisor_0 17 rfl rfl)
abbrev cX0_season : ByteArray := prog_1_method_42_code
def yX0_season : MethodName := ⟨RX0, "season", "(III)I"⟩
def dkwX0_season_10 : List UInt8 := [180, 0, 20, 180, 0, 86, 167, 0, 10, 42, 180, 0, 20, 182, 0, 138, 172]
abbrev dktX0_season_10 : List UInt8 := dkwX0_season_10 ++ []
def dkwX0_season_9 : List UInt8 := [167, 255, 108, 29, 154, 0, 13, 42, 180, 0, 20, 180, 0, 82, 167, 0, 25, 29, 4, 160, 0, 13, 42]
abbrev dktX0_season_9 : List UInt8 := dkwX0_season_9 ++ dktX0_season_10
def dkwX0_season_8 : List UInt8 := [21, 8, 16, 8, 112, 4, 21, 8, 16, 8, 108, 16, 9, 112, 96, 182, 0, 112, 181, 0, 100, 132, 6, 1]
abbrev dktX0_season_8 : List UInt8 := dkwX0_season_8 ++ dktX0_season_9
def dkwX0_season_7 : List UInt8 := [167, 0, 45, 42, 42, 180, 0, 20, 182, 0, 106, 181, 0, 100, 167, 0, 31, 42, 42, 180, 0, 20, 21, 7]
abbrev dktX0_season_7 : List UInt8 := dkwX0_season_7 ++ dktX0_season_8
def dkwX0_season_6 : List UInt8 := [42, 42, 180, 0, 20, 21, 7, 182, 0, 109, 181, 0, 100, 167, 0, 55, 42, 180, 0, 20, 182, 0, 103]
abbrev dktX0_season_6 : List UInt8 := dkwX0_season_6 ++ dktX0_season_7
def dkwX0_season_5 : List UInt8 := [170, 0, 0, 0, 0, 66, 0, 0, 0, 5, 0, 0, 0, 7, 0, 0, 0, 26, 0, 0, 0, 42, 0, 0, 0, 52]
abbrev dktX0_season_5 : List UInt8 := dkwX0_season_5 ++ dktX0_season_6
def dkwX0_season_4 : List UInt8 := [20, 0, 248, 109, 20, 0, 252, 113, 136]
abbrev dktX0_season_4 : List UInt8 := dkwX0_season_4 ++ dktX0_season_5
def dkwX0_season_3 : List UInt8 := [55, 4, 22, 4, 20, 0, 248, 113, 136, 54, 7, 22, 4, 20, 0, 250, 109, 136, 54, 8, 22, 4]
abbrev dktX0_season_3 : List UInt8 := dkwX0_season_3 ++ dktX0_season_4
def dkwX0_season_2 : List UInt8 := [3, 54, 6, 21, 6, 28, 162, 0, 148, 20, 0, 242, 22, 4, 105, 20, 0, 244, 97, 20, 0, 246, 113]
abbrev dktX0_season_2 : List UInt8 := dkwX0_season_2 ++ dktX0_season_3
def dkwX0_season_1 : List UInt8 := [184, 0, 3, 154, 0, 6, 16, 254, 172, 42, 180, 0, 20, 42, 180, 0, 16, 182, 0, 116, 27, 133, 55, 4]
abbrev dktX0_season_1 : List UInt8 := dkwX0_season_1 ++ dktX0_season_2
def dkwX0_season_0 : List UInt8 := [27, 3, 17, 39, 15, 184, 0, 3, 153, 0, 22, 28, 4, 16, 99, 184, 0, 3, 153, 0, 12, 29, 3, 5]
abbrev dktX0_season_0 : List UInt8 := dkwX0_season_0 ++ dktX0_season_1
theorem dksX0_season_0 : cX0_season.data.toList.drop 0 = dktX0_season_0 := by decide +kernel
theorem dksX0_season_1 : cX0_season.data.toList.drop 24 = dktX0_season_1 := dk_seg dksX0_season_0 24 rfl rfl
theorem dksX0_season_2 : cX0_season.data.toList.drop 48 = dktX0_season_2 := dk_seg dksX0_season_1 24 rfl rfl
theorem dksX0_season_3 : cX0_season.data.toList.drop 71 = dktX0_season_3 := dk_seg dksX0_season_2 23 rfl rfl
theorem dksX0_season_4 : cX0_season.data.toList.drop 93 = dktX0_season_4 := dk_seg dksX0_season_3 22 rfl rfl
theorem dksX0_season_5 : cX0_season.data.toList.drop 102 = dktX0_season_5 := dk_seg dksX0_season_4 9 rfl rfl
theorem dksX0_season_6 : cX0_season.data.toList.drop 128 = dktX0_season_6 := dk_seg dksX0_season_5 26 rfl rfl
theorem dksX0_season_7 : cX0_season.data.toList.drop 151 = dktX0_season_7 := dk_seg dksX0_season_6 23 rfl rfl
theorem dksX0_season_8 : cX0_season.data.toList.drop 175 = dktX0_season_8 := dk_seg dksX0_season_7 24 rfl rfl
theorem dksX0_season_9 : cX0_season.data.toList.drop 199 = dktX0_season_9 := dk_seg dksX0_season_8 24 rfl rfl
theorem dksX0_season_10 : cX0_season.data.toList.drop 222 = dktX0_season_10 := dk_seg dksX0_season_9 23 rfl rfl
theorem dX0_season_0 : decode cX0_season 0 = .ok (.iload_n 1, 1) := dk_27 (dk_at dksX0_season_0 0 rfl rfl)
theorem dX0_season_1 : decode cX0_season 1 = .ok (.iconst 0, 1) := dk_3 (dk_at dksX0_season_0 1 rfl rfl)
theorem dX0_season_2 : decode cX0_season 2 = .ok (.sipush 9999, 3) := dk_17 39 15 (dk_at dksX0_season_0 2 rfl rfl)
theorem dX0_season_5 : decode cX0_season 5 = .ok (.invokestatic 3, 3) := dk_184 0 3 (dk_at dksX0_season_0 5 rfl rfl)
theorem dX0_season_8 : decode cX0_season 8 = .ok (.ifCond .eq 22, 3) := dk_153 0 22 (dk_at dksX0_season_0 8 rfl rfl)
theorem dX0_season_11 : decode cX0_season 11 = .ok (.iload_n 2, 1) := dk_28 (dk_at dksX0_season_0 11 rfl rfl)
theorem dX0_season_12 : decode cX0_season 12 = .ok (.iconst 1, 1) := dk_4 (dk_at dksX0_season_0 12 rfl rfl)
theorem dX0_season_13 : decode cX0_season 13 = .ok (.bipush 99, 2) := dk_16 99 (dk_at dksX0_season_0 13 rfl rfl)
theorem dX0_season_15 : decode cX0_season 15 = .ok (.invokestatic 3, 3) := dk_184 0 3 (dk_at dksX0_season_0 15 rfl rfl)
theorem dX0_season_18 : decode cX0_season 18 = .ok (.ifCond .eq 12, 3) := dk_153 0 12 (dk_at dksX0_season_0 18 rfl rfl)
theorem dX0_season_21 : decode cX0_season 21 = .ok (.iload_n 3, 1) := dk_29 (dk_at dksX0_season_0 21 rfl rfl)
theorem dX0_season_22 : decode cX0_season 22 = .ok (.iconst 0, 1) := dk_3 (dk_at dksX0_season_0 22 rfl rfl)
theorem dX0_season_23 : decode cX0_season 23 = .ok (.iconst 2, 1) := dk_5 (dk_at dksX0_season_0 23 rfl rfl)
theorem dX0_season_24 : decode cX0_season 24 = .ok (.invokestatic 3, 3) := dk_184 0 3 (dk_at dksX0_season_1 0 rfl rfl)
theorem dX0_season_27 : decode cX0_season 27 = .ok (.ifCond .ne 6, 3) := dk_154 0 6 (dk_at dksX0_season_1 3 rfl rfl)
theorem dX0_season_30 : decode cX0_season 30 = .ok (.bipush (-2), 2) := dk_16 254 (dk_at dksX0_season_1 6 rfl rfl)
theorem dX0_season_32 : decode cX0_season 32 = .ok (.ireturn, 1) := dk_172 (dk_at dksX0_season_1 8 rfl rfl)
theorem dX0_season_33 : decode cX0_season 33 = .ok (.aload_n 0, 1) := dk_42 (dk_at dksX0_season_1 9 rfl rfl)
theorem dX0_season_34 : decode cX0_season 34 = .ok (.getfield 20, 3) := dk_180 0 20 (dk_at dksX0_season_1 10 rfl rfl)
theorem dX0_season_37 : decode cX0_season 37 = .ok (.aload_n 0, 1) := dk_42 (dk_at dksX0_season_1 13 rfl rfl)
theorem dX0_season_38 : decode cX0_season 38 = .ok (.getfield 16, 3) := dk_180 0 16 (dk_at dksX0_season_1 14 rfl rfl)
theorem dX0_season_41 : decode cX0_season 41 = .ok (.invokevirtual 116, 3) := dk_182 0 116 (dk_at dksX0_season_1 17 rfl rfl)
theorem dX0_season_44 : decode cX0_season 44 = .ok (.iload_n 1, 1) := dk_27 (dk_at dksX0_season_1 20 rfl rfl)
theorem dX0_season_45 : decode cX0_season 45 = .ok (.i2l, 1) := dk_133 (dk_at dksX0_season_1 21 rfl rfl)
theorem dX0_season_46 : decode cX0_season 46 = .ok (.lstore 4, 2) := dk_55 4 (dk_at dksX0_season_1 22 rfl rfl)
theorem dX0_season_48 : decode cX0_season 48 = .ok (.iconst 0, 1) := dk_3 (dk_at dksX0_season_2 0 rfl rfl)
theorem dX0_season_49 : decode cX0_season 49 = .ok (.istore 6, 2) := dk_54 6 (dk_at dksX0_season_2 1 rfl rfl)
theorem dX0_season_51 : decode cX0_season 51 = .ok (.iload 6, 2) := dk_21 6 (dk_at dksX0_season_2 3 rfl rfl)
theorem dX0_season_53 : decode cX0_season 53 = .ok (.iload_n 2, 1) := dk_28 (dk_at dksX0_season_2 5 rfl rfl)
theorem dX0_season_54 : decode cX0_season 54 = .ok (.if_icmp .ge 148, 3) := dk_162 0 148 (dk_at dksX0_season_2 6 rfl rfl)
theorem dX0_season_57 : decode cX0_season 57 = .ok (.ldc2_w 242, 3) := dk_20 0 242 (dk_at dksX0_season_2 9 rfl rfl)
theorem dX0_season_60 : decode cX0_season 60 = .ok (.lload 4, 2) := dk_22 4 (dk_at dksX0_season_2 12 rfl rfl)
theorem dX0_season_62 : decode cX0_season 62 = .ok (.lmul, 1) := dk_105 (dk_at dksX0_season_2 14 rfl rfl)
theorem dX0_season_63 : decode cX0_season 63 = .ok (.ldc2_w 244, 3) := dk_20 0 244 (dk_at dksX0_season_2 15 rfl rfl)
theorem dX0_season_66 : decode cX0_season 66 = .ok (.ladd, 1) := dk_97 (dk_at dksX0_season_2 18 rfl rfl)
theorem dX0_season_67 : decode cX0_season 67 = .ok (.ldc2_w 246, 3) := dk_20 0 246 (dk_at dksX0_season_2 19 rfl rfl)
theorem dX0_season_70 : decode cX0_season 70 = .ok (.lrem, 1) := dk_113 (dk_at dksX0_season_2 22 rfl rfl)
theorem dX0_season_71 : decode cX0_season 71 = .ok (.lstore 4, 2) := dk_55 4 (dk_at dksX0_season_3 0 rfl rfl)
theorem dX0_season_73 : decode cX0_season 73 = .ok (.lload 4, 2) := dk_22 4 (dk_at dksX0_season_3 2 rfl rfl)
theorem dX0_season_75 : decode cX0_season 75 = .ok (.ldc2_w 248, 3) := dk_20 0 248 (dk_at dksX0_season_3 4 rfl rfl)
theorem dX0_season_78 : decode cX0_season 78 = .ok (.lrem, 1) := dk_113 (dk_at dksX0_season_3 7 rfl rfl)
theorem dX0_season_79 : decode cX0_season 79 = .ok (.l2i, 1) := dk_136 (dk_at dksX0_season_3 8 rfl rfl)
theorem dX0_season_80 : decode cX0_season 80 = .ok (.istore 7, 2) := dk_54 7 (dk_at dksX0_season_3 9 rfl rfl)
theorem dX0_season_82 : decode cX0_season 82 = .ok (.lload 4, 2) := dk_22 4 (dk_at dksX0_season_3 11 rfl rfl)
theorem dX0_season_84 : decode cX0_season 84 = .ok (.ldc2_w 250, 3) := dk_20 0 250 (dk_at dksX0_season_3 13 rfl rfl)
theorem dX0_season_87 : decode cX0_season 87 = .ok (.ldiv, 1) := dk_109 (dk_at dksX0_season_3 16 rfl rfl)
theorem dX0_season_88 : decode cX0_season 88 = .ok (.l2i, 1) := dk_136 (dk_at dksX0_season_3 17 rfl rfl)
theorem dX0_season_89 : decode cX0_season 89 = .ok (.istore 8, 2) := dk_54 8 (dk_at dksX0_season_3 18 rfl rfl)
theorem dX0_season_91 : decode cX0_season 91 = .ok (.lload 4, 2) := dk_22 4 (dk_at dksX0_season_3 20 rfl rfl)
theorem dX0_season_93 : decode cX0_season 93 = .ok (.ldc2_w 248, 3) := dk_20 0 248 (dk_at dksX0_season_4 0 rfl rfl)
theorem dX0_season_96 : decode cX0_season 96 = .ok (.ldiv, 1) := dk_109 (dk_at dksX0_season_4 3 rfl rfl)
theorem dX0_season_97 : decode cX0_season 97 = .ok (.ldc2_w 252, 3) := dk_20 0 252 (dk_at dksX0_season_4 4 rfl rfl)
theorem dX0_season_100 : decode cX0_season 100 = .ok (.lrem, 1) := dk_113 (dk_at dksX0_season_4 7 rfl rfl)
theorem dX0_season_101 : decode cX0_season 101 = .ok (.l2i, 1) := dk_136 (dk_at dksX0_season_4 8 rfl rfl)
theorem dX0_season_102 : decode cX0_season 102 = .ok (.tableswitch 66 5 7 #[26, 42, 52], 26) := by decide +kernel
theorem dX0_season_128 : decode cX0_season 128 = .ok (.aload_n 0, 1) := dk_42 (dk_at dksX0_season_6 0 rfl rfl)
theorem dX0_season_129 : decode cX0_season 129 = .ok (.aload_n 0, 1) := dk_42 (dk_at dksX0_season_6 1 rfl rfl)
theorem dX0_season_130 : decode cX0_season 130 = .ok (.getfield 20, 3) := dk_180 0 20 (dk_at dksX0_season_6 2 rfl rfl)
theorem dX0_season_133 : decode cX0_season 133 = .ok (.iload 7, 2) := dk_21 7 (dk_at dksX0_season_6 5 rfl rfl)
theorem dX0_season_135 : decode cX0_season 135 = .ok (.invokevirtual 109, 3) := dk_182 0 109 (dk_at dksX0_season_6 7 rfl rfl)
theorem dX0_season_138 : decode cX0_season 138 = .ok (.putfield 100, 3) := dk_181 0 100 (dk_at dksX0_season_6 10 rfl rfl)
theorem dX0_season_141 : decode cX0_season 141 = .ok (.goto 55, 3) := dk_167 0 55 (dk_at dksX0_season_6 13 rfl rfl)
theorem dX0_season_144 : decode cX0_season 144 = .ok (.aload_n 0, 1) := dk_42 (dk_at dksX0_season_6 16 rfl rfl)
theorem dX0_season_145 : decode cX0_season 145 = .ok (.getfield 20, 3) := dk_180 0 20 (dk_at dksX0_season_6 17 rfl rfl)
theorem dX0_season_148 : decode cX0_season 148 = .ok (.invokevirtual 103, 3) := dk_182 0 103 (dk_at dksX0_season_6 20 rfl rfl)
theorem dX0_season_151 : decode cX0_season 151 = .ok (.goto 45, 3) := dk_167 0 45 (dk_at dksX0_season_7 0 rfl rfl)
theorem dX0_season_154 : decode cX0_season 154 = .ok (.aload_n 0, 1) := dk_42 (dk_at dksX0_season_7 3 rfl rfl)
theorem dX0_season_155 : decode cX0_season 155 = .ok (.aload_n 0, 1) := dk_42 (dk_at dksX0_season_7 4 rfl rfl)
theorem dX0_season_156 : decode cX0_season 156 = .ok (.getfield 20, 3) := dk_180 0 20 (dk_at dksX0_season_7 5 rfl rfl)
theorem dX0_season_159 : decode cX0_season 159 = .ok (.invokevirtual 106, 3) := dk_182 0 106 (dk_at dksX0_season_7 8 rfl rfl)
theorem dX0_season_162 : decode cX0_season 162 = .ok (.putfield 100, 3) := dk_181 0 100 (dk_at dksX0_season_7 11 rfl rfl)
theorem dX0_season_165 : decode cX0_season 165 = .ok (.goto 31, 3) := dk_167 0 31 (dk_at dksX0_season_7 14 rfl rfl)
theorem dX0_season_168 : decode cX0_season 168 = .ok (.aload_n 0, 1) := dk_42 (dk_at dksX0_season_7 17 rfl rfl)
theorem dX0_season_169 : decode cX0_season 169 = .ok (.aload_n 0, 1) := dk_42 (dk_at dksX0_season_7 18 rfl rfl)
theorem dX0_season_170 : decode cX0_season 170 = .ok (.getfield 20, 3) := dk_180 0 20 (dk_at dksX0_season_7 19 rfl rfl)
theorem dX0_season_173 : decode cX0_season 173 = .ok (.iload 7, 2) := dk_21 7 (dk_at dksX0_season_7 22 rfl rfl)
theorem dX0_season_175 : decode cX0_season 175 = .ok (.iload 8, 2) := dk_21 8 (dk_at dksX0_season_8 0 rfl rfl)
theorem dX0_season_177 : decode cX0_season 177 = .ok (.bipush 8, 2) := dk_16 8 (dk_at dksX0_season_8 2 rfl rfl)
theorem dX0_season_179 : decode cX0_season 179 = .ok (.irem, 1) := dk_112 (dk_at dksX0_season_8 4 rfl rfl)
theorem dX0_season_180 : decode cX0_season 180 = .ok (.iconst 1, 1) := dk_4 (dk_at dksX0_season_8 5 rfl rfl)
theorem dX0_season_181 : decode cX0_season 181 = .ok (.iload 8, 2) := dk_21 8 (dk_at dksX0_season_8 6 rfl rfl)
theorem dX0_season_183 : decode cX0_season 183 = .ok (.bipush 8, 2) := dk_16 8 (dk_at dksX0_season_8 8 rfl rfl)
theorem dX0_season_185 : decode cX0_season 185 = .ok (.idiv, 1) := dk_108 (dk_at dksX0_season_8 10 rfl rfl)
theorem dX0_season_186 : decode cX0_season 186 = .ok (.bipush 9, 2) := dk_16 9 (dk_at dksX0_season_8 11 rfl rfl)
theorem dX0_season_188 : decode cX0_season 188 = .ok (.irem, 1) := dk_112 (dk_at dksX0_season_8 13 rfl rfl)
theorem dX0_season_189 : decode cX0_season 189 = .ok (.iadd, 1) := dk_96 (dk_at dksX0_season_8 14 rfl rfl)
theorem dX0_season_190 : decode cX0_season 190 = .ok (.invokevirtual 112, 3) := dk_182 0 112 (dk_at dksX0_season_8 15 rfl rfl)
theorem dX0_season_193 : decode cX0_season 193 = .ok (.putfield 100, 3) := dk_181 0 100 (dk_at dksX0_season_8 18 rfl rfl)
theorem dX0_season_196 : decode cX0_season 196 = .ok (.iinc 6 1, 3) := dk_132 6 1 (dk_at dksX0_season_8 21 rfl rfl)
theorem dX0_season_199 : decode cX0_season 199 = .ok (.goto (-148), 3) := dk_167 255 108 (dk_at dksX0_season_9 0 rfl rfl)
theorem dX0_season_202 : decode cX0_season 202 = .ok (.iload_n 3, 1) := dk_29 (dk_at dksX0_season_9 3 rfl rfl)
theorem dX0_season_203 : decode cX0_season 203 = .ok (.ifCond .ne 13, 3) := dk_154 0 13 (dk_at dksX0_season_9 4 rfl rfl)
theorem dX0_season_206 : decode cX0_season 206 = .ok (.aload_n 0, 1) := dk_42 (dk_at dksX0_season_9 7 rfl rfl)
theorem dX0_season_207 : decode cX0_season 207 = .ok (.getfield 20, 3) := dk_180 0 20 (dk_at dksX0_season_9 8 rfl rfl)
theorem dX0_season_210 : decode cX0_season 210 = .ok (.getfield 82, 3) := dk_180 0 82 (dk_at dksX0_season_9 11 rfl rfl)
theorem dX0_season_213 : decode cX0_season 213 = .ok (.goto 25, 3) := dk_167 0 25 (dk_at dksX0_season_9 14 rfl rfl)
theorem dX0_season_216 : decode cX0_season 216 = .ok (.iload_n 3, 1) := dk_29 (dk_at dksX0_season_9 17 rfl rfl)
theorem dX0_season_217 : decode cX0_season 217 = .ok (.iconst 1, 1) := dk_4 (dk_at dksX0_season_9 18 rfl rfl)
theorem dX0_season_218 : decode cX0_season 218 = .ok (.if_icmp .ne 13, 3) := dk_160 0 13 (dk_at dksX0_season_9 19 rfl rfl)
theorem dX0_season_221 : decode cX0_season 221 = .ok (.aload_n 0, 1) := dk_42 (dk_at dksX0_season_9 22 rfl rfl)
theorem dX0_season_222 : decode cX0_season 222 = .ok (.getfield 20, 3) := dk_180 0 20 (dk_at dksX0_season_10 0 rfl rfl)
theorem dX0_season_225 : decode cX0_season 225 = .ok (.getfield 86, 3) := dk_180 0 86 (dk_at dksX0_season_10 3 rfl rfl)
theorem dX0_season_228 : decode cX0_season 228 = .ok (.goto 10, 3) := dk_167 0 10 (dk_at dksX0_season_10 6 rfl rfl)
theorem dX0_season_231 : decode cX0_season 231 = .ok (.aload_n 0, 1) := dk_42 (dk_at dksX0_season_10 9 rfl rfl)
theorem dX0_season_232 : decode cX0_season 232 = .ok (.getfield 20, 3) := dk_180 0 20 (dk_at dksX0_season_10 10 rfl rfl)
theorem dX0_season_235 : decode cX0_season 235 = .ok (.invokevirtual 138, 3) := dk_182 0 138 (dk_at dksX0_season_10 13 rfl rfl)
theorem dX0_season_238 : decode cX0_season 238 = .ok (.ireturn, 1) := dk_172 (dk_at dksX0_season_10 16 rfl rfl)
abbrev cX0_image : ByteArray := prog_1_method_43_code
def yX0_image : MethodName := ⟨RX0, "image", "(I)I"⟩
def dkwX0_image_1 : List UInt8 := [182, 0, 116, 42, 180, 0, 23, 27, 50, 4, 181, 0, 254, 4, 172]
abbrev dktX0_image_1 : List UInt8 := dkwX0_image_1 ++ []
def dkwX0_image_0 : List UInt8 := [27, 3, 4, 184, 0, 3, 154, 0, 6, 16, 254, 172, 42, 180, 0, 23, 27, 50, 42, 180, 0, 16]
abbrev dktX0_image_0 : List UInt8 := dkwX0_image_0 ++ dktX0_image_1
theorem dksX0_image_0 : cX0_image.data.toList.drop 0 = dktX0_image_0 := by decide +kernel
theorem dksX0_image_1 : cX0_image.data.toList.drop 22 = dktX0_image_1 := dk_seg dksX0_image_0 22 rfl rfl
theorem dX0_image_0 : decode cX0_image 0 = .ok (.iload_n 1, 1) := dk_27 (dk_at dksX0_image_0 0 rfl rfl)
theorem dX0_image_1 : decode cX0_image 1 = .ok (.iconst 0, 1) := dk_3 (dk_at dksX0_image_0 1 rfl rfl)
theorem dX0_image_2 : decode cX0_image 2 = .ok (.iconst 1, 1) := dk_4 (dk_at dksX0_image_0 2 rfl rfl)
theorem dX0_image_3 : decode cX0_image 3 = .ok (.invokestatic 3, 3) := dk_184 0 3 (dk_at dksX0_image_0 3 rfl rfl)
theorem dX0_image_6 : decode cX0_image 6 = .ok (.ifCond .ne 6, 3) := dk_154 0 6 (dk_at dksX0_image_0 6 rfl rfl)
theorem dX0_image_9 : decode cX0_image 9 = .ok (.bipush (-2), 2) := dk_16 254 (dk_at dksX0_image_0 9 rfl rfl)
theorem dX0_image_11 : decode cX0_image 11 = .ok (.ireturn, 1) := dk_172 (dk_at dksX0_image_0 11 rfl rfl)
theorem dX0_image_12 : decode cX0_image 12 = .ok (.aload_n 0, 1) := dk_42 (dk_at dksX0_image_0 12 rfl rfl)
theorem dX0_image_13 : decode cX0_image 13 = .ok (.getfield 23, 3) := dk_180 0 23 (dk_at dksX0_image_0 13 rfl rfl)
theorem dX0_image_16 : decode cX0_image 16 = .ok (.iload_n 1, 1) := dk_27 (dk_at dksX0_image_0 16 rfl rfl)
theorem dX0_image_17 : decode cX0_image 17 = .ok (.aaload, 1) := dk_50 (dk_at dksX0_image_0 17 rfl rfl)
theorem dX0_image_18 : decode cX0_image 18 = .ok (.aload_n 0, 1) := dk_42 (dk_at dksX0_image_0 18 rfl rfl)
theorem dX0_image_19 : decode cX0_image 19 = .ok (.getfield 16, 3) := dk_180 0 16 (dk_at dksX0_image_0 19 rfl rfl)
theorem dX0_image_22 : decode cX0_image 22 = .ok (.invokevirtual 116, 3) := dk_182 0 116 (dk_at dksX0_image_1 0 rfl rfl)
theorem dX0_image_25 : decode cX0_image 25 = .ok (.aload_n 0, 1) := dk_42 (dk_at dksX0_image_1 3 rfl rfl)
theorem dX0_image_26 : decode cX0_image 26 = .ok (.getfield 23, 3) := dk_180 0 23 (dk_at dksX0_image_1 4 rfl rfl)
theorem dX0_image_29 : decode cX0_image 29 = .ok (.iload_n 1, 1) := dk_27 (dk_at dksX0_image_1 7 rfl rfl)
theorem dX0_image_30 : decode cX0_image 30 = .ok (.aaload, 1) := dk_50 (dk_at dksX0_image_1 8 rfl rfl)
theorem dX0_image_31 : decode cX0_image 31 = .ok (.iconst 1, 1) := dk_4 (dk_at dksX0_image_1 9 rfl rfl)
theorem dX0_image_32 : decode cX0_image 32 = .ok (.putfield 254, 3) := dk_181 0 254 (dk_at dksX0_image_1 10 rfl rfl)
theorem dX0_image_35 : decode cX0_image 35 = .ok (.iconst 1, 1) := dk_4 (dk_at dksX0_image_1 13 rfl rfl)
theorem dX0_image_36 : decode cX0_image 36 = .ok (.ireturn, 1) := dk_172 (dk_at dksX0_image_1 14 rfl rfl)
abbrev cX0_restore : ByteArray := prog_1_method_44_code
def yX0_restore : MethodName := ⟨RX0, "restore", "(I)I"⟩
def dkwX0_restore_1 : List UInt8 := [16, 253, 172, 42, 180, 0, 16, 42, 180, 0, 23, 27, 50, 182, 0, 116, 4, 172]
abbrev dktX0_restore_1 : List UInt8 := dkwX0_restore_1 ++ []
def dkwX0_restore_0 : List UInt8 := [27, 3, 4, 184, 0, 3, 154, 0, 6, 16, 254, 172, 42, 180, 0, 23, 27, 50, 180, 0, 254, 154, 0, 6]
abbrev dktX0_restore_0 : List UInt8 := dkwX0_restore_0 ++ dktX0_restore_1
theorem dksX0_restore_0 : cX0_restore.data.toList.drop 0 = dktX0_restore_0 := by decide +kernel
theorem dksX0_restore_1 : cX0_restore.data.toList.drop 24 = dktX0_restore_1 := dk_seg dksX0_restore_0 24 rfl rfl
theorem dX0_restore_0 : decode cX0_restore 0 = .ok (.iload_n 1, 1) := dk_27 (dk_at dksX0_restore_0 0 rfl rfl)
theorem dX0_restore_1 : decode cX0_restore 1 = .ok (.iconst 0, 1) := dk_3 (dk_at dksX0_restore_0 1 rfl rfl)
theorem dX0_restore_2 : decode cX0_restore 2 = .ok (.iconst 1, 1) := dk_4 (dk_at dksX0_restore_0 2 rfl rfl)
theorem dX0_restore_3 : decode cX0_restore 3 = .ok (.invokestatic 3, 3) := dk_184 0 3 (dk_at dksX0_restore_0 3 rfl rfl)
theorem dX0_restore_6 : decode cX0_restore 6 = .ok (.ifCond .ne 6, 3) := dk_154 0 6 (dk_at dksX0_restore_0 6 rfl rfl)
theorem dX0_restore_9 : decode cX0_restore 9 = .ok (.bipush (-2), 2) := dk_16 254 (dk_at dksX0_restore_0 9 rfl rfl)
theorem dX0_restore_11 : decode cX0_restore 11 = .ok (.ireturn, 1) := dk_172 (dk_at dksX0_restore_0 11 rfl rfl)
theorem dX0_restore_12 : decode cX0_restore 12 = .ok (.aload_n 0, 1) := dk_42 (dk_at dksX0_restore_0 12 rfl rfl)
theorem dX0_restore_13 : decode cX0_restore 13 = .ok (.getfield 23, 3) := dk_180 0 23 (dk_at dksX0_restore_0 13 rfl rfl)
theorem dX0_restore_16 : decode cX0_restore 16 = .ok (.iload_n 1, 1) := dk_27 (dk_at dksX0_restore_0 16 rfl rfl)
theorem dX0_restore_17 : decode cX0_restore 17 = .ok (.aaload, 1) := dk_50 (dk_at dksX0_restore_0 17 rfl rfl)
theorem dX0_restore_18 : decode cX0_restore 18 = .ok (.getfield 254, 3) := dk_180 0 254 (dk_at dksX0_restore_0 18 rfl rfl)
theorem dX0_restore_21 : decode cX0_restore 21 = .ok (.ifCond .ne 6, 3) := dk_154 0 6 (dk_at dksX0_restore_0 21 rfl rfl)
theorem dX0_restore_24 : decode cX0_restore 24 = .ok (.bipush (-3), 2) := dk_16 253 (dk_at dksX0_restore_1 0 rfl rfl)
theorem dX0_restore_26 : decode cX0_restore 26 = .ok (.ireturn, 1) := dk_172 (dk_at dksX0_restore_1 2 rfl rfl)
theorem dX0_restore_27 : decode cX0_restore 27 = .ok (.aload_n 0, 1) := dk_42 (dk_at dksX0_restore_1 3 rfl rfl)
theorem dX0_restore_28 : decode cX0_restore 28 = .ok (.getfield 16, 3) := dk_180 0 16 (dk_at dksX0_restore_1 4 rfl rfl)
theorem dX0_restore_31 : decode cX0_restore 31 = .ok (.aload_n 0, 1) := dk_42 (dk_at dksX0_restore_1 7 rfl rfl)
theorem dX0_restore_32 : decode cX0_restore 32 = .ok (.getfield 23, 3) := dk_180 0 23 (dk_at dksX0_restore_1 8 rfl rfl)
theorem dX0_restore_35 : decode cX0_restore 35 = .ok (.iload_n 1, 1) := dk_27 (dk_at dksX0_restore_1 11 rfl rfl)
theorem dX0_restore_36 : decode cX0_restore 36 = .ok (.aaload, 1) := dk_50 (dk_at dksX0_restore_1 12 rfl rfl)
theorem dX0_restore_37 : decode cX0_restore 37 = .ok (.invokevirtual 116, 3) := dk_182 0 116 (dk_at dksX0_restore_1 13 rfl rfl)
theorem dX0_restore_40 : decode cX0_restore 40 = .ok (.iconst 1, 1) := dk_4 (dk_at dksX0_restore_1 16 rfl rfl)
theorem dX0_restore_41 : decode cX0_restore 41 = .ok (.ireturn, 1) := dk_172 (dk_at dksX0_restore_1 17 rfl rfl)
abbrev cX0_told : ByteArray := prog_1_method_45_code
def yX0_told : MethodName := ⟨RX0, "told", "(I)I"⟩
def dkwX0_told_4 : List UInt8 := [153, 0, 18, 42, 180, 0, 16, 180, 0, 79, 27, 16, 10, 100, 46, 167, 0, 5, 16, 254, 172]
abbrev dktX0_told_4 : List UInt8 := dkwX0_told_4 ++ []
def dkwX0_told_3 : List UInt8 := [180, 0, 16, 180, 0, 141, 172, 42, 180, 0, 16, 180, 0, 203, 172, 27, 16, 10, 100, 184, 0, 65]
abbrev dktX0_told_3 : List UInt8 := dkwX0_told_3 ++ dktX0_told_4
def dkwX0_told_2 : List UInt8 := [42, 180, 0, 89, 172, 42, 180, 0, 16, 180, 0, 82, 172, 42, 180, 0, 16, 180, 0, 86, 172, 42]
abbrev dktX0_told_2 : List UInt8 := dkwX0_told_2 ++ dktX0_told_3
def dkwX0_told_1 : List UInt8 := [170, 0, 0, 0, 0, 0, 72, 0, 0, 0, 0, 0, 0, 0, 4, 0, 0, 0, 35, 0, 0, 0, 40, 0, 0, 0, 48, 0, 0, 0, 56, 0, 0, 0, 64]
abbrev dktX0_told_1 : List UInt8 := dkwX0_told_1 ++ dktX0_told_2
def dkwX0_told_0 : List UInt8 := [27]
abbrev dktX0_told_0 : List UInt8 := dkwX0_told_0 ++ dktX0_told_1
theorem dksX0_told_0 : cX0_told.data.toList.drop 0 = dktX0_told_0 := by decide +kernel
theorem dksX0_told_1 : cX0_told.data.toList.drop 1 = dktX0_told_1 := dk_seg dksX0_told_0 1 rfl rfl
theorem dksX0_told_2 : cX0_told.data.toList.drop 36 = dktX0_told_2 := dk_seg dksX0_told_1 35 rfl rfl
theorem dksX0_told_3 : cX0_told.data.toList.drop 58 = dktX0_told_3 := dk_seg dksX0_told_2 22 rfl rfl
theorem dksX0_told_4 : cX0_told.data.toList.drop 80 = dktX0_told_4 := dk_seg dksX0_told_3 22 rfl rfl
theorem dX0_told_0 : decode cX0_told 0 = .ok (.iload_n 1, 1) := dk_27 (dk_at dksX0_told_0 0 rfl rfl)
theorem dX0_told_1 : decode cX0_told 1 = .ok (.tableswitch 72 0 4 #[35, 40, 48, 56, 64], 35) := by decide +kernel
theorem dX0_told_36 : decode cX0_told 36 = .ok (.aload_n 0, 1) := dk_42 (dk_at dksX0_told_2 0 rfl rfl)
theorem dX0_told_37 : decode cX0_told 37 = .ok (.getfield 89, 3) := dk_180 0 89 (dk_at dksX0_told_2 1 rfl rfl)
theorem dX0_told_40 : decode cX0_told 40 = .ok (.ireturn, 1) := dk_172 (dk_at dksX0_told_2 4 rfl rfl)
theorem dX0_told_41 : decode cX0_told 41 = .ok (.aload_n 0, 1) := dk_42 (dk_at dksX0_told_2 5 rfl rfl)
theorem dX0_told_42 : decode cX0_told 42 = .ok (.getfield 16, 3) := dk_180 0 16 (dk_at dksX0_told_2 6 rfl rfl)
theorem dX0_told_45 : decode cX0_told 45 = .ok (.getfield 82, 3) := dk_180 0 82 (dk_at dksX0_told_2 9 rfl rfl)
theorem dX0_told_48 : decode cX0_told 48 = .ok (.ireturn, 1) := dk_172 (dk_at dksX0_told_2 12 rfl rfl)
theorem dX0_told_49 : decode cX0_told 49 = .ok (.aload_n 0, 1) := dk_42 (dk_at dksX0_told_2 13 rfl rfl)
theorem dX0_told_50 : decode cX0_told 50 = .ok (.getfield 16, 3) := dk_180 0 16 (dk_at dksX0_told_2 14 rfl rfl)
theorem dX0_told_53 : decode cX0_told 53 = .ok (.getfield 86, 3) := dk_180 0 86 (dk_at dksX0_told_2 17 rfl rfl)
theorem dX0_told_56 : decode cX0_told 56 = .ok (.ireturn, 1) := dk_172 (dk_at dksX0_told_2 20 rfl rfl)
theorem dX0_told_57 : decode cX0_told 57 = .ok (.aload_n 0, 1) := dk_42 (dk_at dksX0_told_2 21 rfl rfl)
theorem dX0_told_58 : decode cX0_told 58 = .ok (.getfield 16, 3) := dk_180 0 16 (dk_at dksX0_told_3 0 rfl rfl)
theorem dX0_told_61 : decode cX0_told 61 = .ok (.getfield 141, 3) := dk_180 0 141 (dk_at dksX0_told_3 3 rfl rfl)
theorem dX0_told_64 : decode cX0_told 64 = .ok (.ireturn, 1) := dk_172 (dk_at dksX0_told_3 6 rfl rfl)
theorem dX0_told_65 : decode cX0_told 65 = .ok (.aload_n 0, 1) := dk_42 (dk_at dksX0_told_3 7 rfl rfl)
theorem dX0_told_66 : decode cX0_told 66 = .ok (.getfield 16, 3) := dk_180 0 16 (dk_at dksX0_told_3 8 rfl rfl)
theorem dX0_told_69 : decode cX0_told 69 = .ok (.getfield 203, 3) := dk_180 0 203 (dk_at dksX0_told_3 11 rfl rfl)
theorem dX0_told_72 : decode cX0_told 72 = .ok (.ireturn, 1) := dk_172 (dk_at dksX0_told_3 14 rfl rfl)
theorem dX0_told_73 : decode cX0_told 73 = .ok (.iload_n 1, 1) := dk_27 (dk_at dksX0_told_3 15 rfl rfl)
theorem dX0_told_74 : decode cX0_told 74 = .ok (.bipush 10, 2) := dk_16 10 (dk_at dksX0_told_3 16 rfl rfl)
theorem dX0_told_76 : decode cX0_told 76 = .ok (.isub, 1) := dk_100 (dk_at dksX0_told_3 18 rfl rfl)
theorem dX0_told_77 : decode cX0_told 77 = .ok (.invokestatic 65, 3) := dk_184 0 65 (dk_at dksX0_told_3 19 rfl rfl)
theorem dX0_told_80 : decode cX0_told 80 = .ok (.ifCond .eq 18, 3) := dk_153 0 18 (dk_at dksX0_told_4 0 rfl rfl)
theorem dX0_told_83 : decode cX0_told 83 = .ok (.aload_n 0, 1) := dk_42 (dk_at dksX0_told_4 3 rfl rfl)
theorem dX0_told_84 : decode cX0_told 84 = .ok (.getfield 16, 3) := dk_180 0 16 (dk_at dksX0_told_4 4 rfl rfl)
theorem dX0_told_87 : decode cX0_told 87 = .ok (.getfield 79, 3) := dk_180 0 79 (dk_at dksX0_told_4 7 rfl rfl)
theorem dX0_told_90 : decode cX0_told 90 = .ok (.iload_n 1, 1) := dk_27 (dk_at dksX0_told_4 10 rfl rfl)
theorem dX0_told_91 : decode cX0_told 91 = .ok (.bipush 10, 2) := dk_16 10 (dk_at dksX0_told_4 11 rfl rfl)
theorem dX0_told_93 : decode cX0_told 93 = .ok (.isub, 1) := dk_100 (dk_at dksX0_told_4 13 rfl rfl)
theorem dX0_told_94 : decode cX0_told 94 = .ok (.iaload, 1) := dk_46 (dk_at dksX0_told_4 14 rfl rfl)
theorem dX0_told_95 : decode cX0_told 95 = .ok (.goto 5, 3) := dk_167 0 5 (dk_at dksX0_told_4 15 rfl rfl)
theorem dX0_told_98 : decode cX0_told 98 = .ok (.bipush (-2), 2) := dk_16 254 (dk_at dksX0_told_4 18 rfl rfl)
theorem dX0_told_100 : decode cX0_told 100 = .ok (.ireturn, 1) := dk_172 (dk_at dksX0_told_4 20 rfl rfl)
theorem q43 : (Jvm.Cond.initialized "BaizeCorps") ∈ lw_all := lw_g (lw_at lw_m1 1 rfl) rfl
theorem q51 : (Jvm.Cond.instantiable "BaizeCorps" (18 : Nat)) ∈ lw_all := lw_g (lw_at lw_m1 9 rfl) rfl
theorem q53 : (Jvm.Cond.instanceMethod ({ cls := "BaizeCorps", name := "<init>", desc := "()V" } : Jvm.MethodName)) ∈ lw_all := lw_g (lw_at lw_m1 11 rfl) rfl
theorem q54 : (Jvm.Cond.code ({ cls := "BaizeCorps", name := "<init>", desc := "()V" } : Jvm.MethodName) prog_1_method_7_code (2 : Nat) (Option.none : Option Jvm.ClassFile.FieldType)) ∈ lw_all := lw_g (lw_at lw_m1 12 rfl) rfl
theorem q55 : (Jvm.Cond.methodLink "BaizeCorps" (7 : Nat) ({ cls := "java/lang/Object", name := "<init>", desc := "()V" } : Jvm.MethodName)) ∈ lw_all := lw_g (lw_at lw_m1 13 rfl) rfl
theorem q58 : (Jvm.Cond.classLink "BaizeCorps" (13 : Nat) "BaizeCorps$Table") ∈ lw_all := lw_g (lw_at lw_m1 16 rfl) rfl
theorem q60 : (Jvm.Cond.methodLink "BaizeCorps" (15 : Nat) ({ cls := "BaizeCorps$Table", name := "<init>", desc := "()V" } : Jvm.MethodName)) ∈ lw_all := lw_g (lw_at lw_m1 18 rfl) rfl
theorem q76 : (Jvm.Cond.fieldLinkNest "BaizeCorps" (154 : Nat) "BaizeCorps$Path" "cushions" "I" "BaizeCorps") ∈ lw_tbl := lw_at lw_m1 34 rfl
theorem q90 : (Jvm.Cond.static ({ cls := "BaizeCorps", name := "spotOf", desc := "(I)I" } : Jvm.MethodName)) ∈ lw_all := lw_g (lw_at lw_m1 48 rfl) rfl
theorem q91 : (Jvm.Cond.code ({ cls := "BaizeCorps", name := "spotOf", desc := "(I)I" } : Jvm.MethodName) prog_1_method_6_code (1 : Nat) (Option.some Jvm.ClassFile.FieldType.int)) ∈ lw_all := lw_g (lw_at lw_m1 49 rfl) rfl
theorem q93 : (Jvm.Cond.fieldLinkNest "BaizeCorps" (79 : Nat) "BaizeCorps$Table" "cells" "[I" "BaizeCorps") ∈ lw_tbl := lw_at lw_m1 51 rfl
theorem q95 : (Jvm.Cond.fieldLinkNest "BaizeCorps" (82 : Nat) "BaizeCorps$Table" "points" "I" "BaizeCorps") ∈ lw_tbl := lw_at lw_m1 53 rfl
theorem q97 : (Jvm.Cond.fieldLinkNest "BaizeCorps" (86 : Nat) "BaizeCorps$Table" "fouls" "I" "BaizeCorps") ∈ lw_tbl := lw_at lw_m1 55 rfl
theorem q99 : (Jvm.Cond.fieldLinkNest "BaizeCorps" (141 : Nat) "BaizeCorps$Table" "evening" "I" "BaizeCorps") ∈ lw_tbl := lw_at lw_m1 57 rfl
theorem q101 : (Jvm.Cond.fieldLinkNest "BaizeCorps" (203 : Nat) "BaizeCorps$Table" "sights" "I" "BaizeCorps") ∈ lw_tbl := lw_at lw_m1 59 rfl
theorem q103 : (Jvm.Cond.fieldLinkNest "BaizeCorps" (206 : Nat) "BaizeCorps$Table" "seenStep" "[I" "BaizeCorps") ∈ lw_tbl := lw_at lw_m1 61 rfl
theorem q105 : (Jvm.Cond.fieldLinkNest "BaizeCorps" (209 : Nat) "BaizeCorps$Table" "seenCell" "[I" "BaizeCorps") ∈ lw_tbl := lw_at lw_m1 63 rfl
theorem q106 : (Jvm.Cond.fieldLinkNest "BaizeCorps" (254 : Nat) "BaizeCorps$Table" "isKept" "Z" "BaizeCorps") ∈ lw_tbl := lw_at lw_m1 64 rfl
theorem q108 : (Jvm.Cond.fieldLinkNest "BaizeCorps" (132 : Nat) "BaizeCorps$Table" "touches" "I" "BaizeCorps") ∈ lw_tbl := lw_at lw_m1 66 rfl
theorem q110 : (Jvm.Cond.fieldLinkNest "BaizeCorps" (144 : Nat) "BaizeCorps$Table" "cushions" "I" "BaizeCorps") ∈ lw_tbl := lw_at lw_m1 68 rfl
theorem q136 : (Jvm.Cond.classLink "BaizeCorps" (31 : Nat) "BaizeCorps$Path") ∈ lw_all := lw_g (lw_at lw_m1 94 rfl) rfl
theorem q137 : (Jvm.Cond.methodLinkNest "BaizeCorps" (33 : Nat) ({ cls := "BaizeCorps$Path", name := "<init>", desc := "()V" } : Jvm.MethodName) "BaizeCorps") ∈ lw_tbl := lw_at lw_m1 95 rfl
theorem q138 : (Jvm.Cond.fieldLink "BaizeCorps" (16 : Nat) "BaizeCorps" "table" "LBaizeCorps$Table;") ∈ lw_all := lw_g (lw_at lw_m1 96 rfl) rfl
theorem q139 : (Jvm.Cond.fieldLink "BaizeCorps" (20 : Nat) "BaizeCorps" "now" "LBaizeCorps$Table;") ∈ lw_all := lw_g (lw_at lw_m1 97 rfl) rfl
theorem q140 : (Jvm.Cond.fieldLink "BaizeCorps" (23 : Nat) "BaizeCorps" "images" "[LBaizeCorps$Table;") ∈ lw_all := lw_g (lw_at lw_m1 98 rfl) rfl
theorem q141 : (Jvm.Cond.fieldLink "BaizeCorps" (89 : Nat) "BaizeCorps" "signs" "I") ∈ lw_all := lw_g (lw_at lw_m1 99 rfl) rfl
theorem q142 : (Jvm.Cond.fieldLink "BaizeCorps" (27 : Nat) "BaizeCorps" "sign" "[C") ∈ lw_all := lw_g (lw_at lw_m1 100 rfl) rfl
theorem q143 : (Jvm.Cond.fieldLink "BaizeCorps" (100 : Nat) "BaizeCorps" "reason" "I") ∈ lw_all := lw_g (lw_at lw_m1 101 rfl) rfl
theorem q144 : (Jvm.Cond.fieldLink "BaizeCorps" (120 : Nat) "BaizeCorps" "acts" "I") ∈ lw_all := lw_g (lw_at lw_m1 102 rfl) rfl
theorem q145 : (Jvm.Cond.fieldLink "BaizeCorps" (123 : Nat) "BaizeCorps" "candourAt" "I") ∈ lw_all := lw_g (lw_at lw_m1 103 rfl) rfl
theorem q146 : (Jvm.Cond.fieldLink "BaizeCorps" (34 : Nat) "BaizeCorps" "path" "LBaizeCorps$Path;") ∈ lw_all := lw_g (lw_at lw_m1 104 rfl) rfl
theorem q147 : (Jvm.Cond.fieldLink "BaizeCorps" (38 : Nat) "BaizeCorps" "met" "[Z") ∈ lw_all := lw_g (lw_at lw_m1 105 rfl) rfl
theorem q148 : (Jvm.Cond.fieldLink "BaizeCorps" (42 : Nat) "BaizeCorps" "reached" "[I") ∈ lw_all := lw_g (lw_at lw_m1 106 rfl) rfl
theorem q149 : (Jvm.Cond.fieldLink "BaizeCorps" (46 : Nat) "BaizeCorps" "firstWay" "[I") ∈ lw_all := lw_g (lw_at lw_m1 107 rfl) rfl
theorem q150 : (Jvm.Cond.fieldLink "BaizeCorps" (49 : Nat) "BaizeCorps" "queue" "[I") ∈ lw_all := lw_g (lw_at lw_m1 108 rfl) rfl
theorem q151 : (Jvm.Cond.fieldLink "BaizeCorps" (193 : Nat) "BaizeCorps" "queued" "I") ∈ lw_all := lw_g (lw_at lw_m1 109 rfl) rfl
theorem q152 : (Jvm.Cond.fieldLink "BaizeCorps" (52 : Nat) "BaizeCorps" "fitting" "[I") ∈ lw_all := lw_g (lw_at lw_m1 110 rfl) rfl
theorem q153 : (Jvm.Cond.fieldLink "BaizeCorps" (55 : Nat) "BaizeCorps" "byCell" "[I") ∈ lw_all := lw_g (lw_at lw_m1 111 rfl) rfl
theorem q154 : (Jvm.Cond.fieldLink "BaizeCorps" (58 : Nat) "BaizeCorps" "wins" "[Z") ∈ lw_all := lw_g (lw_at lw_m1 112 rfl) rfl
theorem q155 : (Jvm.Cond.fieldLink "BaizeCorps" (61 : Nat) "BaizeCorps" "ways" "[J") ∈ lw_all := lw_g (lw_at lw_m1 113 rfl) rfl
theorem q156 : (Jvm.Cond.laysFinal "BaizeCorps" "BaizeCorps" "table" "LBaizeCorps$Table;") ∈ lw_all := lw_g (lw_at lw_m1 114 rfl) rfl
theorem q157 : (Jvm.Cond.soleField "BaizeCorps" "table") ∈ lw_all := lw_g (lw_at lw_m1 115 rfl) rfl
theorem q158 : (Jvm.Cond.laysFinal "BaizeCorps" "BaizeCorps" "now" "LBaizeCorps$Table;") ∈ lw_all := lw_g (lw_at lw_m1 116 rfl) rfl
theorem q159 : (Jvm.Cond.soleField "BaizeCorps" "now") ∈ lw_all := lw_g (lw_at lw_m1 117 rfl) rfl
theorem q160 : (Jvm.Cond.laysFinal "BaizeCorps" "BaizeCorps" "images" "[LBaizeCorps$Table;") ∈ lw_all := lw_g (lw_at lw_m1 118 rfl) rfl
theorem q161 : (Jvm.Cond.soleField "BaizeCorps" "images") ∈ lw_all := lw_g (lw_at lw_m1 119 rfl) rfl
theorem q162 : (Jvm.Cond.lays "BaizeCorps" "BaizeCorps" "signs" "I") ∈ lw_all := lw_g (lw_at lw_m1 120 rfl) rfl
theorem q163 : (Jvm.Cond.soleField "BaizeCorps" "signs") ∈ lw_all := lw_g (lw_at lw_m1 121 rfl) rfl
theorem q164 : (Jvm.Cond.laysFinal "BaizeCorps" "BaizeCorps" "sign" "[C") ∈ lw_all := lw_g (lw_at lw_m1 122 rfl) rfl
theorem q165 : (Jvm.Cond.soleField "BaizeCorps" "sign") ∈ lw_all := lw_g (lw_at lw_m1 123 rfl) rfl
theorem q166 : (Jvm.Cond.lays "BaizeCorps" "BaizeCorps" "reason" "I") ∈ lw_all := lw_g (lw_at lw_m1 124 rfl) rfl
theorem q167 : (Jvm.Cond.soleField "BaizeCorps" "reason") ∈ lw_all := lw_g (lw_at lw_m1 125 rfl) rfl
theorem q168 : (Jvm.Cond.lays "BaizeCorps" "BaizeCorps" "acts" "I") ∈ lw_all := lw_g (lw_at lw_m1 126 rfl) rfl
theorem q169 : (Jvm.Cond.soleField "BaizeCorps" "acts") ∈ lw_all := lw_g (lw_at lw_m1 127 rfl) rfl
theorem q170 : (Jvm.Cond.lays "BaizeCorps" "BaizeCorps" "candourAt" "I") ∈ lw_all := lw_g (lw_at lw_m1 128 rfl) rfl
theorem q171 : (Jvm.Cond.soleField "BaizeCorps" "candourAt") ∈ lw_all := lw_g (lw_at lw_m1 129 rfl) rfl
theorem q172 : (Jvm.Cond.laysFinal "BaizeCorps" "BaizeCorps" "path" "LBaizeCorps$Path;") ∈ lw_all := lw_g (lw_at lw_m1 130 rfl) rfl
theorem q173 : (Jvm.Cond.soleField "BaizeCorps" "path") ∈ lw_all := lw_g (lw_at lw_m1 131 rfl) rfl
theorem q174 : (Jvm.Cond.laysFinal "BaizeCorps" "BaizeCorps" "met" "[Z") ∈ lw_all := lw_g (lw_at lw_m1 132 rfl) rfl
theorem q175 : (Jvm.Cond.soleField "BaizeCorps" "met") ∈ lw_all := lw_g (lw_at lw_m1 133 rfl) rfl
theorem q176 : (Jvm.Cond.laysFinal "BaizeCorps" "BaizeCorps" "reached" "[I") ∈ lw_all := lw_g (lw_at lw_m1 134 rfl) rfl
theorem q177 : (Jvm.Cond.soleField "BaizeCorps" "reached") ∈ lw_all := lw_g (lw_at lw_m1 135 rfl) rfl
theorem q178 : (Jvm.Cond.laysFinal "BaizeCorps" "BaizeCorps" "firstWay" "[I") ∈ lw_all := lw_g (lw_at lw_m1 136 rfl) rfl
theorem q179 : (Jvm.Cond.soleField "BaizeCorps" "firstWay") ∈ lw_all := lw_g (lw_at lw_m1 137 rfl) rfl
theorem q180 : (Jvm.Cond.laysFinal "BaizeCorps" "BaizeCorps" "queue" "[I") ∈ lw_all := lw_g (lw_at lw_m1 138 rfl) rfl
theorem q181 : (Jvm.Cond.soleField "BaizeCorps" "queue") ∈ lw_all := lw_g (lw_at lw_m1 139 rfl) rfl
theorem q182 : (Jvm.Cond.lays "BaizeCorps" "BaizeCorps" "queued" "I") ∈ lw_all := lw_g (lw_at lw_m1 140 rfl) rfl
theorem q183 : (Jvm.Cond.soleField "BaizeCorps" "queued") ∈ lw_all := lw_g (lw_at lw_m1 141 rfl) rfl
theorem q184 : (Jvm.Cond.laysFinal "BaizeCorps" "BaizeCorps" "fitting" "[I") ∈ lw_all := lw_g (lw_at lw_m1 142 rfl) rfl
theorem q185 : (Jvm.Cond.soleField "BaizeCorps" "fitting") ∈ lw_all := lw_g (lw_at lw_m1 143 rfl) rfl
theorem q186 : (Jvm.Cond.laysFinal "BaizeCorps" "BaizeCorps" "byCell" "[I") ∈ lw_all := lw_g (lw_at lw_m1 144 rfl) rfl
theorem q187 : (Jvm.Cond.soleField "BaizeCorps" "byCell") ∈ lw_all := lw_g (lw_at lw_m1 145 rfl) rfl
theorem q188 : (Jvm.Cond.laysFinal "BaizeCorps" "BaizeCorps" "wins" "[Z") ∈ lw_all := lw_g (lw_at lw_m1 146 rfl) rfl
theorem q189 : (Jvm.Cond.soleField "BaizeCorps" "wins") ∈ lw_all := lw_g (lw_at lw_m1 147 rfl) rfl
theorem q190 : (Jvm.Cond.laysFinal "BaizeCorps" "BaizeCorps" "ways" "[J") ∈ lw_all := lw_g (lw_at lw_m1 148 rfl) rfl
theorem q191 : (Jvm.Cond.soleField "BaizeCorps" "ways") ∈ lw_all := lw_g (lw_at lw_m1 149 rfl) rfl
theorem q192 : (Jvm.Cond.superclass "BaizeCorps" "java/lang/Object") ∈ lw_all := lw_g (lw_at lw_m1 150 rfl) rfl
theorem q197 : (Jvm.Cond.instanceMethod ({ cls := "BaizeCorps", name := "ball", desc := "(II)I" } : Jvm.MethodName)) ∈ lw_all := lw_g (lw_at lw_m1 155 rfl) rfl
theorem q198 : (Jvm.Cond.selects "BaizeCorps" ({ cls := "BaizeCorps", name := "ball", desc := "(II)I" } : Jvm.MethodName) ({ cls := "BaizeCorps", name := "ball", desc := "(II)I" } : Jvm.MethodName)) ∈ lw_all := lw_g (lw_at lw_m1 156 rfl) rfl
theorem q199 : (Jvm.Cond.code ({ cls := "BaizeCorps", name := "ball", desc := "(II)I" } : Jvm.MethodName) prog_1_method_8_code (5 : Nat) (Option.some Jvm.ClassFile.FieldType.int)) ∈ lw_all := lw_g (lw_at lw_m1 157 rfl) rfl
theorem q200 : (Jvm.Cond.methodLink "BaizeCorps" (65 : Nat) ({ cls := "BaizeCorps", name := "isBall", desc := "(I)Z" } : Jvm.MethodName)) ∈ lw_all := lw_g (lw_at lw_m1 158 rfl) rfl
theorem q201 : (Jvm.Cond.static ({ cls := "BaizeCorps", name := "isBall", desc := "(I)Z" } : Jvm.MethodName)) ∈ lw_all := lw_g (lw_at lw_m1 159 rfl) rfl
theorem q202 : (Jvm.Cond.code ({ cls := "BaizeCorps", name := "isBall", desc := "(I)Z" } : Jvm.MethodName) prog_1_method_3_code (1 : Nat) (Option.some Jvm.ClassFile.FieldType.boolean)) ∈ lw_all := lw_g (lw_at lw_m1 160 rfl) rfl
theorem q203 : (Jvm.Cond.methodLink "BaizeCorps" (3 : Nat) ({ cls := "BaizeCorps", name := "isIn", desc := "(III)Z" } : Jvm.MethodName)) ∈ lw_all := lw_g (lw_at lw_m1 161 rfl) rfl
theorem q204 : (Jvm.Cond.static ({ cls := "BaizeCorps", name := "isIn", desc := "(III)Z" } : Jvm.MethodName)) ∈ lw_all := lw_g (lw_at lw_m1 162 rfl) rfl
theorem q205 : (Jvm.Cond.code ({ cls := "BaizeCorps", name := "isIn", desc := "(III)Z" } : Jvm.MethodName) prog_1_method_1_code (3 : Nat) (Option.some Jvm.ClassFile.FieldType.boolean)) ∈ lw_all := lw_g (lw_at lw_m1 163 rfl) rfl
theorem q206 : (Jvm.Cond.methodLink "BaizeCorps" (69 : Nat) ({ cls := "BaizeCorps", name := "isCell", desc := "(I)Z" } : Jvm.MethodName)) ∈ lw_all := lw_g (lw_at lw_m1 164 rfl) rfl
theorem q207 : (Jvm.Cond.static ({ cls := "BaizeCorps", name := "isCell", desc := "(I)Z" } : Jvm.MethodName)) ∈ lw_all := lw_g (lw_at lw_m1 165 rfl) rfl
theorem q208 : (Jvm.Cond.code ({ cls := "BaizeCorps", name := "isCell", desc := "(I)Z" } : Jvm.MethodName) prog_1_method_5_code (1 : Nat) (Option.some Jvm.ClassFile.FieldType.boolean)) ∈ lw_all := lw_g (lw_at lw_m1 166 rfl) rfl
theorem q209 : (Jvm.Cond.methodLink "BaizeCorps" (72 : Nat) ({ cls := "BaizeCorps", name := "isPocket", desc := "(I)Z" } : Jvm.MethodName)) ∈ lw_all := lw_g (lw_at lw_m1 167 rfl) rfl
theorem q210 : (Jvm.Cond.static ({ cls := "BaizeCorps", name := "isPocket", desc := "(I)Z" } : Jvm.MethodName)) ∈ lw_all := lw_g (lw_at lw_m1 168 rfl) rfl
theorem q211 : (Jvm.Cond.code ({ cls := "BaizeCorps", name := "isPocket", desc := "(I)Z" } : Jvm.MethodName) prog_1_method_4_code (2 : Nat) (Option.some Jvm.ClassFile.FieldType.boolean)) ∈ lw_all := lw_g (lw_at lw_m1 169 rfl) rfl
theorem q212 : (Jvm.Cond.methodLink "BaizeCorps" (75 : Nat) ({ cls := "BaizeCorps$Table", name := "ballOn", desc := "(I)I" } : Jvm.MethodName)) ∈ lw_all := lw_g (lw_at lw_m1 170 rfl) rfl
theorem q217 : (Jvm.Cond.instanceMethod ({ cls := "BaizeCorps", name := "score", desc := "(II)I" } : Jvm.MethodName)) ∈ lw_all := lw_g (lw_at lw_m1 175 rfl) rfl
theorem q218 : (Jvm.Cond.selects "BaizeCorps" ({ cls := "BaizeCorps", name := "score", desc := "(II)I" } : Jvm.MethodName) ({ cls := "BaizeCorps", name := "score", desc := "(II)I" } : Jvm.MethodName)) ∈ lw_all := lw_g (lw_at lw_m1 176 rfl) rfl
theorem q219 : (Jvm.Cond.code ({ cls := "BaizeCorps", name := "score", desc := "(II)I" } : Jvm.MethodName) prog_1_method_9_code (4 : Nat) (Option.some Jvm.ClassFile.FieldType.int)) ∈ lw_all := lw_g (lw_at lw_m1 177 rfl) rfl
theorem q221 : (Jvm.Cond.instanceMethod ({ cls := "BaizeCorps", name := "say", desc := "(I)I" } : Jvm.MethodName)) ∈ lw_all := lw_g (lw_at lw_m1 179 rfl) rfl
theorem q222 : (Jvm.Cond.selects "BaizeCorps" ({ cls := "BaizeCorps", name := "say", desc := "(I)I" } : Jvm.MethodName) ({ cls := "BaizeCorps", name := "say", desc := "(I)I" } : Jvm.MethodName)) ∈ lw_all := lw_g (lw_at lw_m1 180 rfl) rfl
theorem q223 : (Jvm.Cond.code ({ cls := "BaizeCorps", name := "say", desc := "(I)I" } : Jvm.MethodName) prog_1_method_10_code (2 : Nat) (Option.some Jvm.ClassFile.FieldType.int)) ∈ lw_all := lw_g (lw_at lw_m1 181 rfl) rfl
theorem q225 : (Jvm.Cond.instanceMethod ({ cls := "BaizeCorps", name := "wipe", desc := "()I" } : Jvm.MethodName)) ∈ lw_all := lw_g (lw_at lw_m1 183 rfl) rfl
theorem q226 : (Jvm.Cond.selects "BaizeCorps" ({ cls := "BaizeCorps", name := "wipe", desc := "()I" } : Jvm.MethodName) ({ cls := "BaizeCorps", name := "wipe", desc := "()I" } : Jvm.MethodName)) ∈ lw_all := lw_g (lw_at lw_m1 184 rfl) rfl
theorem q227 : (Jvm.Cond.code ({ cls := "BaizeCorps", name := "wipe", desc := "()I" } : Jvm.MethodName) prog_1_method_11_code (2 : Nat) (Option.some Jvm.ClassFile.FieldType.int)) ∈ lw_all := lw_g (lw_at lw_m1 185 rfl) rfl
theorem q229 : (Jvm.Cond.instanceMethod ({ cls := "BaizeCorps", name := "fault", desc := "()I" } : Jvm.MethodName)) ∈ lw_all := lw_g (lw_at lw_m1 187 rfl) rfl
theorem q230 : (Jvm.Cond.selects "BaizeCorps" ({ cls := "BaizeCorps", name := "fault", desc := "()I" } : Jvm.MethodName) ({ cls := "BaizeCorps", name := "fault", desc := "()I" } : Jvm.MethodName)) ∈ lw_all := lw_g (lw_at lw_m1 188 rfl) rfl
theorem q231 : (Jvm.Cond.code ({ cls := "BaizeCorps", name := "fault", desc := "()I" } : Jvm.MethodName) prog_1_method_14_code (1 : Nat) (Option.some Jvm.ClassFile.FieldType.int)) ∈ lw_all := lw_g (lw_at lw_m1 189 rfl) rfl
theorem q232 : (Jvm.Cond.methodLink "BaizeCorps" (96 : Nat) ({ cls := "BaizeCorps", name := "faultOf", desc := "()I" } : Jvm.MethodName)) ∈ lw_all := lw_g (lw_at lw_m1 190 rfl) rfl
theorem q233 : (Jvm.Cond.privateMethod ({ cls := "BaizeCorps", name := "faultOf", desc := "()I" } : Jvm.MethodName)) ∈ lw_tbl := lw_at lw_m1 191 rfl
theorem q234 : (Jvm.Cond.instanceMethod ({ cls := "BaizeCorps", name := "faultOf", desc := "()I" } : Jvm.MethodName)) ∈ lw_all := lw_g (lw_at lw_m1 192 rfl) rfl
theorem q235 : (Jvm.Cond.code ({ cls := "BaizeCorps", name := "faultOf", desc := "()I" } : Jvm.MethodName) prog_1_method_13_code (3 : Nat) (Option.some Jvm.ClassFile.FieldType.int)) ∈ lw_all := lw_g (lw_at lw_m1 193 rfl) rfl
theorem q236 : (Jvm.Cond.methodLink "BaizeCorps" (92 : Nat) ({ cls := "BaizeCorps", name := "step", desc := "(IC)I" } : Jvm.MethodName)) ∈ lw_all := lw_g (lw_at lw_m1 194 rfl) rfl
theorem q237 : (Jvm.Cond.static ({ cls := "BaizeCorps", name := "step", desc := "(IC)I" } : Jvm.MethodName)) ∈ lw_all := lw_g (lw_at lw_m1 195 rfl) rfl
theorem q238 : (Jvm.Cond.code ({ cls := "BaizeCorps", name := "step", desc := "(IC)I" } : Jvm.MethodName) prog_1_method_12_code (2 : Nat) (Option.some Jvm.ClassFile.FieldType.int)) ∈ lw_all := lw_g (lw_at lw_m1 196 rfl) rfl
theorem q240 : (Jvm.Cond.instanceMethod ({ cls := "BaizeCorps", name := "judge", desc := "(I)I" } : Jvm.MethodName)) ∈ lw_all := lw_g (lw_at lw_m1 198 rfl) rfl
theorem q241 : (Jvm.Cond.selects "BaizeCorps" ({ cls := "BaizeCorps", name := "judge", desc := "(I)I" } : Jvm.MethodName) ({ cls := "BaizeCorps", name := "judge", desc := "(I)I" } : Jvm.MethodName)) ∈ lw_all := lw_g (lw_at lw_m1 199 rfl) rfl
theorem q242 : (Jvm.Cond.code ({ cls := "BaizeCorps", name := "judge", desc := "(I)I" } : Jvm.MethodName) prog_1_method_17_code (3 : Nat) (Option.some Jvm.ClassFile.FieldType.int)) ∈ lw_all := lw_g (lw_at lw_m1 200 rfl) rfl
theorem q243 : (Jvm.Cond.methodLink "BaizeCorps" (129 : Nat) ({ cls := "BaizeCorps", name := "goCrises", desc := "()I" } : Jvm.MethodName)) ∈ lw_all := lw_g (lw_at lw_m1 201 rfl) rfl
theorem q244 : (Jvm.Cond.privateMethod ({ cls := "BaizeCorps", name := "goCrises", desc := "()I" } : Jvm.MethodName)) ∈ lw_tbl := lw_at lw_m1 202 rfl
theorem q245 : (Jvm.Cond.instanceMethod ({ cls := "BaizeCorps", name := "goCrises", desc := "()I" } : Jvm.MethodName)) ∈ lw_all := lw_g (lw_at lw_m1 203 rfl) rfl
theorem q246 : (Jvm.Cond.code ({ cls := "BaizeCorps", name := "goCrises", desc := "()I" } : Jvm.MethodName) prog_1_method_16_code (3 : Nat) (Option.some Jvm.ClassFile.FieldType.int)) ∈ lw_all := lw_g (lw_at lw_m1 204 rfl) rfl
theorem q247 : (Jvm.Cond.methodLink "BaizeCorps" (116 : Nat) ({ cls := "BaizeCorps$Table", name := "copy", desc := "(LBaizeCorps$Table;)V" } : Jvm.MethodName)) ∈ lw_all := lw_g (lw_at lw_m1 205 rfl) rfl
theorem q254 : (Jvm.Cond.methodLink "BaizeCorps" (126 : Nat) ({ cls := "BaizeCorps", name := "act", desc := "(I)I" } : Jvm.MethodName)) ∈ lw_all := lw_g (lw_at lw_m1 212 rfl) rfl
theorem q255 : (Jvm.Cond.privateMethod ({ cls := "BaizeCorps", name := "act", desc := "(I)I" } : Jvm.MethodName)) ∈ lw_tbl := lw_at lw_m1 213 rfl
theorem q256 : (Jvm.Cond.instanceMethod ({ cls := "BaizeCorps", name := "act", desc := "(I)I" } : Jvm.MethodName)) ∈ lw_all := lw_g (lw_at lw_m1 214 rfl) rfl
theorem q257 : (Jvm.Cond.code ({ cls := "BaizeCorps", name := "act", desc := "(I)I" } : Jvm.MethodName) prog_1_method_15_code (3 : Nat) (Option.some Jvm.ClassFile.FieldType.int)) ∈ lw_all := lw_g (lw_at lw_m1 215 rfl) rfl
theorem q258 : (Jvm.Cond.methodLink "BaizeCorps" (103 : Nat) ({ cls := "BaizeCorps$Table", name := "nap", desc := "()V" } : Jvm.MethodName)) ∈ lw_all := lw_g (lw_at lw_m1 216 rfl) rfl
theorem q264 : (Jvm.Cond.methodLink "BaizeCorps" (106 : Nat) ({ cls := "BaizeCorps$Table", name := "pass", desc := "()I" } : Jvm.MethodName)) ∈ lw_all := lw_g (lw_at lw_m1 222 rfl) rfl
theorem q268 : (Jvm.Cond.methodLink "BaizeCorps" (109 : Nat) ({ cls := "BaizeCorps$Table", name := "bringUp", desc := "(I)I" } : Jvm.MethodName)) ∈ lw_all := lw_g (lw_at lw_m1 226 rfl) rfl
theorem q272 : (Jvm.Cond.methodLink "BaizeCorps" (112 : Nat) ({ cls := "BaizeCorps$Table", name := "stroke", desc := "(III)I" } : Jvm.MethodName)) ∈ lw_all := lw_g (lw_at lw_m1 230 rfl) rfl
theorem q286 : (Jvm.Cond.static ({ cls := "BaizeCorps", name := "asNumber", desc := "(Z)I" } : Jvm.MethodName)) ∈ lw_all := lw_g (lw_at lw_m2 4 rfl) rfl
theorem q287 : (Jvm.Cond.code ({ cls := "BaizeCorps", name := "asNumber", desc := "(Z)I" } : Jvm.MethodName) prog_1_method_2_code (1 : Nat) (Option.some Jvm.ClassFile.FieldType.int)) ∈ lw_all := lw_g (lw_at lw_m2 5 rfl) rfl
theorem q298 : (Jvm.Cond.instanceMethod ({ cls := "BaizeCorps", name := "behind", desc := "(I)I" } : Jvm.MethodName)) ∈ lw_all := lw_g (lw_at lw_m2 16 rfl) rfl
theorem q299 : (Jvm.Cond.selects "BaizeCorps" ({ cls := "BaizeCorps", name := "behind", desc := "(I)I" } : Jvm.MethodName) ({ cls := "BaizeCorps", name := "behind", desc := "(I)I" } : Jvm.MethodName)) ∈ lw_all := lw_g (lw_at lw_m2 17 rfl) rfl
theorem q300 : (Jvm.Cond.code ({ cls := "BaizeCorps", name := "behind", desc := "(I)I" } : Jvm.MethodName) prog_1_method_19_code (3 : Nat) (Option.some Jvm.ClassFile.FieldType.int)) ∈ lw_all := lw_g (lw_at lw_m2 18 rfl) rfl
theorem q301 : (Jvm.Cond.methodLink "BaizeCorps" (135 : Nat) ({ cls := "BaizeCorps", name := "barOfCrises", desc := "()I" } : Jvm.MethodName)) ∈ lw_all := lw_g (lw_at lw_m2 19 rfl) rfl
theorem q302 : (Jvm.Cond.privateMethod ({ cls := "BaizeCorps", name := "barOfCrises", desc := "()I" } : Jvm.MethodName)) ∈ lw_tbl := lw_at lw_m2 20 rfl
theorem q303 : (Jvm.Cond.instanceMethod ({ cls := "BaizeCorps", name := "barOfCrises", desc := "()I" } : Jvm.MethodName)) ∈ lw_all := lw_g (lw_at lw_m2 21 rfl) rfl
theorem q304 : (Jvm.Cond.code ({ cls := "BaizeCorps", name := "barOfCrises", desc := "()I" } : Jvm.MethodName) prog_1_method_18_code (1 : Nat) (Option.some Jvm.ClassFile.FieldType.int)) ∈ lw_all := lw_g (lw_at lw_m2 22 rfl) rfl
theorem q306 : (Jvm.Cond.instanceMethod ({ cls := "BaizeCorps", name := "table", desc := "(I)I" } : Jvm.MethodName)) ∈ lw_all := lw_g (lw_at lw_m2 24 rfl) rfl
theorem q307 : (Jvm.Cond.selects "BaizeCorps" ({ cls := "BaizeCorps", name := "table", desc := "(I)I" } : Jvm.MethodName) ({ cls := "BaizeCorps", name := "table", desc := "(I)I" } : Jvm.MethodName)) ∈ lw_all := lw_g (lw_at lw_m2 25 rfl) rfl
theorem q308 : (Jvm.Cond.code ({ cls := "BaizeCorps", name := "table", desc := "(I)I" } : Jvm.MethodName) prog_1_method_20_code (3 : Nat) (Option.some Jvm.ClassFile.FieldType.int)) ∈ lw_all := lw_g (lw_at lw_m2 26 rfl) rfl
theorem q309 : (Jvm.Cond.methodLink "BaizeCorps" (138 : Nat) ({ cls := "BaizeCorps$Table", name := "countDown", desc := "()I" } : Jvm.MethodName)) ∈ lw_all := lw_g (lw_at lw_m2 27 rfl) rfl
theorem q314 : (Jvm.Cond.instanceMethod ({ cls := "BaizeCorps", name := "candour", desc := "(I)I" } : Jvm.MethodName)) ∈ lw_all := lw_g (lw_at lw_m2 32 rfl) rfl
theorem q315 : (Jvm.Cond.selects "BaizeCorps" ({ cls := "BaizeCorps", name := "candour", desc := "(I)I" } : Jvm.MethodName) ({ cls := "BaizeCorps", name := "candour", desc := "(I)I" } : Jvm.MethodName)) ∈ lw_all := lw_g (lw_at lw_m2 33 rfl) rfl
theorem q316 : (Jvm.Cond.code ({ cls := "BaizeCorps", name := "candour", desc := "(I)I" } : Jvm.MethodName) prog_1_method_21_code (3 : Nat) (Option.some Jvm.ClassFile.FieldType.int)) ∈ lw_all := lw_g (lw_at lw_m2 34 rfl) rfl
theorem q318 : (Jvm.Cond.instanceMethod ({ cls := "BaizeCorps", name := "done", desc := "()I" } : Jvm.MethodName)) ∈ lw_all := lw_g (lw_at lw_m2 36 rfl) rfl
theorem q319 : (Jvm.Cond.selects "BaizeCorps" ({ cls := "BaizeCorps", name := "done", desc := "()I" } : Jvm.MethodName) ({ cls := "BaizeCorps", name := "done", desc := "()I" } : Jvm.MethodName)) ∈ lw_all := lw_g (lw_at lw_m2 37 rfl) rfl
theorem q320 : (Jvm.Cond.code ({ cls := "BaizeCorps", name := "done", desc := "()I" } : Jvm.MethodName) prog_1_method_22_code (2 : Nat) (Option.some Jvm.ClassFile.FieldType.int)) ∈ lw_all := lw_g (lw_at lw_m2 38 rfl) rfl
theorem q322 : (Jvm.Cond.instanceMethod ({ cls := "BaizeCorps", name := "hint", desc := "(IIII)I" } : Jvm.MethodName)) ∈ lw_all := lw_g (lw_at lw_m2 40 rfl) rfl
theorem q323 : (Jvm.Cond.selects "BaizeCorps" ({ cls := "BaizeCorps", name := "hint", desc := "(IIII)I" } : Jvm.MethodName) ({ cls := "BaizeCorps", name := "hint", desc := "(IIII)I" } : Jvm.MethodName)) ∈ lw_all := lw_g (lw_at lw_m2 41 rfl) rfl
theorem q324 : (Jvm.Cond.code ({ cls := "BaizeCorps", name := "hint", desc := "(IIII)I" } : Jvm.MethodName) prog_1_method_24_code (9 : Nat) (Option.some Jvm.ClassFile.FieldType.int)) ∈ lw_all := lw_g (lw_at lw_m2 42 rfl) rfl
theorem q325 : (Jvm.Cond.constant "BaizeCorps" (155 : Nat) (1000000 : Int32)) ∈ lw_all := lw_g (lw_at lw_m2 43 rfl) rfl
theorem q326 : (Jvm.Cond.methodLink "BaizeCorps" (159 : Nat) ({ cls := "BaizeCorps", name := "forceBy", desc := "(IIII)I" } : Jvm.MethodName)) ∈ lw_all := lw_g (lw_at lw_m2 44 rfl) rfl
theorem q327 : (Jvm.Cond.privateMethod ({ cls := "BaizeCorps", name := "forceBy", desc := "(IIII)I" } : Jvm.MethodName)) ∈ lw_tbl := lw_at lw_m2 45 rfl
theorem q328 : (Jvm.Cond.instanceMethod ({ cls := "BaizeCorps", name := "forceBy", desc := "(IIII)I" } : Jvm.MethodName)) ∈ lw_all := lw_g (lw_at lw_m2 46 rfl) rfl
theorem q329 : (Jvm.Cond.code ({ cls := "BaizeCorps", name := "forceBy", desc := "(IIII)I" } : Jvm.MethodName) prog_1_method_23_code (8 : Nat) (Option.some Jvm.ClassFile.FieldType.int)) ∈ lw_all := lw_g (lw_at lw_m2 47 rfl) rfl
theorem q330 : (Jvm.Cond.methodLink "BaizeCorps" (147 : Nat) ({ cls := "BaizeCorps$Path", name := "send", desc := "(II)V" } : Jvm.MethodName)) ∈ lw_all := lw_g (lw_at lw_m2 48 rfl) rfl
theorem q331 : (Jvm.Cond.methodLink "BaizeCorps" (151 : Nat) ({ cls := "BaizeCorps$Path", name := "next", desc := "()I" } : Jvm.MethodName)) ∈ lw_all := lw_g (lw_at lw_m2 49 rfl) rfl
theorem q332 : (Jvm.Cond.methodLink "BaizeCorps" (156 : Nat) ({ cls := "BaizeCorps$Path", name := "go", desc := "()V" } : Jvm.MethodName)) ∈ lw_all := lw_g (lw_at lw_m2 50 rfl) rfl
theorem q333 : (Jvm.Cond.methodLink "BaizeCorps" (163 : Nat) ({ cls := "java/lang/Math", name := "min", desc := "(II)I" } : Jvm.MethodName)) ∈ lw_all := lw_g (lw_at lw_m2 51 rfl) rfl
theorem q337 : (Jvm.Cond.instanceMethod ({ cls := "BaizeCorps", name := "alone", desc := "(IIII)I" } : Jvm.MethodName)) ∈ lw_all := lw_g (lw_at lw_m2 55 rfl) rfl
theorem q338 : (Jvm.Cond.selects "BaizeCorps" ({ cls := "BaizeCorps", name := "alone", desc := "(IIII)I" } : Jvm.MethodName) ({ cls := "BaizeCorps", name := "alone", desc := "(IIII)I" } : Jvm.MethodName)) ∈ lw_all := lw_g (lw_at lw_m2 56 rfl) rfl
theorem q339 : (Jvm.Cond.code ({ cls := "BaizeCorps", name := "alone", desc := "(IIII)I" } : Jvm.MethodName) prog_1_method_27_code (9 : Nat) (Option.some Jvm.ClassFile.FieldType.int)) ∈ lw_all := lw_g (lw_at lw_m2 57 rfl) rfl
theorem q340 : (Jvm.Cond.methodLink "BaizeCorps" (169 : Nat) ({ cls := "BaizeCorps", name := "isOpen", desc := "(I)Z" } : Jvm.MethodName)) ∈ lw_all := lw_g (lw_at lw_m2 58 rfl) rfl
theorem q341 : (Jvm.Cond.static ({ cls := "BaizeCorps", name := "isOpen", desc := "(I)Z" } : Jvm.MethodName)) ∈ lw_all := lw_g (lw_at lw_m2 59 rfl) rfl
theorem q342 : (Jvm.Cond.code ({ cls := "BaizeCorps", name := "isOpen", desc := "(I)Z" } : Jvm.MethodName) prog_1_method_26_code (1 : Nat) (Option.some Jvm.ClassFile.FieldType.boolean)) ∈ lw_all := lw_g (lw_at lw_m2 60 rfl) rfl
theorem q343 : (Jvm.Cond.constant "BaizeCorps" (172 : Nat) (99999 : Int32)) ∈ lw_all := lw_g (lw_at lw_m2 61 rfl) rfl
theorem q344 : (Jvm.Cond.methodLink "BaizeCorps" (173 : Nat) ({ cls := "BaizeCorps", name := "walkAlone", desc := "(III)V" } : Jvm.MethodName)) ∈ lw_all := lw_g (lw_at lw_m2 62 rfl) rfl
theorem q345 : (Jvm.Cond.privateMethod ({ cls := "BaizeCorps", name := "walkAlone", desc := "(III)V" } : Jvm.MethodName)) ∈ lw_tbl := lw_at lw_m2 63 rfl
theorem q346 : (Jvm.Cond.instanceMethod ({ cls := "BaizeCorps", name := "walkAlone", desc := "(III)V" } : Jvm.MethodName)) ∈ lw_all := lw_g (lw_at lw_m2 64 rfl) rfl
theorem q347 : (Jvm.Cond.code ({ cls := "BaizeCorps", name := "walkAlone", desc := "(III)V" } : Jvm.MethodName) prog_1_method_25_code (6 : Nat) (Option.none : Option Jvm.ClassFile.FieldType)) ∈ lw_all := lw_g (lw_at lw_m2 65 rfl) rfl
theorem q348 : (Jvm.Cond.methodLink "BaizeCorps" (177 : Nat) ({ cls := "BaizeCorps$Path", name := "cell", desc := "()I" } : Jvm.MethodName)) ∈ lw_all := lw_g (lw_at lw_m2 66 rfl) rfl
theorem q352 : (Jvm.Cond.methodLink "BaizeCorps" (180 : Nat) ({ cls := "java/util/Arrays", name := "fill", desc := "([ZZ)V" } : Jvm.MethodName)) ∈ lw_all := lw_g (lw_at lw_m2 70 rfl) rfl
theorem q355 : (Jvm.Cond.methodLink "BaizeCorps" (186 : Nat) ({ cls := "BaizeCorps", name := "asNumber", desc := "(Z)I" } : Jvm.MethodName)) ∈ lw_all := lw_g (lw_at lw_m2 73 rfl) rfl
theorem q356 : (Jvm.Cond.methodLink "BaizeCorps" (190 : Nat) ({ cls := "BaizeCorps$Path", name := "way", desc := "()I" } : Jvm.MethodName)) ∈ lw_all := lw_g (lw_at lw_m2 74 rfl) rfl
theorem q361 : (Jvm.Cond.instanceMethod ({ cls := "BaizeCorps", name := "strokes", desc := "(III)I" } : Jvm.MethodName)) ∈ lw_all := lw_g (lw_at lw_m2 79 rfl) rfl
theorem q362 : (Jvm.Cond.selects "BaizeCorps" ({ cls := "BaizeCorps", name := "strokes", desc := "(III)I" } : Jvm.MethodName) ({ cls := "BaizeCorps", name := "strokes", desc := "(III)I" } : Jvm.MethodName)) ∈ lw_all := lw_g (lw_at lw_m2 80 rfl) rfl
theorem q363 : (Jvm.Cond.code ({ cls := "BaizeCorps", name := "strokes", desc := "(III)I" } : Jvm.MethodName) prog_1_method_29_code (5 : Nat) (Option.some Jvm.ClassFile.FieldType.int)) ∈ lw_all := lw_g (lw_at lw_m2 81 rfl) rfl
theorem q364 : (Jvm.Cond.methodLink "BaizeCorps" (196 : Nat) ({ cls := "java/util/Arrays", name := "fill", desc := "([II)V" } : Jvm.MethodName)) ∈ lw_all := lw_g (lw_at lw_m2 82 rfl) rfl
theorem q367 : (Jvm.Cond.methodLink "BaizeCorps" (199 : Nat) ({ cls := "BaizeCorps", name := "reachFrom", desc := "(I)V" } : Jvm.MethodName)) ∈ lw_all := lw_g (lw_at lw_m2 85 rfl) rfl
theorem q368 : (Jvm.Cond.privateMethod ({ cls := "BaizeCorps", name := "reachFrom", desc := "(I)V" } : Jvm.MethodName)) ∈ lw_tbl := lw_at lw_m2 86 rfl
theorem q369 : (Jvm.Cond.instanceMethod ({ cls := "BaizeCorps", name := "reachFrom", desc := "(I)V" } : Jvm.MethodName)) ∈ lw_all := lw_g (lw_at lw_m2 87 rfl) rfl
theorem q370 : (Jvm.Cond.code ({ cls := "BaizeCorps", name := "reachFrom", desc := "(I)V" } : Jvm.MethodName) prog_1_method_28_code (5 : Nat) (Option.none : Option Jvm.ClassFile.FieldType)) ∈ lw_all := lw_g (lw_at lw_m2 88 rfl) rfl
theorem q372 : (Jvm.Cond.instanceMethod ({ cls := "BaizeCorps", name := "seen", desc := "(II)I" } : Jvm.MethodName)) ∈ lw_all := lw_g (lw_at lw_m2 90 rfl) rfl
theorem q373 : (Jvm.Cond.selects "BaizeCorps" ({ cls := "BaizeCorps", name := "seen", desc := "(II)I" } : Jvm.MethodName) ({ cls := "BaizeCorps", name := "seen", desc := "(II)I" } : Jvm.MethodName)) ∈ lw_all := lw_g (lw_at lw_m2 91 rfl) rfl
theorem q374 : (Jvm.Cond.code ({ cls := "BaizeCorps", name := "seen", desc := "(II)I" } : Jvm.MethodName) prog_1_method_30_code (3 : Nat) (Option.some Jvm.ClassFile.FieldType.int)) ∈ lw_all := lw_g (lw_at lw_m2 92 rfl) rfl
theorem q376 : (Jvm.Cond.instanceMethod ({ cls := "BaizeCorps", name := "forget", desc := "()I" } : Jvm.MethodName)) ∈ lw_all := lw_g (lw_at lw_m2 94 rfl) rfl
theorem q377 : (Jvm.Cond.selects "BaizeCorps" ({ cls := "BaizeCorps", name := "forget", desc := "()I" } : Jvm.MethodName) ({ cls := "BaizeCorps", name := "forget", desc := "()I" } : Jvm.MethodName)) ∈ lw_all := lw_g (lw_at lw_m2 95 rfl) rfl
theorem q378 : (Jvm.Cond.code ({ cls := "BaizeCorps", name := "forget", desc := "()I" } : Jvm.MethodName) prog_1_method_31_code (2 : Nat) (Option.some Jvm.ClassFile.FieldType.int)) ∈ lw_all := lw_g (lw_at lw_m2 96 rfl) rfl
theorem q380 : (Jvm.Cond.instanceMethod ({ cls := "BaizeCorps", name := "sent", desc := "(I)I" } : Jvm.MethodName)) ∈ lw_all := lw_g (lw_at lw_m2 98 rfl) rfl
theorem q381 : (Jvm.Cond.selects "BaizeCorps" ({ cls := "BaizeCorps", name := "sent", desc := "(I)I" } : Jvm.MethodName) ({ cls := "BaizeCorps", name := "sent", desc := "(I)I" } : Jvm.MethodName)) ∈ lw_all := lw_g (lw_at lw_m2 99 rfl) rfl
theorem q382 : (Jvm.Cond.code ({ cls := "BaizeCorps", name := "sent", desc := "(I)I" } : Jvm.MethodName) prog_1_method_34_code (4 : Nat) (Option.some Jvm.ClassFile.FieldType.int)) ∈ lw_all := lw_g (lw_at lw_m2 100 rfl) rfl
theorem q383 : (Jvm.Cond.methodLink "BaizeCorps" (215 : Nat) ({ cls := "BaizeCorps", name := "canBe", desc := "(I)Z" } : Jvm.MethodName)) ∈ lw_all := lw_g (lw_at lw_m2 101 rfl) rfl
theorem q384 : (Jvm.Cond.privateMethod ({ cls := "BaizeCorps", name := "canBe", desc := "(I)Z" } : Jvm.MethodName)) ∈ lw_tbl := lw_at lw_m2 102 rfl
theorem q385 : (Jvm.Cond.instanceMethod ({ cls := "BaizeCorps", name := "canBe", desc := "(I)Z" } : Jvm.MethodName)) ∈ lw_all := lw_g (lw_at lw_m2 103 rfl) rfl
theorem q386 : (Jvm.Cond.code ({ cls := "BaizeCorps", name := "canBe", desc := "(I)Z" } : Jvm.MethodName) prog_1_method_33_code (4 : Nat) (Option.some Jvm.ClassFile.FieldType.boolean)) ∈ lw_all := lw_g (lw_at lw_m2 104 rfl) rfl
theorem q387 : (Jvm.Cond.methodLink "BaizeCorps" (212 : Nat) ({ cls := "BaizeCorps", name := "cellAfter", desc := "(II)I" } : Jvm.MethodName)) ∈ lw_all := lw_g (lw_at lw_m2 105 rfl) rfl
theorem q388 : (Jvm.Cond.privateMethod ({ cls := "BaizeCorps", name := "cellAfter", desc := "(II)I" } : Jvm.MethodName)) ∈ lw_tbl := lw_at lw_m2 106 rfl
theorem q389 : (Jvm.Cond.instanceMethod ({ cls := "BaizeCorps", name := "cellAfter", desc := "(II)I" } : Jvm.MethodName)) ∈ lw_all := lw_g (lw_at lw_m2 107 rfl) rfl
theorem q390 : (Jvm.Cond.code ({ cls := "BaizeCorps", name := "cellAfter", desc := "(II)I" } : Jvm.MethodName) prog_1_method_32_code (3 : Nat) (Option.some Jvm.ClassFile.FieldType.int)) ∈ lw_all := lw_g (lw_at lw_m2 108 rfl) rfl
theorem q392 : (Jvm.Cond.instanceMethod ({ cls := "BaizeCorps", name := "ask", desc := "(I)I" } : Jvm.MethodName)) ∈ lw_all := lw_g (lw_at lw_m2 110 rfl) rfl
theorem q393 : (Jvm.Cond.selects "BaizeCorps" ({ cls := "BaizeCorps", name := "ask", desc := "(I)I" } : Jvm.MethodName) ({ cls := "BaizeCorps", name := "ask", desc := "(I)I" } : Jvm.MethodName)) ∈ lw_all := lw_g (lw_at lw_m2 111 rfl) rfl
theorem q394 : (Jvm.Cond.code ({ cls := "BaizeCorps", name := "ask", desc := "(I)I" } : Jvm.MethodName) prog_1_method_35_code (9 : Nat) (Option.some Jvm.ClassFile.FieldType.int)) ∈ lw_all := lw_g (lw_at lw_m2 112 rfl) rfl
theorem q395 : (Jvm.Cond.methodLink "BaizeCorps" (218 : Nat) ({ cls := "java/lang/Math", name := "max", desc := "(II)I" } : Jvm.MethodName)) ∈ lw_all := lw_g (lw_at lw_m2 113 rfl) rfl
theorem q399 : (Jvm.Cond.instanceMethod ({ cls := "BaizeCorps", name := "chalk", desc := "(III)I" } : Jvm.MethodName)) ∈ lw_all := lw_g (lw_at lw_m2 117 rfl) rfl
theorem q400 : (Jvm.Cond.selects "BaizeCorps" ({ cls := "BaizeCorps", name := "chalk", desc := "(III)I" } : Jvm.MethodName) ({ cls := "BaizeCorps", name := "chalk", desc := "(III)I" } : Jvm.MethodName)) ∈ lw_all := lw_g (lw_at lw_m2 118 rfl) rfl
theorem q401 : (Jvm.Cond.code ({ cls := "BaizeCorps", name := "chalk", desc := "(III)I" } : Jvm.MethodName) prog_1_method_38_code (6 : Nat) (Option.some Jvm.ClassFile.FieldType.int)) ∈ lw_all := lw_g (lw_at lw_m2 119 rfl) rfl
theorem q402 : (Jvm.Cond.methodLink "BaizeCorps" (224 : Nat) ({ cls := "BaizeCorps", name := "firstOf", desc := "(II)I" } : Jvm.MethodName)) ∈ lw_all := lw_g (lw_at lw_m2 120 rfl) rfl
theorem q403 : (Jvm.Cond.privateMethod ({ cls := "BaizeCorps", name := "firstOf", desc := "(II)I" } : Jvm.MethodName)) ∈ lw_tbl := lw_at lw_m2 121 rfl
theorem q404 : (Jvm.Cond.instanceMethod ({ cls := "BaizeCorps", name := "firstOf", desc := "(II)I" } : Jvm.MethodName)) ∈ lw_all := lw_g (lw_at lw_m2 122 rfl) rfl
theorem q405 : (Jvm.Cond.code ({ cls := "BaizeCorps", name := "firstOf", desc := "(II)I" } : Jvm.MethodName) prog_1_method_37_code (6 : Nat) (Option.some Jvm.ClassFile.FieldType.int)) ∈ lw_all := lw_g (lw_at lw_m2 123 rfl) rfl
theorem q406 : (Jvm.Cond.methodLink "BaizeCorps" (221 : Nat) ({ cls := "BaizeCorps", name := "taken", desc := "(III)I" } : Jvm.MethodName)) ∈ lw_all := lw_g (lw_at lw_m2 124 rfl) rfl
theorem q407 : (Jvm.Cond.static ({ cls := "BaizeCorps", name := "taken", desc := "(III)I" } : Jvm.MethodName)) ∈ lw_all := lw_g (lw_at lw_m2 125 rfl) rfl
theorem q408 : (Jvm.Cond.code ({ cls := "BaizeCorps", name := "taken", desc := "(III)I" } : Jvm.MethodName) prog_1_method_36_code (4 : Nat) (Option.some Jvm.ClassFile.FieldType.int)) ∈ lw_all := lw_g (lw_at lw_m2 126 rfl) rfl
theorem q410 : (Jvm.Cond.instanceMethod ({ cls := "BaizeCorps", name := "match", desc := "(IIIIII)J" } : Jvm.MethodName)) ∈ lw_all := lw_g (lw_at lw_m2 128 rfl) rfl
theorem q411 : (Jvm.Cond.selects "BaizeCorps" ({ cls := "BaizeCorps", name := "match", desc := "(IIIIII)J" } : Jvm.MethodName) ({ cls := "BaizeCorps", name := "match", desc := "(IIIIII)J" } : Jvm.MethodName)) ∈ lw_all := lw_g (lw_at lw_m2 129 rfl) rfl
theorem q412 : (Jvm.Cond.code ({ cls := "BaizeCorps", name := "match", desc := "(IIIIII)J" } : Jvm.MethodName) prog_1_method_41_code (16 : Nat) (Option.some Jvm.ClassFile.FieldType.long)) ∈ lw_all := lw_g (lw_at lw_m2 130 rfl) rfl
theorem q413 : (Jvm.Cond.constantLong "BaizeCorps" (233 : Nat) (-1000000000000000002 : Int64)) ∈ lw_all := lw_g (lw_at lw_m2 131 rfl) rfl
theorem q414 : (Jvm.Cond.methodLink "BaizeCorps" (235 : Nat) ({ cls := "java/util/Arrays", name := "fill", desc := "([JJ)V" } : Jvm.MethodName)) ∈ lw_all := lw_g (lw_at lw_m2 132 rfl) rfl
theorem q417 : (Jvm.Cond.methodLink "BaizeCorps" (238 : Nat) ({ cls := "BaizeCorps", name := "power", desc := "(I)J" } : Jvm.MethodName)) ∈ lw_all := lw_g (lw_at lw_m2 135 rfl) rfl
theorem q418 : (Jvm.Cond.static ({ cls := "BaizeCorps", name := "power", desc := "(I)J" } : Jvm.MethodName)) ∈ lw_all := lw_g (lw_at lw_m2 136 rfl) rfl
theorem q419 : (Jvm.Cond.code ({ cls := "BaizeCorps", name := "power", desc := "(I)J" } : Jvm.MethodName) prog_1_method_40_code (4 : Nat) (Option.some Jvm.ClassFile.FieldType.long)) ∈ lw_all := lw_g (lw_at lw_m2 137 rfl) rfl
theorem q420 : (Jvm.Cond.constantLong "BaizeCorps" (231 : Nat) (10 : Int64)) ∈ lw_all := lw_g (lw_at lw_m2 138 rfl) rfl
theorem q421 : (Jvm.Cond.methodLink "BaizeCorps" (227 : Nat) ({ cls := "BaizeCorps", name := "divisor", desc := "(JJ)J" } : Jvm.MethodName)) ∈ lw_all := lw_g (lw_at lw_m2 139 rfl) rfl
theorem q422 : (Jvm.Cond.static ({ cls := "BaizeCorps", name := "divisor", desc := "(JJ)J" } : Jvm.MethodName)) ∈ lw_all := lw_g (lw_at lw_m2 140 rfl) rfl
theorem q423 : (Jvm.Cond.code ({ cls := "BaizeCorps", name := "divisor", desc := "(JJ)J" } : Jvm.MethodName) prog_1_method_39_code (4 : Nat) (Option.some Jvm.ClassFile.FieldType.long)) ∈ lw_all := lw_g (lw_at lw_m2 141 rfl) rfl
theorem q425 : (Jvm.Cond.instanceMethod ({ cls := "BaizeCorps", name := "season", desc := "(III)I" } : Jvm.MethodName)) ∈ lw_all := lw_g (lw_at lw_m2 143 rfl) rfl
theorem q426 : (Jvm.Cond.selects "BaizeCorps" ({ cls := "BaizeCorps", name := "season", desc := "(III)I" } : Jvm.MethodName) ({ cls := "BaizeCorps", name := "season", desc := "(III)I" } : Jvm.MethodName)) ∈ lw_all := lw_g (lw_at lw_m2 144 rfl) rfl
theorem q427 : (Jvm.Cond.code ({ cls := "BaizeCorps", name := "season", desc := "(III)I" } : Jvm.MethodName) prog_1_method_42_code (9 : Nat) (Option.some Jvm.ClassFile.FieldType.int)) ∈ lw_all := lw_g (lw_at lw_m2 145 rfl) rfl
theorem q428 : (Jvm.Cond.constantLong "BaizeCorps" (242 : Nat) (75 : Int64)) ∈ lw_all := lw_g (lw_at lw_m2 146 rfl) rfl
theorem q429 : (Jvm.Cond.constantLong "BaizeCorps" (244 : Nat) (74 : Int64)) ∈ lw_all := lw_g (lw_at lw_m2 147 rfl) rfl
theorem q430 : (Jvm.Cond.constantLong "BaizeCorps" (246 : Nat) (65537 : Int64)) ∈ lw_all := lw_g (lw_at lw_m2 148 rfl) rfl
theorem q431 : (Jvm.Cond.constantLong "BaizeCorps" (248 : Nat) (3 : Int64)) ∈ lw_all := lw_g (lw_at lw_m2 149 rfl) rfl
theorem q432 : (Jvm.Cond.constantLong "BaizeCorps" (250 : Nat) (24 : Int64)) ∈ lw_all := lw_g (lw_at lw_m2 150 rfl) rfl
theorem q433 : (Jvm.Cond.constantLong "BaizeCorps" (252 : Nat) (8 : Int64)) ∈ lw_all := lw_g (lw_at lw_m2 151 rfl) rfl
theorem q435 : (Jvm.Cond.instanceMethod ({ cls := "BaizeCorps", name := "image", desc := "(I)I" } : Jvm.MethodName)) ∈ lw_all := lw_g (lw_at lw_m2 153 rfl) rfl
theorem q436 : (Jvm.Cond.selects "BaizeCorps" ({ cls := "BaizeCorps", name := "image", desc := "(I)I" } : Jvm.MethodName) ({ cls := "BaizeCorps", name := "image", desc := "(I)I" } : Jvm.MethodName)) ∈ lw_all := lw_g (lw_at lw_m2 154 rfl) rfl
theorem q437 : (Jvm.Cond.code ({ cls := "BaizeCorps", name := "image", desc := "(I)I" } : Jvm.MethodName) prog_1_method_43_code (2 : Nat) (Option.some Jvm.ClassFile.FieldType.int)) ∈ lw_all := lw_g (lw_at lw_m2 155 rfl) rfl
theorem q439 : (Jvm.Cond.instanceMethod ({ cls := "BaizeCorps", name := "restore", desc := "(I)I" } : Jvm.MethodName)) ∈ lw_all := lw_g (lw_at lw_m2 157 rfl) rfl
theorem q440 : (Jvm.Cond.selects "BaizeCorps" ({ cls := "BaizeCorps", name := "restore", desc := "(I)I" } : Jvm.MethodName) ({ cls := "BaizeCorps", name := "restore", desc := "(I)I" } : Jvm.MethodName)) ∈ lw_all := lw_g (lw_at lw_m2 158 rfl) rfl
theorem q441 : (Jvm.Cond.code ({ cls := "BaizeCorps", name := "restore", desc := "(I)I" } : Jvm.MethodName) prog_1_method_44_code (2 : Nat) (Option.some Jvm.ClassFile.FieldType.int)) ∈ lw_all := lw_g (lw_at lw_m2 159 rfl) rfl
theorem q443 : (Jvm.Cond.instanceMethod ({ cls := "BaizeCorps", name := "told", desc := "(I)I" } : Jvm.MethodName)) ∈ lw_all := lw_g (lw_at lw_m2 161 rfl) rfl
theorem q444 : (Jvm.Cond.selects "BaizeCorps" ({ cls := "BaizeCorps", name := "told", desc := "(I)I" } : Jvm.MethodName) ({ cls := "BaizeCorps", name := "told", desc := "(I)I" } : Jvm.MethodName)) ∈ lw_all := lw_g (lw_at lw_m2 162 rfl) rfl
theorem q445 : (Jvm.Cond.code ({ cls := "BaizeCorps", name := "told", desc := "(I)I" } : Jvm.MethodName) prog_1_method_45_code (2 : Nat) (Option.some Jvm.ClassFile.FieldType.int)) ∈ lw_all := lw_g (lw_at lw_m2 163 rfl) rfl
theorem in_X0 : ∀ w ∈ wsX00, w ∈ lw_all := lw_in wsX00 [156, 158, 160, 162, 164, 166, 168, 170, 172, 174, 176, 178, 180, 182, 184, 186, 188, 190] (by decide +kernel) (by decide +kernel)
