/-! BaizeCorpsModel -/
set_option maxRecDepth 100000
def RX3 : String := "BaizeCorpsModel"
def TX3 : u_T := fun k => match k with
  | 0 => ("BaizeCorpsModel", "cell", "[I", true)
  | 1 => ("BaizeCorpsModel", "points", "I", false)
  | 2 => ("BaizeCorpsModel", "fouls", "I", false)
  | 3 => ("BaizeCorpsModel", "evening", "I", false)
  | 4 => ("BaizeCorpsModel", "sightStep", "[I", true)
  | 5 => ("BaizeCorpsModel", "sightCell", "[I", true)
  | 6 => ("BaizeCorpsModel", "sights", "I", false)
  | 7 => ("BaizeCorpsModel", "pad", "[I", true)
  | 8 => ("BaizeCorpsModel", "padMany", "I", false)
  | 9 => ("BaizeCorpsModel", "act", "[I", true)
  | 10 => ("BaizeCorpsModel", "which", "[I", true)
  | 11 => ("BaizeCorpsModel", "whither", "[I", true)
  | 12 => ("BaizeCorpsModel", "hard", "[I", true)
  | 13 => ("BaizeCorpsModel", "acts", "I", false)
  | 14 => ("BaizeCorpsModel", "moving", "I", false)
  | 15 => ("BaizeCorpsModel", "goes", "I", false)
  | 16 => ("BaizeCorpsModel", "left", "I", false)
  | 17 => ("BaizeCorpsModel", "touches", "I", false)
  | 18 => ("BaizeCorpsModel", "cushions", "I", false)
  | 19 => ("BaizeCorpsModel", "cushionsThen", "I", false)
  | 20 => ("BaizeCorpsModel", "touchedFirst", "I", false)
  | 21 => ("BaizeCorpsModel", "stepsThen", "I", false)
  | 22 => ("BaizeCorpsModel", "downNow", "I", false)
  | 23 => ("BaizeCorpsModel", "touchedMany", "I", false)
  | 24 => ("BaizeCorpsModel", "cushionMany", "I", false)
  | 25 => ("BaizeCorpsModel", "were", "[I", true)
  | 26 => ("BaizeCorpsModel", "had", "[I", true)
  | 27 => ("BaizeCorpsModel", "badAct", "I", false)
  | 28 => ("BaizeCorpsModel", "badWhy", "I", false)
  | 29 => ("BaizeCorpsModel", "foulAct", "I", false)
  | 30 => ("BaizeCorpsModel", "met", "[Z", true)
  | 31 => ("BaizeCorpsModel", "far", "[I", true)
  | 32 => ("BaizeCorpsModel", "fit", "[I", true)
  | 33 => ("BaizeCorpsModel", "now", "[I", true)
  | 34 => ("BaizeCorpsModel", "fitMany", "I", false)
  | 35 => ("BaizeCorpsModel", "byCell", "[I", true)
  | 36 => ("BaizeCorpsModel", "wins", "[Z", true)
  | 37 => ("BaizeCorpsModel", "chance", "[J", true)
  | 38 => ("BaizeCorpsModel", "kept", "[I", true)
  | 39 => ("BaizeCorpsModel", "isKept", "[Z", true)
  | 40 => ("BaizeCorpsModel", "keptAt", "I", false)
  | _ => ("BaizeCorpsModel", "isWriting", "Z", false)
def tyX3 : Nat → FieldType := fun k => match k with
  | 0 => .array .int
  | 1 => .int
  | 2 => .int
  | 3 => .int
  | 4 => .array .int
  | 5 => .array .int
  | 6 => .int
  | 7 => .array .int
  | 8 => .int
  | 9 => .array .int
  | 10 => .array .int
  | 11 => .array .int
  | 12 => .array .int
  | 13 => .int
  | 14 => .int
  | 15 => .int
  | 16 => .int
  | 17 => .int
  | 18 => .int
  | 19 => .int
  | 20 => .int
  | 21 => .int
  | 22 => .int
  | 23 => .int
  | 24 => .int
  | 25 => .array .int
  | 26 => .array .int
  | 27 => .int
  | 28 => .int
  | 29 => .int
  | 30 => .array .boolean
  | 31 => .array .int
  | 32 => .array .int
  | 33 => .array .int
  | 34 => .int
  | 35 => .array .int
  | 36 => .array .boolean
  | 37 => .array .long
  | 38 => .array .int
  | 39 => .array .boolean
  | 40 => .int
  | _ => .boolean
abbrev wsX30 : List Cond := u_ws RX3 TX3 42
set_option maxRecDepth 100000 in
theorem nmX3 : ∀ a, a < 42 → ∀ b, b < 42 → a ≠ b → (TX3 a).2.1 ≠ (TX3 b).2.1 := by decide +kernel
set_option maxRecDepth 100000 in
theorem tyX3_ok : ∀ k, k < 42 → parseFieldDescriptor (TX3 k).2.2.1 = some (tyX3 k) := by decide +kernel
abbrev cX3_init : ByteArray := prog_5_method_1_code
def yX3_init : MethodName := ⟨RX3, "<init>", "()V"⟩
def dkwX3_init_7 : List UInt8 := [180, 0, 7, 27, 27, 184, 0, 69, 79, 132, 1, 1, 167, 255, 238, 177]
abbrev dktX3_init_7 : List UInt8 := dkwX3_init_7 ++ []
def dkwX3_init_6 : List UInt8 := [16, 60, 188, 10, 181, 0, 63, 42, 5, 188, 4, 181, 0, 66, 3, 60, 27, 6, 162, 0, 19, 42]
abbrev dktX3_init_6 : List UInt8 := dkwX3_init_6 ++ dktX3_init_7
def dkwX3_init_5 : List UInt8 := [188, 10, 181, 0, 53, 42, 17, 7, 208, 188, 4, 181, 0, 56, 42, 16, 81, 188, 11, 181, 0, 59, 42]
abbrev dktX3_init_5 : List UInt8 := dkwX3_init_5 ++ dktX3_init_6
def dkwX3_init_4 : List UInt8 := [181, 0, 44, 42, 17, 1, 104, 188, 10, 181, 0, 47, 42, 17, 1, 104, 188, 10, 181, 0, 50, 42, 16, 45]
abbrev dktX3_init_4 : List UInt8 := dkwX3_init_4 ++ dktX3_init_5
def dkwX3_init_3 : List UInt8 := [181, 0, 34, 42, 16, 6, 188, 10, 181, 0, 37, 42, 16, 45, 188, 4, 181, 0, 40, 42, 16, 45, 188, 10]
abbrev dktX3_init_3 : List UInt8 := dkwX3_init_3 ++ dktX3_init_4
def dkwX3_init_2 : List UInt8 := [181, 0, 25, 42, 16, 60, 188, 10, 181, 0, 28, 42, 16, 60, 188, 10, 181, 0, 31, 42, 6, 188, 10]
abbrev dktX3_init_2 : List UInt8 := dkwX3_init_2 ++ dktX3_init_3
def dkwX3_init_1 : List UInt8 := [181, 0, 16, 42, 16, 60, 188, 10, 181, 0, 19, 42, 16, 60, 188, 10, 181, 0, 22, 42, 16, 60, 188, 10]
abbrev dktX3_init_1 : List UInt8 := dkwX3_init_1 ++ dktX3_init_2
def dkwX3_init_0 : List UInt8 := [42, 183, 0, 1, 42, 6, 188, 10, 181, 0, 7, 42, 16, 8, 188, 10, 181, 0, 13, 42, 16, 8, 188, 10]
abbrev dktX3_init_0 : List UInt8 := dkwX3_init_0 ++ dktX3_init_1
theorem dksX3_init_0 : cX3_init.data.toList.drop 0 = dktX3_init_0 := by decide +kernel
theorem dksX3_init_1 : cX3_init.data.toList.drop 24 = dktX3_init_1 := dk_seg dksX3_init_0 24 rfl rfl
theorem dksX3_init_2 : cX3_init.data.toList.drop 48 = dktX3_init_2 := dk_seg dksX3_init_1 24 rfl rfl
theorem dksX3_init_3 : cX3_init.data.toList.drop 71 = dktX3_init_3 := dk_seg dksX3_init_2 23 rfl rfl
theorem dksX3_init_4 : cX3_init.data.toList.drop 95 = dktX3_init_4 := dk_seg dksX3_init_3 24 rfl rfl
theorem dksX3_init_5 : cX3_init.data.toList.drop 119 = dktX3_init_5 := dk_seg dksX3_init_4 24 rfl rfl
theorem dksX3_init_6 : cX3_init.data.toList.drop 142 = dktX3_init_6 := dk_seg dksX3_init_5 23 rfl rfl
theorem dksX3_init_7 : cX3_init.data.toList.drop 164 = dktX3_init_7 := dk_seg dksX3_init_6 22 rfl rfl
theorem dX3_init_0 : decode cX3_init 0 = .ok (.aload_n 0, 1) := dk_42 (dk_at dksX3_init_0 0 rfl rfl)
theorem dX3_init_1 : decode cX3_init 1 = .ok (.invokespecial 1, 3) := dk_183 0 1 (dk_at dksX3_init_0 1 rfl rfl)
theorem dX3_init_4 : decode cX3_init 4 = .ok (.aload_n 0, 1) := dk_42 (dk_at dksX3_init_0 4 rfl rfl)
theorem dX3_init_5 : decode cX3_init 5 = .ok (.iconst 3, 1) := dk_6 (dk_at dksX3_init_0 5 rfl rfl)
theorem dX3_init_6 : decode cX3_init 6 = .ok (.newarray .int, 2) := dk_188_10 (dk_at dksX3_init_0 6 rfl rfl)
theorem dX3_init_8 : decode cX3_init 8 = .ok (.putfield 7, 3) := dk_181 0 7 (dk_at dksX3_init_0 8 rfl rfl)
theorem dX3_init_11 : decode cX3_init 11 = .ok (.aload_n 0, 1) := dk_42 (dk_at dksX3_init_0 11 rfl rfl)
theorem dX3_init_12 : decode cX3_init 12 = .ok (.bipush 8, 2) := dk_16 8 (dk_at dksX3_init_0 12 rfl rfl)
theorem dX3_init_14 : decode cX3_init 14 = .ok (.newarray .int, 2) := dk_188_10 (dk_at dksX3_init_0 14 rfl rfl)
theorem dX3_init_16 : decode cX3_init 16 = .ok (.putfield 13, 3) := dk_181 0 13 (dk_at dksX3_init_0 16 rfl rfl)
theorem dX3_init_19 : decode cX3_init 19 = .ok (.aload_n 0, 1) := dk_42 (dk_at dksX3_init_0 19 rfl rfl)
theorem dX3_init_20 : decode cX3_init 20 = .ok (.bipush 8, 2) := dk_16 8 (dk_at dksX3_init_0 20 rfl rfl)
theorem dX3_init_22 : decode cX3_init 22 = .ok (.newarray .int, 2) := dk_188_10 (dk_at dksX3_init_0 22 rfl rfl)
theorem dX3_init_24 : decode cX3_init 24 = .ok (.putfield 16, 3) := dk_181 0 16 (dk_at dksX3_init_1 0 rfl rfl)
theorem dX3_init_27 : decode cX3_init 27 = .ok (.aload_n 0, 1) := dk_42 (dk_at dksX3_init_1 3 rfl rfl)
theorem dX3_init_28 : decode cX3_init 28 = .ok (.bipush 60, 2) := dk_16 60 (dk_at dksX3_init_1 4 rfl rfl)
theorem dX3_init_30 : decode cX3_init 30 = .ok (.newarray .int, 2) := dk_188_10 (dk_at dksX3_init_1 6 rfl rfl)
theorem dX3_init_32 : decode cX3_init 32 = .ok (.putfield 19, 3) := dk_181 0 19 (dk_at dksX3_init_1 8 rfl rfl)
theorem dX3_init_35 : decode cX3_init 35 = .ok (.aload_n 0, 1) := dk_42 (dk_at dksX3_init_1 11 rfl rfl)
theorem dX3_init_36 : decode cX3_init 36 = .ok (.bipush 60, 2) := dk_16 60 (dk_at dksX3_init_1 12 rfl rfl)
theorem dX3_init_38 : decode cX3_init 38 = .ok (.newarray .int, 2) := dk_188_10 (dk_at dksX3_init_1 14 rfl rfl)
theorem dX3_init_40 : decode cX3_init 40 = .ok (.putfield 22, 3) := dk_181 0 22 (dk_at dksX3_init_1 16 rfl rfl)
theorem dX3_init_43 : decode cX3_init 43 = .ok (.aload_n 0, 1) := dk_42 (dk_at dksX3_init_1 19 rfl rfl)
theorem dX3_init_44 : decode cX3_init 44 = .ok (.bipush 60, 2) := dk_16 60 (dk_at dksX3_init_1 20 rfl rfl)
theorem dX3_init_46 : decode cX3_init 46 = .ok (.newarray .int, 2) := dk_188_10 (dk_at dksX3_init_1 22 rfl rfl)
theorem dX3_init_48 : decode cX3_init 48 = .ok (.putfield 25, 3) := dk_181 0 25 (dk_at dksX3_init_2 0 rfl rfl)
theorem dX3_init_51 : decode cX3_init 51 = .ok (.aload_n 0, 1) := dk_42 (dk_at dksX3_init_2 3 rfl rfl)
theorem dX3_init_52 : decode cX3_init 52 = .ok (.bipush 60, 2) := dk_16 60 (dk_at dksX3_init_2 4 rfl rfl)
theorem dX3_init_54 : decode cX3_init 54 = .ok (.newarray .int, 2) := dk_188_10 (dk_at dksX3_init_2 6 rfl rfl)
theorem dX3_init_56 : decode cX3_init 56 = .ok (.putfield 28, 3) := dk_181 0 28 (dk_at dksX3_init_2 8 rfl rfl)
theorem dX3_init_59 : decode cX3_init 59 = .ok (.aload_n 0, 1) := dk_42 (dk_at dksX3_init_2 11 rfl rfl)
theorem dX3_init_60 : decode cX3_init 60 = .ok (.bipush 60, 2) := dk_16 60 (dk_at dksX3_init_2 12 rfl rfl)
theorem dX3_init_62 : decode cX3_init 62 = .ok (.newarray .int, 2) := dk_188_10 (dk_at dksX3_init_2 14 rfl rfl)
theorem dX3_init_64 : decode cX3_init 64 = .ok (.putfield 31, 3) := dk_181 0 31 (dk_at dksX3_init_2 16 rfl rfl)
theorem dX3_init_67 : decode cX3_init 67 = .ok (.aload_n 0, 1) := dk_42 (dk_at dksX3_init_2 19 rfl rfl)
theorem dX3_init_68 : decode cX3_init 68 = .ok (.iconst 3, 1) := dk_6 (dk_at dksX3_init_2 20 rfl rfl)
theorem dX3_init_69 : decode cX3_init 69 = .ok (.newarray .int, 2) := dk_188_10 (dk_at dksX3_init_2 21 rfl rfl)
theorem dX3_init_71 : decode cX3_init 71 = .ok (.putfield 34, 3) := dk_181 0 34 (dk_at dksX3_init_3 0 rfl rfl)
theorem dX3_init_74 : decode cX3_init 74 = .ok (.aload_n 0, 1) := dk_42 (dk_at dksX3_init_3 3 rfl rfl)
theorem dX3_init_75 : decode cX3_init 75 = .ok (.bipush 6, 2) := dk_16 6 (dk_at dksX3_init_3 4 rfl rfl)
theorem dX3_init_77 : decode cX3_init 77 = .ok (.newarray .int, 2) := dk_188_10 (dk_at dksX3_init_3 6 rfl rfl)
theorem dX3_init_79 : decode cX3_init 79 = .ok (.putfield 37, 3) := dk_181 0 37 (dk_at dksX3_init_3 8 rfl rfl)
theorem dX3_init_82 : decode cX3_init 82 = .ok (.aload_n 0, 1) := dk_42 (dk_at dksX3_init_3 11 rfl rfl)
theorem dX3_init_83 : decode cX3_init 83 = .ok (.bipush 45, 2) := dk_16 45 (dk_at dksX3_init_3 12 rfl rfl)
theorem dX3_init_85 : decode cX3_init 85 = .ok (.newarray .boolean, 2) := dk_188_4 (dk_at dksX3_init_3 14 rfl rfl)
theorem dX3_init_87 : decode cX3_init 87 = .ok (.putfield 40, 3) := dk_181 0 40 (dk_at dksX3_init_3 16 rfl rfl)
theorem dX3_init_90 : decode cX3_init 90 = .ok (.aload_n 0, 1) := dk_42 (dk_at dksX3_init_3 19 rfl rfl)
theorem dX3_init_91 : decode cX3_init 91 = .ok (.bipush 45, 2) := dk_16 45 (dk_at dksX3_init_3 20 rfl rfl)
theorem dX3_init_93 : decode cX3_init 93 = .ok (.newarray .int, 2) := dk_188_10 (dk_at dksX3_init_3 22 rfl rfl)
theorem dX3_init_95 : decode cX3_init 95 = .ok (.putfield 44, 3) := dk_181 0 44 (dk_at dksX3_init_4 0 rfl rfl)
theorem dX3_init_98 : decode cX3_init 98 = .ok (.aload_n 0, 1) := dk_42 (dk_at dksX3_init_4 3 rfl rfl)
theorem dX3_init_99 : decode cX3_init 99 = .ok (.sipush 360, 3) := dk_17 1 104 (dk_at dksX3_init_4 4 rfl rfl)
theorem dX3_init_102 : decode cX3_init 102 = .ok (.newarray .int, 2) := dk_188_10 (dk_at dksX3_init_4 7 rfl rfl)
theorem dX3_init_104 : decode cX3_init 104 = .ok (.putfield 47, 3) := dk_181 0 47 (dk_at dksX3_init_4 9 rfl rfl)
theorem dX3_init_107 : decode cX3_init 107 = .ok (.aload_n 0, 1) := dk_42 (dk_at dksX3_init_4 12 rfl rfl)
theorem dX3_init_108 : decode cX3_init 108 = .ok (.sipush 360, 3) := dk_17 1 104 (dk_at dksX3_init_4 13 rfl rfl)
theorem dX3_init_111 : decode cX3_init 111 = .ok (.newarray .int, 2) := dk_188_10 (dk_at dksX3_init_4 16 rfl rfl)
theorem dX3_init_113 : decode cX3_init 113 = .ok (.putfield 50, 3) := dk_181 0 50 (dk_at dksX3_init_4 18 rfl rfl)
theorem dX3_init_116 : decode cX3_init 116 = .ok (.aload_n 0, 1) := dk_42 (dk_at dksX3_init_4 21 rfl rfl)
theorem dX3_init_117 : decode cX3_init 117 = .ok (.bipush 45, 2) := dk_16 45 (dk_at dksX3_init_4 22 rfl rfl)
theorem dX3_init_119 : decode cX3_init 119 = .ok (.newarray .int, 2) := dk_188_10 (dk_at dksX3_init_5 0 rfl rfl)
theorem dX3_init_121 : decode cX3_init 121 = .ok (.putfield 53, 3) := dk_181 0 53 (dk_at dksX3_init_5 2 rfl rfl)
theorem dX3_init_124 : decode cX3_init 124 = .ok (.aload_n 0, 1) := dk_42 (dk_at dksX3_init_5 5 rfl rfl)
theorem dX3_init_125 : decode cX3_init 125 = .ok (.sipush 2000, 3) := dk_17 7 208 (dk_at dksX3_init_5 6 rfl rfl)
theorem dX3_init_128 : decode cX3_init 128 = .ok (.newarray .boolean, 2) := dk_188_4 (dk_at dksX3_init_5 9 rfl rfl)
theorem dX3_init_130 : decode cX3_init 130 = .ok (.putfield 56, 3) := dk_181 0 56 (dk_at dksX3_init_5 11 rfl rfl)
theorem dX3_init_133 : decode cX3_init 133 = .ok (.aload_n 0, 1) := dk_42 (dk_at dksX3_init_5 14 rfl rfl)
theorem dX3_init_134 : decode cX3_init 134 = .ok (.bipush 81, 2) := dk_16 81 (dk_at dksX3_init_5 15 rfl rfl)
theorem dX3_init_136 : decode cX3_init 136 = .ok (.newarray .long, 2) := dk_188_11 (dk_at dksX3_init_5 17 rfl rfl)
theorem dX3_init_138 : decode cX3_init 138 = .ok (.putfield 59, 3) := dk_181 0 59 (dk_at dksX3_init_5 19 rfl rfl)
theorem dX3_init_141 : decode cX3_init 141 = .ok (.aload_n 0, 1) := dk_42 (dk_at dksX3_init_5 22 rfl rfl)
theorem dX3_init_142 : decode cX3_init 142 = .ok (.bipush 60, 2) := dk_16 60 (dk_at dksX3_init_6 0 rfl rfl)
theorem dX3_init_144 : decode cX3_init 144 = .ok (.newarray .int, 2) := dk_188_10 (dk_at dksX3_init_6 2 rfl rfl)
theorem dX3_init_146 : decode cX3_init 146 = .ok (.putfield 63, 3) := dk_181 0 63 (dk_at dksX3_init_6 4 rfl rfl)
theorem dX3_init_149 : decode cX3_init 149 = .ok (.aload_n 0, 1) := dk_42 (dk_at dksX3_init_6 7 rfl rfl)
theorem dX3_init_150 : decode cX3_init 150 = .ok (.iconst 2, 1) := dk_5 (dk_at dksX3_init_6 8 rfl rfl)
theorem dX3_init_151 : decode cX3_init 151 = .ok (.newarray .boolean, 2) := dk_188_4 (dk_at dksX3_init_6 9 rfl rfl)
theorem dX3_init_153 : decode cX3_init 153 = .ok (.putfield 66, 3) := dk_181 0 66 (dk_at dksX3_init_6 11 rfl rfl)
theorem dX3_init_156 : decode cX3_init 156 = .ok (.iconst 0, 1) := dk_3 (dk_at dksX3_init_6 14 rfl rfl)
theorem dX3_init_157 : decode cX3_init 157 = .ok (.istore_n 1, 1) := dk_60 (dk_at dksX3_init_6 15 rfl rfl)
theorem dX3_init_158 : decode cX3_init 158 = .ok (.iload_n 1, 1) := dk_27 (dk_at dksX3_init_6 16 rfl rfl)
theorem dX3_init_159 : decode cX3_init 159 = .ok (.iconst 3, 1) := dk_6 (dk_at dksX3_init_6 17 rfl rfl)
theorem dX3_init_160 : decode cX3_init 160 = .ok (.if_icmp .ge 19, 3) := dk_162 0 19 (dk_at dksX3_init_6 18 rfl rfl)
theorem dX3_init_163 : decode cX3_init 163 = .ok (.aload_n 0, 1) := dk_42 (dk_at dksX3_init_6 21 rfl rfl)
theorem dX3_init_164 : decode cX3_init 164 = .ok (.getfield 7, 3) := dk_180 0 7 (dk_at dksX3_init_7 0 rfl rfl)
theorem dX3_init_167 : decode cX3_init 167 = .ok (.iload_n 1, 1) := dk_27 (dk_at dksX3_init_7 3 rfl rfl)
theorem dX3_init_168 : decode cX3_init 168 = .ok (.iload_n 1, 1) := dk_27 (dk_at dksX3_init_7 4 rfl rfl)
theorem dX3_init_169 : decode cX3_init 169 = .ok (.invokestatic 69, 3) := dk_184 0 69 (dk_at dksX3_init_7 5 rfl rfl)
theorem dX3_init_172 : decode cX3_init 172 = .ok (.iastore, 1) := dk_79 (dk_at dksX3_init_7 8 rfl rfl)
theorem dX3_init_173 : decode cX3_init 173 = .ok (.iinc 1 1, 3) := dk_132 1 1 (dk_at dksX3_init_7 9 rfl rfl)
theorem dX3_init_176 : decode cX3_init 176 = .ok (.goto (-18), 3) := dk_167 255 238 (dk_at dksX3_init_7 12 rfl rfl)
theorem dX3_init_179 : decode cX3_init 179 = .ok (.return_, 1) := dk_177 (dk_at dksX3_init_7 15 rfl rfl)
abbrev cX3_home : ByteArray := prog_5_method_8_code
def yX3_home : MethodName := ⟨RX3, "home", "(I)I"⟩
def dkwX3_home_0 : List UInt8 := [26, 154, 0, 8, 16, 10, 167, 0, 15, 26, 4, 160, 0, 8, 16, 16, 167, 0, 5, 16, 24, 172]
abbrev dktX3_home_0 : List UInt8 := dkwX3_home_0 ++ []
theorem dksX3_home_0 : cX3_home.data.toList.drop 0 = dktX3_home_0 := by decide +kernel
theorem dX3_home_0 : decode cX3_home 0 = .ok (.iload_n 0, 1) := dk_26 (dk_at dksX3_home_0 0 rfl rfl)
theorem dX3_home_1 : decode cX3_home 1 = .ok (.ifCond .ne 8, 3) := dk_154 0 8 (dk_at dksX3_home_0 1 rfl rfl)
theorem dX3_home_4 : decode cX3_home 4 = .ok (.bipush 10, 2) := dk_16 10 (dk_at dksX3_home_0 4 rfl rfl)
theorem dX3_home_6 : decode cX3_home 6 = .ok (.goto 15, 3) := dk_167 0 15 (dk_at dksX3_home_0 6 rfl rfl)
theorem dX3_home_9 : decode cX3_home 9 = .ok (.iload_n 0, 1) := dk_26 (dk_at dksX3_home_0 9 rfl rfl)
theorem dX3_home_10 : decode cX3_home 10 = .ok (.iconst 1, 1) := dk_4 (dk_at dksX3_home_0 10 rfl rfl)
theorem dX3_home_11 : decode cX3_home 11 = .ok (.if_icmp .ne 8, 3) := dk_160 0 8 (dk_at dksX3_home_0 11 rfl rfl)
theorem dX3_home_14 : decode cX3_home 14 = .ok (.bipush 16, 2) := dk_16 16 (dk_at dksX3_home_0 14 rfl rfl)
theorem dX3_home_16 : decode cX3_home 16 = .ok (.goto 5, 3) := dk_167 0 5 (dk_at dksX3_home_0 16 rfl rfl)
theorem dX3_home_19 : decode cX3_home 19 = .ok (.bipush 24, 2) := dk_16 24 (dk_at dksX3_home_0 19 rfl rfl)
theorem dX3_home_21 : decode cX3_home 21 = .ok (.ireturn, 1) := dk_172 (dk_at dksX3_home_0 21 rfl rfl)
abbrev cX3_ball : ByteArray := prog_5_method_14_code
def yX3_ball : MethodName := ⟨RX3, "ball", "(II)I"⟩
def dkwX3_ball_3 : List UInt8 := [167, 0, 4, 28, 79, 21, 4, 172]
abbrev dktX3_ball_3 : List UInt8 := dkwX3_ball_3 ++ []
def dkwX3_ball_2 : List UInt8 := [16, 253, 172, 42, 180, 0, 7, 27, 46, 54, 4, 42, 180, 0, 7, 27, 28, 156, 0, 8, 16, 250]
abbrev dktX3_ball_2 : List UInt8 := dkwX3_ball_2 ++ dktX3_ball_3
def dkwX3_ball_1 : List UInt8 := [156, 0, 8, 16, 250, 167, 0, 8, 42, 28, 182, 0, 104, 62, 29, 155, 0, 11, 29, 27, 159, 0, 6]
abbrev dktX3_ball_1 : List UInt8 := dkwX3_ball_1 ++ dktX3_ball_2
def dkwX3_ball_0 : List UInt8 := [27, 184, 0, 98, 153, 0, 15, 28, 2, 159, 0, 12, 28, 184, 0, 101, 154, 0, 5, 2, 172, 28]
abbrev dktX3_ball_0 : List UInt8 := dkwX3_ball_0 ++ dktX3_ball_1
theorem dksX3_ball_0 : cX3_ball.data.toList.drop 0 = dktX3_ball_0 := by decide +kernel
theorem dksX3_ball_1 : cX3_ball.data.toList.drop 22 = dktX3_ball_1 := dk_seg dksX3_ball_0 22 rfl rfl
theorem dksX3_ball_2 : cX3_ball.data.toList.drop 45 = dktX3_ball_2 := dk_seg dksX3_ball_1 23 rfl rfl
theorem dksX3_ball_3 : cX3_ball.data.toList.drop 67 = dktX3_ball_3 := dk_seg dksX3_ball_2 22 rfl rfl
theorem dX3_ball_0 : decode cX3_ball 0 = .ok (.iload_n 1, 1) := dk_27 (dk_at dksX3_ball_0 0 rfl rfl)
theorem dX3_ball_1 : decode cX3_ball 1 = .ok (.invokestatic 98, 3) := dk_184 0 98 (dk_at dksX3_ball_0 1 rfl rfl)
theorem dX3_ball_4 : decode cX3_ball 4 = .ok (.ifCond .eq 15, 3) := dk_153 0 15 (dk_at dksX3_ball_0 4 rfl rfl)
theorem dX3_ball_7 : decode cX3_ball 7 = .ok (.iload_n 2, 1) := dk_28 (dk_at dksX3_ball_0 7 rfl rfl)
theorem dX3_ball_8 : decode cX3_ball 8 = .ok (.iconst (-1), 1) := dk_2 (dk_at dksX3_ball_0 8 rfl rfl)
theorem dX3_ball_9 : decode cX3_ball 9 = .ok (.if_icmp .eq 12, 3) := dk_159 0 12 (dk_at dksX3_ball_0 9 rfl rfl)
theorem dX3_ball_12 : decode cX3_ball 12 = .ok (.iload_n 2, 1) := dk_28 (dk_at dksX3_ball_0 12 rfl rfl)
theorem dX3_ball_13 : decode cX3_ball 13 = .ok (.invokestatic 101, 3) := dk_184 0 101 (dk_at dksX3_ball_0 13 rfl rfl)
theorem dX3_ball_16 : decode cX3_ball 16 = .ok (.ifCond .ne 5, 3) := dk_154 0 5 (dk_at dksX3_ball_0 16 rfl rfl)
theorem dX3_ball_19 : decode cX3_ball 19 = .ok (.iconst (-1), 1) := dk_2 (dk_at dksX3_ball_0 19 rfl rfl)
theorem dX3_ball_20 : decode cX3_ball 20 = .ok (.ireturn, 1) := dk_172 (dk_at dksX3_ball_0 20 rfl rfl)
theorem dX3_ball_21 : decode cX3_ball 21 = .ok (.iload_n 2, 1) := dk_28 (dk_at dksX3_ball_0 21 rfl rfl)
theorem dX3_ball_22 : decode cX3_ball 22 = .ok (.ifCond .ge 8, 3) := dk_156 0 8 (dk_at dksX3_ball_1 0 rfl rfl)
theorem dX3_ball_25 : decode cX3_ball 25 = .ok (.bipush (-6), 2) := dk_16 250 (dk_at dksX3_ball_1 3 rfl rfl)
theorem dX3_ball_27 : decode cX3_ball 27 = .ok (.goto 8, 3) := dk_167 0 8 (dk_at dksX3_ball_1 5 rfl rfl)
theorem dX3_ball_30 : decode cX3_ball 30 = .ok (.aload_n 0, 1) := dk_42 (dk_at dksX3_ball_1 8 rfl rfl)
theorem dX3_ball_31 : decode cX3_ball 31 = .ok (.iload_n 2, 1) := dk_28 (dk_at dksX3_ball_1 9 rfl rfl)
theorem dX3_ball_32 : decode cX3_ball 32 = .ok (.invokevirtual 104, 3) := dk_182 0 104 (dk_at dksX3_ball_1 10 rfl rfl)
theorem dX3_ball_35 : decode cX3_ball 35 = .ok (.istore_n 3, 1) := dk_62 (dk_at dksX3_ball_1 13 rfl rfl)
theorem dX3_ball_36 : decode cX3_ball 36 = .ok (.iload_n 3, 1) := dk_29 (dk_at dksX3_ball_1 14 rfl rfl)
theorem dX3_ball_37 : decode cX3_ball 37 = .ok (.ifCond .lt 11, 3) := dk_155 0 11 (dk_at dksX3_ball_1 15 rfl rfl)
theorem dX3_ball_40 : decode cX3_ball 40 = .ok (.iload_n 3, 1) := dk_29 (dk_at dksX3_ball_1 18 rfl rfl)
theorem dX3_ball_41 : decode cX3_ball 41 = .ok (.iload_n 1, 1) := dk_27 (dk_at dksX3_ball_1 19 rfl rfl)
theorem dX3_ball_42 : decode cX3_ball 42 = .ok (.if_icmp .eq 6, 3) := dk_159 0 6 (dk_at dksX3_ball_1 20 rfl rfl)
theorem dX3_ball_45 : decode cX3_ball 45 = .ok (.bipush (-3), 2) := dk_16 253 (dk_at dksX3_ball_2 0 rfl rfl)
theorem dX3_ball_47 : decode cX3_ball 47 = .ok (.ireturn, 1) := dk_172 (dk_at dksX3_ball_2 2 rfl rfl)
theorem dX3_ball_48 : decode cX3_ball 48 = .ok (.aload_n 0, 1) := dk_42 (dk_at dksX3_ball_2 3 rfl rfl)
theorem dX3_ball_49 : decode cX3_ball 49 = .ok (.getfield 7, 3) := dk_180 0 7 (dk_at dksX3_ball_2 4 rfl rfl)
theorem dX3_ball_52 : decode cX3_ball 52 = .ok (.iload_n 1, 1) := dk_27 (dk_at dksX3_ball_2 7 rfl rfl)
theorem dX3_ball_53 : decode cX3_ball 53 = .ok (.iaload, 1) := dk_46 (dk_at dksX3_ball_2 8 rfl rfl)
theorem dX3_ball_54 : decode cX3_ball 54 = .ok (.istore 4, 2) := dk_54 4 (dk_at dksX3_ball_2 9 rfl rfl)
theorem dX3_ball_56 : decode cX3_ball 56 = .ok (.aload_n 0, 1) := dk_42 (dk_at dksX3_ball_2 11 rfl rfl)
theorem dX3_ball_57 : decode cX3_ball 57 = .ok (.getfield 7, 3) := dk_180 0 7 (dk_at dksX3_ball_2 12 rfl rfl)
theorem dX3_ball_60 : decode cX3_ball 60 = .ok (.iload_n 1, 1) := dk_27 (dk_at dksX3_ball_2 15 rfl rfl)
theorem dX3_ball_61 : decode cX3_ball 61 = .ok (.iload_n 2, 1) := dk_28 (dk_at dksX3_ball_2 16 rfl rfl)
theorem dX3_ball_62 : decode cX3_ball 62 = .ok (.ifCond .ge 8, 3) := dk_156 0 8 (dk_at dksX3_ball_2 17 rfl rfl)
theorem dX3_ball_65 : decode cX3_ball 65 = .ok (.bipush (-6), 2) := dk_16 250 (dk_at dksX3_ball_2 20 rfl rfl)
theorem dX3_ball_67 : decode cX3_ball 67 = .ok (.goto 4, 3) := dk_167 0 4 (dk_at dksX3_ball_3 0 rfl rfl)
theorem dX3_ball_70 : decode cX3_ball 70 = .ok (.iload_n 2, 1) := dk_28 (dk_at dksX3_ball_3 3 rfl rfl)
theorem dX3_ball_71 : decode cX3_ball 71 = .ok (.iastore, 1) := dk_79 (dk_at dksX3_ball_3 4 rfl rfl)
theorem dX3_ball_72 : decode cX3_ball 72 = .ok (.iload 4, 2) := dk_21 4 (dk_at dksX3_ball_3 5 rfl rfl)
theorem dX3_ball_74 : decode cX3_ball 74 = .ok (.ireturn, 1) := dk_172 (dk_at dksX3_ball_3 7 rfl rfl)
abbrev cX3_isBall : ByteArray := prog_5_method_4_code
def yX3_isBall : MethodName := ⟨RX3, "isBall", "(I)Z"⟩
def dkwX3_isBall_0 : List UInt8 := [26, 133, 9, 20, 0, 73, 184, 0, 75, 172]
abbrev dktX3_isBall_0 : List UInt8 := dkwX3_isBall_0 ++ []
theorem dksX3_isBall_0 : cX3_isBall.data.toList.drop 0 = dktX3_isBall_0 := by decide +kernel
theorem dX3_isBall_0 : decode cX3_isBall 0 = .ok (.iload_n 0, 1) := dk_26 (dk_at dksX3_isBall_0 0 rfl rfl)
theorem dX3_isBall_1 : decode cX3_isBall 1 = .ok (.i2l, 1) := dk_133 (dk_at dksX3_isBall_0 1 rfl rfl)
theorem dX3_isBall_2 : decode cX3_isBall 2 = .ok (.lconst 0, 1) := dk_9 (dk_at dksX3_isBall_0 2 rfl rfl)
theorem dX3_isBall_3 : decode cX3_isBall 3 = .ok (.ldc2_w 73, 3) := dk_20 0 73 (dk_at dksX3_isBall_0 3 rfl rfl)
theorem dX3_isBall_6 : decode cX3_isBall 6 = .ok (.invokestatic 75, 3) := dk_184 0 75 (dk_at dksX3_isBall_0 6 rfl rfl)
theorem dX3_isBall_9 : decode cX3_isBall 9 = .ok (.ireturn, 1) := dk_172 (dk_at dksX3_isBall_0 9 rfl rfl)
abbrev cX3_in : ByteArray := prog_5_method_3_code
def yX3_in : MethodName := ⟨RX3, "in", "(JJJ)Z"⟩
def dkwX3_in_0 : List UInt8 := [30, 32, 148, 155, 0, 14, 30, 22, 4, 148, 157, 0, 7, 4, 167, 0, 4, 3, 172]
abbrev dktX3_in_0 : List UInt8 := dkwX3_in_0 ++ []
theorem dksX3_in_0 : cX3_in.data.toList.drop 0 = dktX3_in_0 := by decide +kernel
theorem dX3_in_0 : decode cX3_in 0 = .ok (.lload_n 0, 1) := dk_30 (dk_at dksX3_in_0 0 rfl rfl)
theorem dX3_in_1 : decode cX3_in 1 = .ok (.lload_n 2, 1) := dk_32 (dk_at dksX3_in_0 1 rfl rfl)
theorem dX3_in_2 : decode cX3_in 2 = .ok (.lcmp, 1) := dk_148 (dk_at dksX3_in_0 2 rfl rfl)
theorem dX3_in_3 : decode cX3_in 3 = .ok (.ifCond .lt 14, 3) := dk_155 0 14 (dk_at dksX3_in_0 3 rfl rfl)
theorem dX3_in_6 : decode cX3_in 6 = .ok (.lload_n 0, 1) := dk_30 (dk_at dksX3_in_0 6 rfl rfl)
theorem dX3_in_7 : decode cX3_in 7 = .ok (.lload 4, 2) := dk_22 4 (dk_at dksX3_in_0 7 rfl rfl)
theorem dX3_in_9 : decode cX3_in 9 = .ok (.lcmp, 1) := dk_148 (dk_at dksX3_in_0 9 rfl rfl)
theorem dX3_in_10 : decode cX3_in 10 = .ok (.ifCond .gt 7, 3) := dk_157 0 7 (dk_at dksX3_in_0 10 rfl rfl)
theorem dX3_in_13 : decode cX3_in 13 = .ok (.iconst 1, 1) := dk_4 (dk_at dksX3_in_0 13 rfl rfl)
theorem dX3_in_14 : decode cX3_in 14 = .ok (.goto 4, 3) := dk_167 0 4 (dk_at dksX3_in_0 14 rfl rfl)
theorem dX3_in_17 : decode cX3_in 17 = .ok (.iconst 0, 1) := dk_3 (dk_at dksX3_in_0 17 rfl rfl)
theorem dX3_in_18 : decode cX3_in 18 = .ok (.ireturn, 1) := dk_172 (dk_at dksX3_in_0 18 rfl rfl)
abbrev cX3_isPlace : ByteArray := prog_5_method_7_code
def yX3_isPlace : MethodName := ⟨RX3, "isPlace", "(I)Z"⟩
def dkwX3_isPlace_0 : List UInt8 := [26, 184, 0, 81, 153, 0, 14, 26, 184, 0, 85, 154, 0, 7, 4, 167, 0, 4, 3, 172]
abbrev dktX3_isPlace_0 : List UInt8 := dkwX3_isPlace_0 ++ []
theorem dksX3_isPlace_0 : cX3_isPlace.data.toList.drop 0 = dktX3_isPlace_0 := by decide +kernel
theorem dX3_isPlace_0 : decode cX3_isPlace 0 = .ok (.iload_n 0, 1) := dk_26 (dk_at dksX3_isPlace_0 0 rfl rfl)
theorem dX3_isPlace_1 : decode cX3_isPlace 1 = .ok (.invokestatic 81, 3) := dk_184 0 81 (dk_at dksX3_isPlace_0 1 rfl rfl)
theorem dX3_isPlace_4 : decode cX3_isPlace 4 = .ok (.ifCond .eq 14, 3) := dk_153 0 14 (dk_at dksX3_isPlace_0 4 rfl rfl)
theorem dX3_isPlace_7 : decode cX3_isPlace 7 = .ok (.iload_n 0, 1) := dk_26 (dk_at dksX3_isPlace_0 7 rfl rfl)
theorem dX3_isPlace_8 : decode cX3_isPlace 8 = .ok (.invokestatic 85, 3) := dk_184 0 85 (dk_at dksX3_isPlace_0 8 rfl rfl)
theorem dX3_isPlace_11 : decode cX3_isPlace 11 = .ok (.ifCond .ne 7, 3) := dk_154 0 7 (dk_at dksX3_isPlace_0 11 rfl rfl)
theorem dX3_isPlace_14 : decode cX3_isPlace 14 = .ok (.iconst 1, 1) := dk_4 (dk_at dksX3_isPlace_0 14 rfl rfl)
theorem dX3_isPlace_15 : decode cX3_isPlace 15 = .ok (.goto 4, 3) := dk_167 0 4 (dk_at dksX3_isPlace_0 15 rfl rfl)
theorem dX3_isPlace_18 : decode cX3_isPlace 18 = .ok (.iconst 0, 1) := dk_3 (dk_at dksX3_isPlace_0 18 rfl rfl)
theorem dX3_isPlace_19 : decode cX3_isPlace 19 = .ok (.ireturn, 1) := dk_172 (dk_at dksX3_isPlace_0 19 rfl rfl)
abbrev cX3_isCell : ByteArray := prog_5_method_5_code
def yX3_isCell : MethodName := ⟨RX3, "isCell", "(I)Z"⟩
def dkwX3_isCell_0 : List UInt8 := [26, 133, 9, 20, 0, 79, 184, 0, 75, 172]
abbrev dktX3_isCell_0 : List UInt8 := dkwX3_isCell_0 ++ []
theorem dksX3_isCell_0 : cX3_isCell.data.toList.drop 0 = dktX3_isCell_0 := by decide +kernel
theorem dX3_isCell_0 : decode cX3_isCell 0 = .ok (.iload_n 0, 1) := dk_26 (dk_at dksX3_isCell_0 0 rfl rfl)
theorem dX3_isCell_1 : decode cX3_isCell 1 = .ok (.i2l, 1) := dk_133 (dk_at dksX3_isCell_0 1 rfl rfl)
theorem dX3_isCell_2 : decode cX3_isCell 2 = .ok (.lconst 0, 1) := dk_9 (dk_at dksX3_isCell_0 2 rfl rfl)
theorem dX3_isCell_3 : decode cX3_isCell 3 = .ok (.ldc2_w 79, 3) := dk_20 0 79 (dk_at dksX3_isCell_0 3 rfl rfl)
theorem dX3_isCell_6 : decode cX3_isCell 6 = .ok (.invokestatic 75, 3) := dk_184 0 75 (dk_at dksX3_isCell_0 6 rfl rfl)
theorem dX3_isCell_9 : decode cX3_isCell 9 = .ok (.ireturn, 1) := dk_172 (dk_at dksX3_isCell_0 9 rfl rfl)
abbrev cX3_isPocket : ByteArray := prog_5_method_6_code
def yX3_isPocket : MethodName := ⟨RX3, "isPocket", "(I)Z"⟩
def dkwX3_isPocket_1 : List UInt8 := [4, 167, 0, 4, 3, 172]
abbrev dktX3_isPocket_1 : List UInt8 := dkwX3_isPocket_1 ++ []
def dkwX3_isPocket_0 : List UInt8 := [26, 16, 9, 108, 153, 0, 11, 26, 16, 9, 108, 7, 160, 0, 16, 26, 16, 9, 112, 7, 112, 154, 0, 7]
abbrev dktX3_isPocket_0 : List UInt8 := dkwX3_isPocket_0 ++ dktX3_isPocket_1
theorem dksX3_isPocket_0 : cX3_isPocket.data.toList.drop 0 = dktX3_isPocket_0 := by decide +kernel
theorem dksX3_isPocket_1 : cX3_isPocket.data.toList.drop 24 = dktX3_isPocket_1 := dk_seg dksX3_isPocket_0 24 rfl rfl
theorem dX3_isPocket_0 : decode cX3_isPocket 0 = .ok (.iload_n 0, 1) := dk_26 (dk_at dksX3_isPocket_0 0 rfl rfl)
theorem dX3_isPocket_1 : decode cX3_isPocket 1 = .ok (.bipush 9, 2) := dk_16 9 (dk_at dksX3_isPocket_0 1 rfl rfl)
theorem dX3_isPocket_3 : decode cX3_isPocket 3 = .ok (.idiv, 1) := dk_108 (dk_at dksX3_isPocket_0 3 rfl rfl)
theorem dX3_isPocket_4 : decode cX3_isPocket 4 = .ok (.ifCond .eq 11, 3) := dk_153 0 11 (dk_at dksX3_isPocket_0 4 rfl rfl)
theorem dX3_isPocket_7 : decode cX3_isPocket 7 = .ok (.iload_n 0, 1) := dk_26 (dk_at dksX3_isPocket_0 7 rfl rfl)
theorem dX3_isPocket_8 : decode cX3_isPocket 8 = .ok (.bipush 9, 2) := dk_16 9 (dk_at dksX3_isPocket_0 8 rfl rfl)
theorem dX3_isPocket_10 : decode cX3_isPocket 10 = .ok (.idiv, 1) := dk_108 (dk_at dksX3_isPocket_0 10 rfl rfl)
theorem dX3_isPocket_11 : decode cX3_isPocket 11 = .ok (.iconst 4, 1) := dk_7 (dk_at dksX3_isPocket_0 11 rfl rfl)
theorem dX3_isPocket_12 : decode cX3_isPocket 12 = .ok (.if_icmp .ne 16, 3) := dk_160 0 16 (dk_at dksX3_isPocket_0 12 rfl rfl)
theorem dX3_isPocket_15 : decode cX3_isPocket 15 = .ok (.iload_n 0, 1) := dk_26 (dk_at dksX3_isPocket_0 15 rfl rfl)
theorem dX3_isPocket_16 : decode cX3_isPocket 16 = .ok (.bipush 9, 2) := dk_16 9 (dk_at dksX3_isPocket_0 16 rfl rfl)
theorem dX3_isPocket_18 : decode cX3_isPocket 18 = .ok (.irem, 1) := dk_112 (dk_at dksX3_isPocket_0 18 rfl rfl)
theorem dX3_isPocket_19 : decode cX3_isPocket 19 = .ok (.iconst 4, 1) := dk_7 (dk_at dksX3_isPocket_0 19 rfl rfl)
theorem dX3_isPocket_20 : decode cX3_isPocket 20 = .ok (.irem, 1) := dk_112 (dk_at dksX3_isPocket_0 20 rfl rfl)
theorem dX3_isPocket_21 : decode cX3_isPocket 21 = .ok (.ifCond .ne 7, 3) := dk_154 0 7 (dk_at dksX3_isPocket_0 21 rfl rfl)
theorem dX3_isPocket_24 : decode cX3_isPocket 24 = .ok (.iconst 1, 1) := dk_4 (dk_at dksX3_isPocket_1 0 rfl rfl)
theorem dX3_isPocket_25 : decode cX3_isPocket 25 = .ok (.goto 4, 3) := dk_167 0 4 (dk_at dksX3_isPocket_1 1 rfl rfl)
theorem dX3_isPocket_28 : decode cX3_isPocket 28 = .ok (.iconst 0, 1) := dk_3 (dk_at dksX3_isPocket_1 4 rfl rfl)
theorem dX3_isPocket_29 : decode cX3_isPocket 29 = .ok (.ireturn, 1) := dk_172 (dk_at dksX3_isPocket_1 5 rfl rfl)
abbrev cX3_ballOn : ByteArray := prog_5_method_13_code
def yX3_ballOn : MethodName := ⟨RX3, "ballOn", "(I)I"⟩
def dkwX3_ballOn_1 : List UInt8 := [28, 61, 132, 3, 1, 167, 255, 232, 28, 172]
abbrev dktX3_ballOn_1 : List UInt8 := dkwX3_ballOn_1 ++ []
def dkwX3_ballOn_0 : List UInt8 := [16, 250, 61, 3, 62, 29, 6, 162, 0, 25, 42, 180, 0, 7, 29, 46, 27, 160, 0, 7, 29, 167, 0, 4]
abbrev dktX3_ballOn_0 : List UInt8 := dkwX3_ballOn_0 ++ dktX3_ballOn_1
theorem dksX3_ballOn_0 : cX3_ballOn.data.toList.drop 0 = dktX3_ballOn_0 := by decide +kernel
theorem dksX3_ballOn_1 : cX3_ballOn.data.toList.drop 24 = dktX3_ballOn_1 := dk_seg dksX3_ballOn_0 24 rfl rfl
theorem dX3_ballOn_0 : decode cX3_ballOn 0 = .ok (.bipush (-6), 2) := dk_16 250 (dk_at dksX3_ballOn_0 0 rfl rfl)
theorem dX3_ballOn_2 : decode cX3_ballOn 2 = .ok (.istore_n 2, 1) := dk_61 (dk_at dksX3_ballOn_0 2 rfl rfl)
theorem dX3_ballOn_3 : decode cX3_ballOn 3 = .ok (.iconst 0, 1) := dk_3 (dk_at dksX3_ballOn_0 3 rfl rfl)
theorem dX3_ballOn_4 : decode cX3_ballOn 4 = .ok (.istore_n 3, 1) := dk_62 (dk_at dksX3_ballOn_0 4 rfl rfl)
theorem dX3_ballOn_5 : decode cX3_ballOn 5 = .ok (.iload_n 3, 1) := dk_29 (dk_at dksX3_ballOn_0 5 rfl rfl)
theorem dX3_ballOn_6 : decode cX3_ballOn 6 = .ok (.iconst 3, 1) := dk_6 (dk_at dksX3_ballOn_0 6 rfl rfl)
theorem dX3_ballOn_7 : decode cX3_ballOn 7 = .ok (.if_icmp .ge 25, 3) := dk_162 0 25 (dk_at dksX3_ballOn_0 7 rfl rfl)
theorem dX3_ballOn_10 : decode cX3_ballOn 10 = .ok (.aload_n 0, 1) := dk_42 (dk_at dksX3_ballOn_0 10 rfl rfl)
theorem dX3_ballOn_11 : decode cX3_ballOn 11 = .ok (.getfield 7, 3) := dk_180 0 7 (dk_at dksX3_ballOn_0 11 rfl rfl)
theorem dX3_ballOn_14 : decode cX3_ballOn 14 = .ok (.iload_n 3, 1) := dk_29 (dk_at dksX3_ballOn_0 14 rfl rfl)
theorem dX3_ballOn_15 : decode cX3_ballOn 15 = .ok (.iaload, 1) := dk_46 (dk_at dksX3_ballOn_0 15 rfl rfl)
theorem dX3_ballOn_16 : decode cX3_ballOn 16 = .ok (.iload_n 1, 1) := dk_27 (dk_at dksX3_ballOn_0 16 rfl rfl)
theorem dX3_ballOn_17 : decode cX3_ballOn 17 = .ok (.if_icmp .ne 7, 3) := dk_160 0 7 (dk_at dksX3_ballOn_0 17 rfl rfl)
theorem dX3_ballOn_20 : decode cX3_ballOn 20 = .ok (.iload_n 3, 1) := dk_29 (dk_at dksX3_ballOn_0 20 rfl rfl)
theorem dX3_ballOn_21 : decode cX3_ballOn 21 = .ok (.goto 4, 3) := dk_167 0 4 (dk_at dksX3_ballOn_0 21 rfl rfl)
theorem dX3_ballOn_24 : decode cX3_ballOn 24 = .ok (.iload_n 2, 1) := dk_28 (dk_at dksX3_ballOn_1 0 rfl rfl)
theorem dX3_ballOn_25 : decode cX3_ballOn 25 = .ok (.istore_n 2, 1) := dk_61 (dk_at dksX3_ballOn_1 1 rfl rfl)
theorem dX3_ballOn_26 : decode cX3_ballOn 26 = .ok (.iinc 3 1, 3) := dk_132 3 1 (dk_at dksX3_ballOn_1 2 rfl rfl)
theorem dX3_ballOn_29 : decode cX3_ballOn 29 = .ok (.goto (-24), 3) := dk_167 255 232 (dk_at dksX3_ballOn_1 5 rfl rfl)
theorem dX3_ballOn_32 : decode cX3_ballOn 32 = .ok (.iload_n 2, 1) := dk_28 (dk_at dksX3_ballOn_1 8 rfl rfl)
theorem dX3_ballOn_33 : decode cX3_ballOn 33 = .ok (.ireturn, 1) := dk_172 (dk_at dksX3_ballOn_1 9 rfl rfl)
abbrev cX3_score : ByteArray := prog_5_method_15_code
def yX3_score : MethodName := ⟨RX3, "score", "(II)I"⟩
def dkwX3_score_2 : List UInt8 := [181, 0, 113, 29, 172]
abbrev dktX3_score_2 : List UInt8 := dkwX3_score_2 ++ []
def dkwX3_score_1 : List UInt8 := [16, 254, 172, 16, 100, 42, 180, 0, 109, 104, 42, 180, 0, 113, 96, 62, 42, 27, 181, 0, 109, 42, 28]
abbrev dktX3_score_1 : List UInt8 := dkwX3_score_1 ++ dktX3_score_2
def dkwX3_score_0 : List UInt8 := [27, 133, 9, 20, 0, 107, 184, 0, 75, 153, 0, 15, 28, 133, 9, 20, 0, 107, 184, 0, 75, 154, 0, 6]
abbrev dktX3_score_0 : List UInt8 := dkwX3_score_0 ++ dktX3_score_1
theorem dksX3_score_0 : cX3_score.data.toList.drop 0 = dktX3_score_0 := by decide +kernel
theorem dksX3_score_1 : cX3_score.data.toList.drop 24 = dktX3_score_1 := dk_seg dksX3_score_0 24 rfl rfl
theorem dksX3_score_2 : cX3_score.data.toList.drop 47 = dktX3_score_2 := dk_seg dksX3_score_1 23 rfl rfl
theorem dX3_score_0 : decode cX3_score 0 = .ok (.iload_n 1, 1) := dk_27 (dk_at dksX3_score_0 0 rfl rfl)
theorem dX3_score_1 : decode cX3_score 1 = .ok (.i2l, 1) := dk_133 (dk_at dksX3_score_0 1 rfl rfl)
theorem dX3_score_2 : decode cX3_score 2 = .ok (.lconst 0, 1) := dk_9 (dk_at dksX3_score_0 2 rfl rfl)
theorem dX3_score_3 : decode cX3_score 3 = .ok (.ldc2_w 107, 3) := dk_20 0 107 (dk_at dksX3_score_0 3 rfl rfl)
theorem dX3_score_6 : decode cX3_score 6 = .ok (.invokestatic 75, 3) := dk_184 0 75 (dk_at dksX3_score_0 6 rfl rfl)
theorem dX3_score_9 : decode cX3_score 9 = .ok (.ifCond .eq 15, 3) := dk_153 0 15 (dk_at dksX3_score_0 9 rfl rfl)
theorem dX3_score_12 : decode cX3_score 12 = .ok (.iload_n 2, 1) := dk_28 (dk_at dksX3_score_0 12 rfl rfl)
theorem dX3_score_13 : decode cX3_score 13 = .ok (.i2l, 1) := dk_133 (dk_at dksX3_score_0 13 rfl rfl)
theorem dX3_score_14 : decode cX3_score 14 = .ok (.lconst 0, 1) := dk_9 (dk_at dksX3_score_0 14 rfl rfl)
theorem dX3_score_15 : decode cX3_score 15 = .ok (.ldc2_w 107, 3) := dk_20 0 107 (dk_at dksX3_score_0 15 rfl rfl)
theorem dX3_score_18 : decode cX3_score 18 = .ok (.invokestatic 75, 3) := dk_184 0 75 (dk_at dksX3_score_0 18 rfl rfl)
theorem dX3_score_21 : decode cX3_score 21 = .ok (.ifCond .ne 6, 3) := dk_154 0 6 (dk_at dksX3_score_0 21 rfl rfl)
theorem dX3_score_24 : decode cX3_score 24 = .ok (.bipush (-2), 2) := dk_16 254 (dk_at dksX3_score_1 0 rfl rfl)
theorem dX3_score_26 : decode cX3_score 26 = .ok (.ireturn, 1) := dk_172 (dk_at dksX3_score_1 2 rfl rfl)
theorem dX3_score_27 : decode cX3_score 27 = .ok (.bipush 100, 2) := dk_16 100 (dk_at dksX3_score_1 3 rfl rfl)
theorem dX3_score_29 : decode cX3_score 29 = .ok (.aload_n 0, 1) := dk_42 (dk_at dksX3_score_1 5 rfl rfl)
theorem dX3_score_30 : decode cX3_score 30 = .ok (.getfield 109, 3) := dk_180 0 109 (dk_at dksX3_score_1 6 rfl rfl)
theorem dX3_score_33 : decode cX3_score 33 = .ok (.imul, 1) := dk_104 (dk_at dksX3_score_1 9 rfl rfl)
theorem dX3_score_34 : decode cX3_score 34 = .ok (.aload_n 0, 1) := dk_42 (dk_at dksX3_score_1 10 rfl rfl)
theorem dX3_score_35 : decode cX3_score 35 = .ok (.getfield 113, 3) := dk_180 0 113 (dk_at dksX3_score_1 11 rfl rfl)
theorem dX3_score_38 : decode cX3_score 38 = .ok (.iadd, 1) := dk_96 (dk_at dksX3_score_1 14 rfl rfl)
theorem dX3_score_39 : decode cX3_score 39 = .ok (.istore_n 3, 1) := dk_62 (dk_at dksX3_score_1 15 rfl rfl)
theorem dX3_score_40 : decode cX3_score 40 = .ok (.aload_n 0, 1) := dk_42 (dk_at dksX3_score_1 16 rfl rfl)
theorem dX3_score_41 : decode cX3_score 41 = .ok (.iload_n 1, 1) := dk_27 (dk_at dksX3_score_1 17 rfl rfl)
theorem dX3_score_42 : decode cX3_score 42 = .ok (.putfield 109, 3) := dk_181 0 109 (dk_at dksX3_score_1 18 rfl rfl)
theorem dX3_score_45 : decode cX3_score 45 = .ok (.aload_n 0, 1) := dk_42 (dk_at dksX3_score_1 21 rfl rfl)
theorem dX3_score_46 : decode cX3_score 46 = .ok (.iload_n 2, 1) := dk_28 (dk_at dksX3_score_1 22 rfl rfl)
theorem dX3_score_47 : decode cX3_score 47 = .ok (.putfield 113, 3) := dk_181 0 113 (dk_at dksX3_score_2 0 rfl rfl)
theorem dX3_score_50 : decode cX3_score 50 = .ok (.iload_n 3, 1) := dk_29 (dk_at dksX3_score_2 3 rfl rfl)
theorem dX3_score_51 : decode cX3_score 51 = .ok (.ireturn, 1) := dk_172 (dk_at dksX3_score_2 4 rfl rfl)
abbrev cX3_say : ByteArray := prog_5_method_16_code
def yX3_say : MethodName := ⟨RX3, "say", "(I)I"⟩
def dkwX3_say_2 : List UInt8 := [181, 0, 120, 42, 180, 0, 120, 172]
abbrev dktX3_say_2 : List UInt8 := dkwX3_say_2 ++ []
def dkwX3_say_1 : List UInt8 := [160, 0, 6, 16, 252, 172, 42, 180, 0, 19, 42, 180, 0, 120, 27, 79, 42, 89, 180, 0, 120, 4, 96]
abbrev dktX3_say_1 : List UInt8 := dkwX3_say_1 ++ dktX3_say_2
def dkwX3_say_0 : List UInt8 := [27, 133, 20, 0, 116, 20, 0, 118, 184, 0, 75, 154, 0, 6, 16, 254, 172, 42, 180, 0, 120, 16, 60]
abbrev dktX3_say_0 : List UInt8 := dkwX3_say_0 ++ dktX3_say_1
theorem dksX3_say_0 : cX3_say.data.toList.drop 0 = dktX3_say_0 := by decide +kernel
theorem dksX3_say_1 : cX3_say.data.toList.drop 23 = dktX3_say_1 := dk_seg dksX3_say_0 23 rfl rfl
theorem dksX3_say_2 : cX3_say.data.toList.drop 46 = dktX3_say_2 := dk_seg dksX3_say_1 23 rfl rfl
theorem dX3_say_0 : decode cX3_say 0 = .ok (.iload_n 1, 1) := dk_27 (dk_at dksX3_say_0 0 rfl rfl)
theorem dX3_say_1 : decode cX3_say 1 = .ok (.i2l, 1) := dk_133 (dk_at dksX3_say_0 1 rfl rfl)
theorem dX3_say_2 : decode cX3_say 2 = .ok (.ldc2_w 116, 3) := dk_20 0 116 (dk_at dksX3_say_0 2 rfl rfl)
theorem dX3_say_5 : decode cX3_say 5 = .ok (.ldc2_w 118, 3) := dk_20 0 118 (dk_at dksX3_say_0 5 rfl rfl)
theorem dX3_say_8 : decode cX3_say 8 = .ok (.invokestatic 75, 3) := dk_184 0 75 (dk_at dksX3_say_0 8 rfl rfl)
theorem dX3_say_11 : decode cX3_say 11 = .ok (.ifCond .ne 6, 3) := dk_154 0 6 (dk_at dksX3_say_0 11 rfl rfl)
theorem dX3_say_14 : decode cX3_say 14 = .ok (.bipush (-2), 2) := dk_16 254 (dk_at dksX3_say_0 14 rfl rfl)
theorem dX3_say_16 : decode cX3_say 16 = .ok (.ireturn, 1) := dk_172 (dk_at dksX3_say_0 16 rfl rfl)
theorem dX3_say_17 : decode cX3_say 17 = .ok (.aload_n 0, 1) := dk_42 (dk_at dksX3_say_0 17 rfl rfl)
theorem dX3_say_18 : decode cX3_say 18 = .ok (.getfield 120, 3) := dk_180 0 120 (dk_at dksX3_say_0 18 rfl rfl)
theorem dX3_say_21 : decode cX3_say 21 = .ok (.bipush 60, 2) := dk_16 60 (dk_at dksX3_say_0 21 rfl rfl)
theorem dX3_say_23 : decode cX3_say 23 = .ok (.if_icmp .ne 6, 3) := dk_160 0 6 (dk_at dksX3_say_1 0 rfl rfl)
theorem dX3_say_26 : decode cX3_say 26 = .ok (.bipush (-4), 2) := dk_16 252 (dk_at dksX3_say_1 3 rfl rfl)
theorem dX3_say_28 : decode cX3_say 28 = .ok (.ireturn, 1) := dk_172 (dk_at dksX3_say_1 5 rfl rfl)
theorem dX3_say_29 : decode cX3_say 29 = .ok (.aload_n 0, 1) := dk_42 (dk_at dksX3_say_1 6 rfl rfl)
theorem dX3_say_30 : decode cX3_say 30 = .ok (.getfield 19, 3) := dk_180 0 19 (dk_at dksX3_say_1 7 rfl rfl)
theorem dX3_say_33 : decode cX3_say 33 = .ok (.aload_n 0, 1) := dk_42 (dk_at dksX3_say_1 10 rfl rfl)
theorem dX3_say_34 : decode cX3_say 34 = .ok (.getfield 120, 3) := dk_180 0 120 (dk_at dksX3_say_1 11 rfl rfl)
theorem dX3_say_37 : decode cX3_say 37 = .ok (.iload_n 1, 1) := dk_27 (dk_at dksX3_say_1 14 rfl rfl)
theorem dX3_say_38 : decode cX3_say 38 = .ok (.iastore, 1) := dk_79 (dk_at dksX3_say_1 15 rfl rfl)
theorem dX3_say_39 : decode cX3_say 39 = .ok (.aload_n 0, 1) := dk_42 (dk_at dksX3_say_1 16 rfl rfl)
theorem dX3_say_40 : decode cX3_say 40 = .ok (.dup, 1) := dk_89 (dk_at dksX3_say_1 17 rfl rfl)
theorem dX3_say_41 : decode cX3_say 41 = .ok (.getfield 120, 3) := dk_180 0 120 (dk_at dksX3_say_1 18 rfl rfl)
theorem dX3_say_44 : decode cX3_say 44 = .ok (.iconst 1, 1) := dk_4 (dk_at dksX3_say_1 21 rfl rfl)
theorem dX3_say_45 : decode cX3_say 45 = .ok (.iadd, 1) := dk_96 (dk_at dksX3_say_1 22 rfl rfl)
theorem dX3_say_46 : decode cX3_say 46 = .ok (.putfield 120, 3) := dk_181 0 120 (dk_at dksX3_say_2 0 rfl rfl)
theorem dX3_say_49 : decode cX3_say 49 = .ok (.aload_n 0, 1) := dk_42 (dk_at dksX3_say_2 3 rfl rfl)
theorem dX3_say_50 : decode cX3_say 50 = .ok (.getfield 120, 3) := dk_180 0 120 (dk_at dksX3_say_2 4 rfl rfl)
theorem dX3_say_53 : decode cX3_say 53 = .ok (.ireturn, 1) := dk_172 (dk_at dksX3_say_2 7 rfl rfl)
abbrev cX3_wipe : ByteArray := prog_5_method_17_code
def yX3_wipe : MethodName := ⟨RX3, "wipe", "()I"⟩
def dkwX3_wipe_0 : List UInt8 := [42, 180, 0, 120, 60, 42, 3, 181, 0, 120, 27, 172]
abbrev dktX3_wipe_0 : List UInt8 := dkwX3_wipe_0 ++ []
theorem dksX3_wipe_0 : cX3_wipe.data.toList.drop 0 = dktX3_wipe_0 := by decide +kernel
theorem dX3_wipe_0 : decode cX3_wipe 0 = .ok (.aload_n 0, 1) := dk_42 (dk_at dksX3_wipe_0 0 rfl rfl)
theorem dX3_wipe_1 : decode cX3_wipe 1 = .ok (.getfield 120, 3) := dk_180 0 120 (dk_at dksX3_wipe_0 1 rfl rfl)
theorem dX3_wipe_4 : decode cX3_wipe 4 = .ok (.istore_n 1, 1) := dk_60 (dk_at dksX3_wipe_0 4 rfl rfl)
theorem dX3_wipe_5 : decode cX3_wipe 5 = .ok (.aload_n 0, 1) := dk_42 (dk_at dksX3_wipe_0 5 rfl rfl)
theorem dX3_wipe_6 : decode cX3_wipe 6 = .ok (.iconst 0, 1) := dk_3 (dk_at dksX3_wipe_0 6 rfl rfl)
theorem dX3_wipe_7 : decode cX3_wipe 7 = .ok (.putfield 120, 3) := dk_181 0 120 (dk_at dksX3_wipe_0 7 rfl rfl)
theorem dX3_wipe_10 : decode cX3_wipe 10 = .ok (.iload_n 1, 1) := dk_27 (dk_at dksX3_wipe_0 10 rfl rfl)
theorem dX3_wipe_11 : decode cX3_wipe 11 = .ok (.ireturn, 1) := dk_172 (dk_at dksX3_wipe_0 11 rfl rfl)
abbrev cX3_fault : ByteArray := prog_5_method_23_code
def yX3_fault : MethodName := ⟨RX3, "fault", "()I"⟩
def dkwX3_fault_2 : List UInt8 := [167, 0, 7, 42, 180, 0, 120, 172]
abbrev dktX3_fault_2 : List UInt8 := dkwX3_fault_2 ++ []
def dkwX3_fault_1 : List UInt8 := [46, 182, 0, 150, 60, 27, 156, 0, 5, 28, 172, 132, 2, 1, 167, 255, 227, 27, 154, 0, 8, 16, 250]
abbrev dktX3_fault_1 : List UInt8 := dkwX3_fault_1 ++ dktX3_fault_2
def dkwX3_fault_0 : List UInt8 := [42, 3, 181, 0, 123, 3, 60, 3, 61, 28, 42, 180, 0, 120, 162, 0, 27, 42, 27, 42, 180, 0, 19, 28]
abbrev dktX3_fault_0 : List UInt8 := dkwX3_fault_0 ++ dktX3_fault_1
theorem dksX3_fault_0 : cX3_fault.data.toList.drop 0 = dktX3_fault_0 := by decide +kernel
theorem dksX3_fault_1 : cX3_fault.data.toList.drop 24 = dktX3_fault_1 := dk_seg dksX3_fault_0 24 rfl rfl
theorem dksX3_fault_2 : cX3_fault.data.toList.drop 47 = dktX3_fault_2 := dk_seg dksX3_fault_1 23 rfl rfl
theorem dX3_fault_0 : decode cX3_fault 0 = .ok (.aload_n 0, 1) := dk_42 (dk_at dksX3_fault_0 0 rfl rfl)
theorem dX3_fault_1 : decode cX3_fault 1 = .ok (.iconst 0, 1) := dk_3 (dk_at dksX3_fault_0 1 rfl rfl)
theorem dX3_fault_2 : decode cX3_fault 2 = .ok (.putfield 123, 3) := dk_181 0 123 (dk_at dksX3_fault_0 2 rfl rfl)
theorem dX3_fault_5 : decode cX3_fault 5 = .ok (.iconst 0, 1) := dk_3 (dk_at dksX3_fault_0 5 rfl rfl)
theorem dX3_fault_6 : decode cX3_fault 6 = .ok (.istore_n 1, 1) := dk_60 (dk_at dksX3_fault_0 6 rfl rfl)
theorem dX3_fault_7 : decode cX3_fault 7 = .ok (.iconst 0, 1) := dk_3 (dk_at dksX3_fault_0 7 rfl rfl)
theorem dX3_fault_8 : decode cX3_fault 8 = .ok (.istore_n 2, 1) := dk_61 (dk_at dksX3_fault_0 8 rfl rfl)
theorem dX3_fault_9 : decode cX3_fault 9 = .ok (.iload_n 2, 1) := dk_28 (dk_at dksX3_fault_0 9 rfl rfl)
theorem dX3_fault_10 : decode cX3_fault 10 = .ok (.aload_n 0, 1) := dk_42 (dk_at dksX3_fault_0 10 rfl rfl)
theorem dX3_fault_11 : decode cX3_fault 11 = .ok (.getfield 120, 3) := dk_180 0 120 (dk_at dksX3_fault_0 11 rfl rfl)
theorem dX3_fault_14 : decode cX3_fault 14 = .ok (.if_icmp .ge 27, 3) := dk_162 0 27 (dk_at dksX3_fault_0 14 rfl rfl)
theorem dX3_fault_17 : decode cX3_fault 17 = .ok (.aload_n 0, 1) := dk_42 (dk_at dksX3_fault_0 17 rfl rfl)
theorem dX3_fault_18 : decode cX3_fault 18 = .ok (.iload_n 1, 1) := dk_27 (dk_at dksX3_fault_0 18 rfl rfl)
theorem dX3_fault_19 : decode cX3_fault 19 = .ok (.aload_n 0, 1) := dk_42 (dk_at dksX3_fault_0 19 rfl rfl)
theorem dX3_fault_20 : decode cX3_fault 20 = .ok (.getfield 19, 3) := dk_180 0 19 (dk_at dksX3_fault_0 20 rfl rfl)
theorem dX3_fault_23 : decode cX3_fault 23 = .ok (.iload_n 2, 1) := dk_28 (dk_at dksX3_fault_0 23 rfl rfl)
theorem dX3_fault_24 : decode cX3_fault 24 = .ok (.iaload, 1) := dk_46 (dk_at dksX3_fault_1 0 rfl rfl)
theorem dX3_fault_25 : decode cX3_fault 25 = .ok (.invokevirtual 150, 3) := dk_182 0 150 (dk_at dksX3_fault_1 1 rfl rfl)
theorem dX3_fault_28 : decode cX3_fault 28 = .ok (.istore_n 1, 1) := dk_60 (dk_at dksX3_fault_1 4 rfl rfl)
theorem dX3_fault_29 : decode cX3_fault 29 = .ok (.iload_n 1, 1) := dk_27 (dk_at dksX3_fault_1 5 rfl rfl)
theorem dX3_fault_30 : decode cX3_fault 30 = .ok (.ifCond .ge 5, 3) := dk_156 0 5 (dk_at dksX3_fault_1 6 rfl rfl)
theorem dX3_fault_33 : decode cX3_fault 33 = .ok (.iload_n 2, 1) := dk_28 (dk_at dksX3_fault_1 9 rfl rfl)
theorem dX3_fault_34 : decode cX3_fault 34 = .ok (.ireturn, 1) := dk_172 (dk_at dksX3_fault_1 10 rfl rfl)
theorem dX3_fault_35 : decode cX3_fault 35 = .ok (.iinc 2 1, 3) := dk_132 2 1 (dk_at dksX3_fault_1 11 rfl rfl)
theorem dX3_fault_38 : decode cX3_fault 38 = .ok (.goto (-29), 3) := dk_167 255 227 (dk_at dksX3_fault_1 14 rfl rfl)
theorem dX3_fault_41 : decode cX3_fault 41 = .ok (.iload_n 1, 1) := dk_27 (dk_at dksX3_fault_1 17 rfl rfl)
theorem dX3_fault_42 : decode cX3_fault 42 = .ok (.ifCond .ne 8, 3) := dk_154 0 8 (dk_at dksX3_fault_1 18 rfl rfl)
theorem dX3_fault_45 : decode cX3_fault 45 = .ok (.bipush (-6), 2) := dk_16 250 (dk_at dksX3_fault_1 21 rfl rfl)
theorem dX3_fault_47 : decode cX3_fault 47 = .ok (.goto 7, 3) := dk_167 0 7 (dk_at dksX3_fault_2 0 rfl rfl)
theorem dX3_fault_50 : decode cX3_fault 50 = .ok (.aload_n 0, 1) := dk_42 (dk_at dksX3_fault_2 3 rfl rfl)
theorem dX3_fault_51 : decode cX3_fault 51 = .ok (.getfield 120, 3) := dk_180 0 120 (dk_at dksX3_fault_2 4 rfl rfl)
theorem dX3_fault_54 : decode cX3_fault 54 = .ok (.ireturn, 1) := dk_172 (dk_at dksX3_fault_2 7 rfl rfl)
abbrev cX3_readOn : ByteArray := prog_5_method_22_code
def yX3_readOn : MethodName := ⟨RX3, "readOn", "(II)I"⟩
def dkwX3_readOn_1 : List UInt8 := [167, 0, 8, 42, 28, 182, 0, 147, 172]
abbrev dktX3_readOn_1 : List UInt8 := dkwX3_readOn_1 ++ []
def dkwX3_readOn_0 : List UInt8 := [27, 154, 0, 11, 42, 28, 182, 0, 141, 167, 0, 21, 27, 4, 160, 0, 11, 42, 28, 182, 0, 144]
abbrev dktX3_readOn_0 : List UInt8 := dkwX3_readOn_0 ++ dktX3_readOn_1
theorem dksX3_readOn_0 : cX3_readOn.data.toList.drop 0 = dktX3_readOn_0 := by decide +kernel
theorem dksX3_readOn_1 : cX3_readOn.data.toList.drop 22 = dktX3_readOn_1 := dk_seg dksX3_readOn_0 22 rfl rfl
theorem dX3_readOn_0 : decode cX3_readOn 0 = .ok (.iload_n 1, 1) := dk_27 (dk_at dksX3_readOn_0 0 rfl rfl)
theorem dX3_readOn_1 : decode cX3_readOn 1 = .ok (.ifCond .ne 11, 3) := dk_154 0 11 (dk_at dksX3_readOn_0 1 rfl rfl)
theorem dX3_readOn_4 : decode cX3_readOn 4 = .ok (.aload_n 0, 1) := dk_42 (dk_at dksX3_readOn_0 4 rfl rfl)
theorem dX3_readOn_5 : decode cX3_readOn 5 = .ok (.iload_n 2, 1) := dk_28 (dk_at dksX3_readOn_0 5 rfl rfl)
theorem dX3_readOn_6 : decode cX3_readOn 6 = .ok (.invokevirtual 141, 3) := dk_182 0 141 (dk_at dksX3_readOn_0 6 rfl rfl)
theorem dX3_readOn_9 : decode cX3_readOn 9 = .ok (.goto 21, 3) := dk_167 0 21 (dk_at dksX3_readOn_0 9 rfl rfl)
theorem dX3_readOn_12 : decode cX3_readOn 12 = .ok (.iload_n 1, 1) := dk_27 (dk_at dksX3_readOn_0 12 rfl rfl)
theorem dX3_readOn_13 : decode cX3_readOn 13 = .ok (.iconst 1, 1) := dk_4 (dk_at dksX3_readOn_0 13 rfl rfl)
theorem dX3_readOn_14 : decode cX3_readOn 14 = .ok (.if_icmp .ne 11, 3) := dk_160 0 11 (dk_at dksX3_readOn_0 14 rfl rfl)
theorem dX3_readOn_17 : decode cX3_readOn 17 = .ok (.aload_n 0, 1) := dk_42 (dk_at dksX3_readOn_0 17 rfl rfl)
theorem dX3_readOn_18 : decode cX3_readOn 18 = .ok (.iload_n 2, 1) := dk_28 (dk_at dksX3_readOn_0 18 rfl rfl)
theorem dX3_readOn_19 : decode cX3_readOn 19 = .ok (.invokevirtual 144, 3) := dk_182 0 144 (dk_at dksX3_readOn_0 19 rfl rfl)
theorem dX3_readOn_22 : decode cX3_readOn 22 = .ok (.goto 8, 3) := dk_167 0 8 (dk_at dksX3_readOn_1 0 rfl rfl)
theorem dX3_readOn_25 : decode cX3_readOn 25 = .ok (.aload_n 0, 1) := dk_42 (dk_at dksX3_readOn_1 3 rfl rfl)
theorem dX3_readOn_26 : decode cX3_readOn 26 = .ok (.iload_n 2, 1) := dk_28 (dk_at dksX3_readOn_1 4 rfl rfl)
theorem dX3_readOn_27 : decode cX3_readOn 27 = .ok (.invokevirtual 147, 3) := dk_182 0 147 (dk_at dksX3_readOn_1 5 rfl rfl)
theorem dX3_readOn_30 : decode cX3_readOn 30 = .ok (.ireturn, 1) := dk_172 (dk_at dksX3_readOn_1 8 rfl rfl)
abbrev cX3_begin : ByteArray := prog_5_method_19_code
def yX3_begin : MethodName := ⟨RX3, "begin", "(I)I"⟩
def dkwX3_begin_3 : List UInt8 := [167, 0, 19, 27, 16, 46, 160, 0, 11, 42, 6, 182, 0, 130, 167, 0, 5, 16, 250, 172]
abbrev dktX3_begin_3 : List UInt8 := dkwX3_begin_3 ++ []
def dkwX3_begin_2 : List UInt8 := [180, 0, 123, 3, 79, 28, 153, 0, 7, 4, 167, 0, 33, 27, 16, 126, 160, 0, 11, 42, 5, 182, 0, 130]
abbrev dktX3_begin_2 : List UInt8 := dkwX3_begin_2 ++ dktX3_begin_3
def dkwX3_begin_1 : List UInt8 := [27, 16, 65, 100, 167, 0, 4, 3, 79, 42, 180, 0, 28, 42, 180, 0, 123, 3, 79, 42, 180, 0, 31, 42]
abbrev dktX3_begin_1 : List UInt8 := dkwX3_begin_1 ++ dktX3_begin_2
def dkwX3_begin_0 : List UInt8 := [27, 133, 20, 0, 126, 20, 0, 128, 184, 0, 75, 61, 42, 180, 0, 25, 42, 180, 0, 123, 28, 153, 0, 10]
abbrev dktX3_begin_0 : List UInt8 := dkwX3_begin_0 ++ dktX3_begin_1
theorem dksX3_begin_0 : cX3_begin.data.toList.drop 0 = dktX3_begin_0 := by decide +kernel
theorem dksX3_begin_1 : cX3_begin.data.toList.drop 24 = dktX3_begin_1 := dk_seg dksX3_begin_0 24 rfl rfl
theorem dksX3_begin_2 : cX3_begin.data.toList.drop 48 = dktX3_begin_2 := dk_seg dksX3_begin_1 24 rfl rfl
theorem dksX3_begin_3 : cX3_begin.data.toList.drop 72 = dktX3_begin_3 := dk_seg dksX3_begin_2 24 rfl rfl
theorem dX3_begin_0 : decode cX3_begin 0 = .ok (.iload_n 1, 1) := dk_27 (dk_at dksX3_begin_0 0 rfl rfl)
theorem dX3_begin_1 : decode cX3_begin 1 = .ok (.i2l, 1) := dk_133 (dk_at dksX3_begin_0 1 rfl rfl)
theorem dX3_begin_2 : decode cX3_begin 2 = .ok (.ldc2_w 126, 3) := dk_20 0 126 (dk_at dksX3_begin_0 2 rfl rfl)
theorem dX3_begin_5 : decode cX3_begin 5 = .ok (.ldc2_w 128, 3) := dk_20 0 128 (dk_at dksX3_begin_0 5 rfl rfl)
theorem dX3_begin_8 : decode cX3_begin 8 = .ok (.invokestatic 75, 3) := dk_184 0 75 (dk_at dksX3_begin_0 8 rfl rfl)
theorem dX3_begin_11 : decode cX3_begin 11 = .ok (.istore_n 2, 1) := dk_61 (dk_at dksX3_begin_0 11 rfl rfl)
theorem dX3_begin_12 : decode cX3_begin 12 = .ok (.aload_n 0, 1) := dk_42 (dk_at dksX3_begin_0 12 rfl rfl)
theorem dX3_begin_13 : decode cX3_begin 13 = .ok (.getfield 25, 3) := dk_180 0 25 (dk_at dksX3_begin_0 13 rfl rfl)
theorem dX3_begin_16 : decode cX3_begin 16 = .ok (.aload_n 0, 1) := dk_42 (dk_at dksX3_begin_0 16 rfl rfl)
theorem dX3_begin_17 : decode cX3_begin 17 = .ok (.getfield 123, 3) := dk_180 0 123 (dk_at dksX3_begin_0 17 rfl rfl)
theorem dX3_begin_20 : decode cX3_begin 20 = .ok (.iload_n 2, 1) := dk_28 (dk_at dksX3_begin_0 20 rfl rfl)
theorem dX3_begin_21 : decode cX3_begin 21 = .ok (.ifCond .eq 10, 3) := dk_153 0 10 (dk_at dksX3_begin_0 21 rfl rfl)
theorem dX3_begin_24 : decode cX3_begin 24 = .ok (.iload_n 1, 1) := dk_27 (dk_at dksX3_begin_1 0 rfl rfl)
theorem dX3_begin_25 : decode cX3_begin 25 = .ok (.bipush 65, 2) := dk_16 65 (dk_at dksX3_begin_1 1 rfl rfl)
theorem dX3_begin_27 : decode cX3_begin 27 = .ok (.isub, 1) := dk_100 (dk_at dksX3_begin_1 3 rfl rfl)
theorem dX3_begin_28 : decode cX3_begin 28 = .ok (.goto 4, 3) := dk_167 0 4 (dk_at dksX3_begin_1 4 rfl rfl)
theorem dX3_begin_31 : decode cX3_begin 31 = .ok (.iconst 0, 1) := dk_3 (dk_at dksX3_begin_1 7 rfl rfl)
theorem dX3_begin_32 : decode cX3_begin 32 = .ok (.iastore, 1) := dk_79 (dk_at dksX3_begin_1 8 rfl rfl)
theorem dX3_begin_33 : decode cX3_begin 33 = .ok (.aload_n 0, 1) := dk_42 (dk_at dksX3_begin_1 9 rfl rfl)
theorem dX3_begin_34 : decode cX3_begin 34 = .ok (.getfield 28, 3) := dk_180 0 28 (dk_at dksX3_begin_1 10 rfl rfl)
theorem dX3_begin_37 : decode cX3_begin 37 = .ok (.aload_n 0, 1) := dk_42 (dk_at dksX3_begin_1 13 rfl rfl)
theorem dX3_begin_38 : decode cX3_begin 38 = .ok (.getfield 123, 3) := dk_180 0 123 (dk_at dksX3_begin_1 14 rfl rfl)
theorem dX3_begin_41 : decode cX3_begin 41 = .ok (.iconst 0, 1) := dk_3 (dk_at dksX3_begin_1 17 rfl rfl)
theorem dX3_begin_42 : decode cX3_begin 42 = .ok (.iastore, 1) := dk_79 (dk_at dksX3_begin_1 18 rfl rfl)
theorem dX3_begin_43 : decode cX3_begin 43 = .ok (.aload_n 0, 1) := dk_42 (dk_at dksX3_begin_1 19 rfl rfl)
theorem dX3_begin_44 : decode cX3_begin 44 = .ok (.getfield 31, 3) := dk_180 0 31 (dk_at dksX3_begin_1 20 rfl rfl)
theorem dX3_begin_47 : decode cX3_begin 47 = .ok (.aload_n 0, 1) := dk_42 (dk_at dksX3_begin_1 23 rfl rfl)
theorem dX3_begin_48 : decode cX3_begin 48 = .ok (.getfield 123, 3) := dk_180 0 123 (dk_at dksX3_begin_2 0 rfl rfl)
theorem dX3_begin_51 : decode cX3_begin 51 = .ok (.iconst 0, 1) := dk_3 (dk_at dksX3_begin_2 3 rfl rfl)
theorem dX3_begin_52 : decode cX3_begin 52 = .ok (.iastore, 1) := dk_79 (dk_at dksX3_begin_2 4 rfl rfl)
theorem dX3_begin_53 : decode cX3_begin 53 = .ok (.iload_n 2, 1) := dk_28 (dk_at dksX3_begin_2 5 rfl rfl)
theorem dX3_begin_54 : decode cX3_begin 54 = .ok (.ifCond .eq 7, 3) := dk_153 0 7 (dk_at dksX3_begin_2 6 rfl rfl)
theorem dX3_begin_57 : decode cX3_begin 57 = .ok (.iconst 1, 1) := dk_4 (dk_at dksX3_begin_2 9 rfl rfl)
theorem dX3_begin_58 : decode cX3_begin 58 = .ok (.goto 33, 3) := dk_167 0 33 (dk_at dksX3_begin_2 10 rfl rfl)
theorem dX3_begin_61 : decode cX3_begin 61 = .ok (.iload_n 1, 1) := dk_27 (dk_at dksX3_begin_2 13 rfl rfl)
theorem dX3_begin_62 : decode cX3_begin 62 = .ok (.bipush 126, 2) := dk_16 126 (dk_at dksX3_begin_2 14 rfl rfl)
theorem dX3_begin_64 : decode cX3_begin 64 = .ok (.if_icmp .ne 11, 3) := dk_160 0 11 (dk_at dksX3_begin_2 16 rfl rfl)
theorem dX3_begin_67 : decode cX3_begin 67 = .ok (.aload_n 0, 1) := dk_42 (dk_at dksX3_begin_2 19 rfl rfl)
theorem dX3_begin_68 : decode cX3_begin 68 = .ok (.iconst 2, 1) := dk_5 (dk_at dksX3_begin_2 20 rfl rfl)
theorem dX3_begin_69 : decode cX3_begin 69 = .ok (.invokevirtual 130, 3) := dk_182 0 130 (dk_at dksX3_begin_2 21 rfl rfl)
theorem dX3_begin_72 : decode cX3_begin 72 = .ok (.goto 19, 3) := dk_167 0 19 (dk_at dksX3_begin_3 0 rfl rfl)
theorem dX3_begin_75 : decode cX3_begin 75 = .ok (.iload_n 1, 1) := dk_27 (dk_at dksX3_begin_3 3 rfl rfl)
theorem dX3_begin_76 : decode cX3_begin 76 = .ok (.bipush 46, 2) := dk_16 46 (dk_at dksX3_begin_3 4 rfl rfl)
theorem dX3_begin_78 : decode cX3_begin 78 = .ok (.if_icmp .ne 11, 3) := dk_160 0 11 (dk_at dksX3_begin_3 6 rfl rfl)
theorem dX3_begin_81 : decode cX3_begin 81 = .ok (.aload_n 0, 1) := dk_42 (dk_at dksX3_begin_3 9 rfl rfl)
theorem dX3_begin_82 : decode cX3_begin 82 = .ok (.iconst 3, 1) := dk_6 (dk_at dksX3_begin_3 10 rfl rfl)
theorem dX3_begin_83 : decode cX3_begin 83 = .ok (.invokevirtual 130, 3) := dk_182 0 130 (dk_at dksX3_begin_3 11 rfl rfl)
theorem dX3_begin_86 : decode cX3_begin 86 = .ok (.goto 5, 3) := dk_167 0 5 (dk_at dksX3_begin_3 14 rfl rfl)
theorem dX3_begin_89 : decode cX3_begin 89 = .ok (.bipush (-6), 2) := dk_16 250 (dk_at dksX3_begin_3 17 rfl rfl)
theorem dX3_begin_91 : decode cX3_begin 91 = .ok (.ireturn, 1) := dk_172 (dk_at dksX3_begin_3 19 rfl rfl)
abbrev cX3_close : ByteArray := prog_5_method_18_code
def yX3_close : MethodName := ⟨RX3, "close", "(I)I"⟩
def dkwX3_close_0 : List UInt8 := [42, 180, 0, 22, 42, 180, 0, 123, 27, 79, 42, 89, 180, 0, 123, 4, 96, 181, 0, 123, 3, 172]
abbrev dktX3_close_0 : List UInt8 := dkwX3_close_0 ++ []
theorem dksX3_close_0 : cX3_close.data.toList.drop 0 = dktX3_close_0 := by decide +kernel
theorem dX3_close_0 : decode cX3_close 0 = .ok (.aload_n 0, 1) := dk_42 (dk_at dksX3_close_0 0 rfl rfl)
theorem dX3_close_1 : decode cX3_close 1 = .ok (.getfield 22, 3) := dk_180 0 22 (dk_at dksX3_close_0 1 rfl rfl)
theorem dX3_close_4 : decode cX3_close 4 = .ok (.aload_n 0, 1) := dk_42 (dk_at dksX3_close_0 4 rfl rfl)
theorem dX3_close_5 : decode cX3_close 5 = .ok (.getfield 123, 3) := dk_180 0 123 (dk_at dksX3_close_0 5 rfl rfl)
theorem dX3_close_8 : decode cX3_close 8 = .ok (.iload_n 1, 1) := dk_27 (dk_at dksX3_close_0 8 rfl rfl)
theorem dX3_close_9 : decode cX3_close 9 = .ok (.iastore, 1) := dk_79 (dk_at dksX3_close_0 9 rfl rfl)
theorem dX3_close_10 : decode cX3_close 10 = .ok (.aload_n 0, 1) := dk_42 (dk_at dksX3_close_0 10 rfl rfl)
theorem dX3_close_11 : decode cX3_close 11 = .ok (.dup, 1) := dk_89 (dk_at dksX3_close_0 11 rfl rfl)
theorem dX3_close_12 : decode cX3_close 12 = .ok (.getfield 123, 3) := dk_180 0 123 (dk_at dksX3_close_0 12 rfl rfl)
theorem dX3_close_15 : decode cX3_close 15 = .ok (.iconst 1, 1) := dk_4 (dk_at dksX3_close_0 15 rfl rfl)
theorem dX3_close_16 : decode cX3_close 16 = .ok (.iadd, 1) := dk_96 (dk_at dksX3_close_0 16 rfl rfl)
theorem dX3_close_17 : decode cX3_close 17 = .ok (.putfield 123, 3) := dk_181 0 123 (dk_at dksX3_close_0 17 rfl rfl)
theorem dX3_close_20 : decode cX3_close 20 = .ok (.iconst 0, 1) := dk_3 (dk_at dksX3_close_0 20 rfl rfl)
theorem dX3_close_21 : decode cX3_close 21 = .ok (.ireturn, 1) := dk_172 (dk_at dksX3_close_0 21 rfl rfl)
abbrev cX3_deed : ByteArray := prog_5_method_20_code
def yX3_deed : MethodName := ⟨RX3, "deed", "(I)I"⟩
def dkwX3_deed_1 : List UInt8 := [79, 27, 133, 20, 0, 133, 20, 0, 135, 184, 0, 75, 153, 0, 7, 5, 167, 0, 5, 16, 250, 172]
abbrev dktX3_deed_1 : List UInt8 := dkwX3_deed_1 ++ []
def dkwX3_deed_0 : List UInt8 := [27, 16, 94, 160, 0, 9, 42, 4, 182, 0, 130, 172, 42, 180, 0, 28, 42, 180, 0, 123, 27, 16, 48, 100]
abbrev dktX3_deed_0 : List UInt8 := dkwX3_deed_0 ++ dktX3_deed_1
theorem dksX3_deed_0 : cX3_deed.data.toList.drop 0 = dktX3_deed_0 := by decide +kernel
theorem dksX3_deed_1 : cX3_deed.data.toList.drop 24 = dktX3_deed_1 := dk_seg dksX3_deed_0 24 rfl rfl
theorem dX3_deed_0 : decode cX3_deed 0 = .ok (.iload_n 1, 1) := dk_27 (dk_at dksX3_deed_0 0 rfl rfl)
theorem dX3_deed_1 : decode cX3_deed 1 = .ok (.bipush 94, 2) := dk_16 94 (dk_at dksX3_deed_0 1 rfl rfl)
theorem dX3_deed_3 : decode cX3_deed 3 = .ok (.if_icmp .ne 9, 3) := dk_160 0 9 (dk_at dksX3_deed_0 3 rfl rfl)
theorem dX3_deed_6 : decode cX3_deed 6 = .ok (.aload_n 0, 1) := dk_42 (dk_at dksX3_deed_0 6 rfl rfl)
theorem dX3_deed_7 : decode cX3_deed 7 = .ok (.iconst 1, 1) := dk_4 (dk_at dksX3_deed_0 7 rfl rfl)
theorem dX3_deed_8 : decode cX3_deed 8 = .ok (.invokevirtual 130, 3) := dk_182 0 130 (dk_at dksX3_deed_0 8 rfl rfl)
theorem dX3_deed_11 : decode cX3_deed 11 = .ok (.ireturn, 1) := dk_172 (dk_at dksX3_deed_0 11 rfl rfl)
theorem dX3_deed_12 : decode cX3_deed 12 = .ok (.aload_n 0, 1) := dk_42 (dk_at dksX3_deed_0 12 rfl rfl)
theorem dX3_deed_13 : decode cX3_deed 13 = .ok (.getfield 28, 3) := dk_180 0 28 (dk_at dksX3_deed_0 13 rfl rfl)
theorem dX3_deed_16 : decode cX3_deed 16 = .ok (.aload_n 0, 1) := dk_42 (dk_at dksX3_deed_0 16 rfl rfl)
theorem dX3_deed_17 : decode cX3_deed 17 = .ok (.getfield 123, 3) := dk_180 0 123 (dk_at dksX3_deed_0 17 rfl rfl)
theorem dX3_deed_20 : decode cX3_deed 20 = .ok (.iload_n 1, 1) := dk_27 (dk_at dksX3_deed_0 20 rfl rfl)
theorem dX3_deed_21 : decode cX3_deed 21 = .ok (.bipush 48, 2) := dk_16 48 (dk_at dksX3_deed_0 21 rfl rfl)
theorem dX3_deed_23 : decode cX3_deed 23 = .ok (.isub, 1) := dk_100 (dk_at dksX3_deed_0 23 rfl rfl)
theorem dX3_deed_24 : decode cX3_deed 24 = .ok (.iastore, 1) := dk_79 (dk_at dksX3_deed_1 0 rfl rfl)
theorem dX3_deed_25 : decode cX3_deed 25 = .ok (.iload_n 1, 1) := dk_27 (dk_at dksX3_deed_1 1 rfl rfl)
theorem dX3_deed_26 : decode cX3_deed 26 = .ok (.i2l, 1) := dk_133 (dk_at dksX3_deed_1 2 rfl rfl)
theorem dX3_deed_27 : decode cX3_deed 27 = .ok (.ldc2_w 133, 3) := dk_20 0 133 (dk_at dksX3_deed_1 3 rfl rfl)
theorem dX3_deed_30 : decode cX3_deed 30 = .ok (.ldc2_w 135, 3) := dk_20 0 135 (dk_at dksX3_deed_1 6 rfl rfl)
theorem dX3_deed_33 : decode cX3_deed 33 = .ok (.invokestatic 75, 3) := dk_184 0 75 (dk_at dksX3_deed_1 9 rfl rfl)
theorem dX3_deed_36 : decode cX3_deed 36 = .ok (.ifCond .eq 7, 3) := dk_153 0 7 (dk_at dksX3_deed_1 12 rfl rfl)
theorem dX3_deed_39 : decode cX3_deed 39 = .ok (.iconst 2, 1) := dk_5 (dk_at dksX3_deed_1 15 rfl rfl)
theorem dX3_deed_40 : decode cX3_deed 40 = .ok (.goto 5, 3) := dk_167 0 5 (dk_at dksX3_deed_1 16 rfl rfl)
theorem dX3_deed_43 : decode cX3_deed 43 = .ok (.bipush (-6), 2) := dk_16 250 (dk_at dksX3_deed_1 19 rfl rfl)
theorem dX3_deed_45 : decode cX3_deed 45 = .ok (.ireturn, 1) := dk_172 (dk_at dksX3_deed_1 21 rfl rfl)
abbrev cX3_force : ByteArray := prog_5_method_21_code
def yX3_force : MethodName := ⟨RX3, "force", "(I)I"⟩
def dkwX3_force_1 : List UInt8 := [153, 0, 11, 42, 3, 182, 0, 130, 167, 0, 5, 16, 250, 172]
abbrev dktX3_force_1 : List UInt8 := dkwX3_force_1 ++ []
def dkwX3_force_0 : List UInt8 := [42, 180, 0, 31, 42, 180, 0, 123, 27, 16, 48, 100, 79, 27, 133, 20, 0, 137, 20, 0, 139, 184, 0, 75]
abbrev dktX3_force_0 : List UInt8 := dkwX3_force_0 ++ dktX3_force_1
theorem dksX3_force_0 : cX3_force.data.toList.drop 0 = dktX3_force_0 := by decide +kernel
theorem dksX3_force_1 : cX3_force.data.toList.drop 24 = dktX3_force_1 := dk_seg dksX3_force_0 24 rfl rfl
theorem dX3_force_0 : decode cX3_force 0 = .ok (.aload_n 0, 1) := dk_42 (dk_at dksX3_force_0 0 rfl rfl)
theorem dX3_force_1 : decode cX3_force 1 = .ok (.getfield 31, 3) := dk_180 0 31 (dk_at dksX3_force_0 1 rfl rfl)
theorem dX3_force_4 : decode cX3_force 4 = .ok (.aload_n 0, 1) := dk_42 (dk_at dksX3_force_0 4 rfl rfl)
theorem dX3_force_5 : decode cX3_force 5 = .ok (.getfield 123, 3) := dk_180 0 123 (dk_at dksX3_force_0 5 rfl rfl)
theorem dX3_force_8 : decode cX3_force 8 = .ok (.iload_n 1, 1) := dk_27 (dk_at dksX3_force_0 8 rfl rfl)
theorem dX3_force_9 : decode cX3_force 9 = .ok (.bipush 48, 2) := dk_16 48 (dk_at dksX3_force_0 9 rfl rfl)
theorem dX3_force_11 : decode cX3_force 11 = .ok (.isub, 1) := dk_100 (dk_at dksX3_force_0 11 rfl rfl)
theorem dX3_force_12 : decode cX3_force 12 = .ok (.iastore, 1) := dk_79 (dk_at dksX3_force_0 12 rfl rfl)
theorem dX3_force_13 : decode cX3_force 13 = .ok (.iload_n 1, 1) := dk_27 (dk_at dksX3_force_0 13 rfl rfl)
theorem dX3_force_14 : decode cX3_force 14 = .ok (.i2l, 1) := dk_133 (dk_at dksX3_force_0 14 rfl rfl)
theorem dX3_force_15 : decode cX3_force 15 = .ok (.ldc2_w 137, 3) := dk_20 0 137 (dk_at dksX3_force_0 15 rfl rfl)
theorem dX3_force_18 : decode cX3_force 18 = .ok (.ldc2_w 139, 3) := dk_20 0 139 (dk_at dksX3_force_0 18 rfl rfl)
theorem dX3_force_21 : decode cX3_force 21 = .ok (.invokestatic 75, 3) := dk_184 0 75 (dk_at dksX3_force_0 21 rfl rfl)
theorem dX3_force_24 : decode cX3_force 24 = .ok (.ifCond .eq 11, 3) := dk_153 0 11 (dk_at dksX3_force_1 0 rfl rfl)
theorem dX3_force_27 : decode cX3_force 27 = .ok (.aload_n 0, 1) := dk_42 (dk_at dksX3_force_1 3 rfl rfl)
theorem dX3_force_28 : decode cX3_force 28 = .ok (.iconst 0, 1) := dk_3 (dk_at dksX3_force_1 4 rfl rfl)
theorem dX3_force_29 : decode cX3_force 29 = .ok (.invokevirtual 130, 3) := dk_182 0 130 (dk_at dksX3_force_1 5 rfl rfl)
theorem dX3_force_32 : decode cX3_force 32 = .ok (.goto 5, 3) := dk_167 0 5 (dk_at dksX3_force_1 8 rfl rfl)
theorem dX3_force_35 : decode cX3_force 35 = .ok (.bipush (-6), 2) := dk_16 250 (dk_at dksX3_force_1 11 rfl rfl)
theorem dX3_force_37 : decode cX3_force 37 = .ok (.ireturn, 1) := dk_172 (dk_at dksX3_force_1 13 rfl rfl)
abbrev cX3_judge : ByteArray := prog_5_method_37_code
def yX3_judge : MethodName := ⟨RX3, "judge", "(I)I"⟩
def dkwX3_judge_2 : List UInt8 := [180, 0, 220, 167, 0, 19, 27, 4, 160, 0, 10, 42, 180, 0, 223, 167, 0, 7, 42, 180, 0, 199, 172]
abbrev dktX3_judge_2 : List UInt8 := dkwX3_judge_2 ++ []
def dkwX3_judge_1 : List UInt8 := [28, 16, 251, 159, 0, 14, 27, 4, 164, 0, 11, 28, 16, 253, 160, 0, 5, 28, 172, 27, 154, 0, 10, 42]
abbrev dktX3_judge_1 : List UInt8 := dkwX3_judge_1 ++ dktX3_judge_2
def dkwX3_judge_0 : List UInt8 := [27, 133, 9, 20, 0, 73, 184, 0, 75, 154, 0, 6, 16, 254, 172, 42, 42, 182, 0, 246, 182, 0, 249, 61]
abbrev dktX3_judge_0 : List UInt8 := dkwX3_judge_0 ++ dktX3_judge_1
theorem dksX3_judge_0 : cX3_judge.data.toList.drop 0 = dktX3_judge_0 := by decide +kernel
theorem dksX3_judge_1 : cX3_judge.data.toList.drop 24 = dktX3_judge_1 := dk_seg dksX3_judge_0 24 rfl rfl
theorem dksX3_judge_2 : cX3_judge.data.toList.drop 48 = dktX3_judge_2 := dk_seg dksX3_judge_1 24 rfl rfl
theorem dX3_judge_0 : decode cX3_judge 0 = .ok (.iload_n 1, 1) := dk_27 (dk_at dksX3_judge_0 0 rfl rfl)
theorem dX3_judge_1 : decode cX3_judge 1 = .ok (.i2l, 1) := dk_133 (dk_at dksX3_judge_0 1 rfl rfl)
theorem dX3_judge_2 : decode cX3_judge 2 = .ok (.lconst 0, 1) := dk_9 (dk_at dksX3_judge_0 2 rfl rfl)
theorem dX3_judge_3 : decode cX3_judge 3 = .ok (.ldc2_w 73, 3) := dk_20 0 73 (dk_at dksX3_judge_0 3 rfl rfl)
theorem dX3_judge_6 : decode cX3_judge 6 = .ok (.invokestatic 75, 3) := dk_184 0 75 (dk_at dksX3_judge_0 6 rfl rfl)
theorem dX3_judge_9 : decode cX3_judge 9 = .ok (.ifCond .ne 6, 3) := dk_154 0 6 (dk_at dksX3_judge_0 9 rfl rfl)
theorem dX3_judge_12 : decode cX3_judge 12 = .ok (.bipush (-2), 2) := dk_16 254 (dk_at dksX3_judge_0 12 rfl rfl)
theorem dX3_judge_14 : decode cX3_judge 14 = .ok (.ireturn, 1) := dk_172 (dk_at dksX3_judge_0 14 rfl rfl)
theorem dX3_judge_15 : decode cX3_judge 15 = .ok (.aload_n 0, 1) := dk_42 (dk_at dksX3_judge_0 15 rfl rfl)
theorem dX3_judge_16 : decode cX3_judge 16 = .ok (.aload_n 0, 1) := dk_42 (dk_at dksX3_judge_0 16 rfl rfl)
theorem dX3_judge_17 : decode cX3_judge 17 = .ok (.invokevirtual 246, 3) := dk_182 0 246 (dk_at dksX3_judge_0 17 rfl rfl)
theorem dX3_judge_20 : decode cX3_judge 20 = .ok (.invokevirtual 249, 3) := dk_182 0 249 (dk_at dksX3_judge_0 20 rfl rfl)
theorem dX3_judge_23 : decode cX3_judge 23 = .ok (.istore_n 2, 1) := dk_61 (dk_at dksX3_judge_0 23 rfl rfl)
theorem dX3_judge_24 : decode cX3_judge 24 = .ok (.iload_n 2, 1) := dk_28 (dk_at dksX3_judge_1 0 rfl rfl)
theorem dX3_judge_25 : decode cX3_judge 25 = .ok (.bipush (-5), 2) := dk_16 251 (dk_at dksX3_judge_1 1 rfl rfl)
theorem dX3_judge_27 : decode cX3_judge 27 = .ok (.if_icmp .eq 14, 3) := dk_159 0 14 (dk_at dksX3_judge_1 3 rfl rfl)
theorem dX3_judge_30 : decode cX3_judge 30 = .ok (.iload_n 1, 1) := dk_27 (dk_at dksX3_judge_1 6 rfl rfl)
theorem dX3_judge_31 : decode cX3_judge 31 = .ok (.iconst 1, 1) := dk_4 (dk_at dksX3_judge_1 7 rfl rfl)
theorem dX3_judge_32 : decode cX3_judge 32 = .ok (.if_icmp .le 11, 3) := dk_164 0 11 (dk_at dksX3_judge_1 8 rfl rfl)
theorem dX3_judge_35 : decode cX3_judge 35 = .ok (.iload_n 2, 1) := dk_28 (dk_at dksX3_judge_1 11 rfl rfl)
theorem dX3_judge_36 : decode cX3_judge 36 = .ok (.bipush (-3), 2) := dk_16 253 (dk_at dksX3_judge_1 12 rfl rfl)
theorem dX3_judge_38 : decode cX3_judge 38 = .ok (.if_icmp .ne 5, 3) := dk_160 0 5 (dk_at dksX3_judge_1 14 rfl rfl)
theorem dX3_judge_41 : decode cX3_judge 41 = .ok (.iload_n 2, 1) := dk_28 (dk_at dksX3_judge_1 17 rfl rfl)
theorem dX3_judge_42 : decode cX3_judge 42 = .ok (.ireturn, 1) := dk_172 (dk_at dksX3_judge_1 18 rfl rfl)
theorem dX3_judge_43 : decode cX3_judge 43 = .ok (.iload_n 1, 1) := dk_27 (dk_at dksX3_judge_1 19 rfl rfl)
theorem dX3_judge_44 : decode cX3_judge 44 = .ok (.ifCond .ne 10, 3) := dk_154 0 10 (dk_at dksX3_judge_1 20 rfl rfl)
theorem dX3_judge_47 : decode cX3_judge 47 = .ok (.aload_n 0, 1) := dk_42 (dk_at dksX3_judge_1 23 rfl rfl)
theorem dX3_judge_48 : decode cX3_judge 48 = .ok (.getfield 220, 3) := dk_180 0 220 (dk_at dksX3_judge_2 0 rfl rfl)
theorem dX3_judge_51 : decode cX3_judge 51 = .ok (.goto 19, 3) := dk_167 0 19 (dk_at dksX3_judge_2 3 rfl rfl)
theorem dX3_judge_54 : decode cX3_judge 54 = .ok (.iload_n 1, 1) := dk_27 (dk_at dksX3_judge_2 6 rfl rfl)
theorem dX3_judge_55 : decode cX3_judge 55 = .ok (.iconst 1, 1) := dk_4 (dk_at dksX3_judge_2 7 rfl rfl)
theorem dX3_judge_56 : decode cX3_judge 56 = .ok (.if_icmp .ne 10, 3) := dk_160 0 10 (dk_at dksX3_judge_2 8 rfl rfl)
theorem dX3_judge_59 : decode cX3_judge 59 = .ok (.aload_n 0, 1) := dk_42 (dk_at dksX3_judge_2 11 rfl rfl)
theorem dX3_judge_60 : decode cX3_judge 60 = .ok (.getfield 223, 3) := dk_180 0 223 (dk_at dksX3_judge_2 12 rfl rfl)
theorem dX3_judge_63 : decode cX3_judge 63 = .ok (.goto 7, 3) := dk_167 0 7 (dk_at dksX3_judge_2 15 rfl rfl)
theorem dX3_judge_66 : decode cX3_judge 66 = .ok (.aload_n 0, 1) := dk_42 (dk_at dksX3_judge_2 18 rfl rfl)
theorem dX3_judge_67 : decode cX3_judge 67 = .ok (.getfield 199, 3) := dk_180 0 199 (dk_at dksX3_judge_2 19 rfl rfl)
theorem dX3_judge_70 : decode cX3_judge 70 = .ok (.ireturn, 1) := dk_172 (dk_at dksX3_judge_2 22 rfl rfl)
abbrev cX3_refusal : ByteArray := prog_5_method_36_code
def yX3_refusal : MethodName := ⟨RX3, "refusal", "()I"⟩
def dkwX3_refusal_1 : List UInt8 := [155, 0, 8, 16, 253, 167, 0, 5, 16, 250, 172]
abbrev dktX3_refusal_1 : List UInt8 := dkwX3_refusal_1 ++ []
def dkwX3_refusal_0 : List UInt8 := [42, 182, 0, 236, 42, 182, 0, 239, 155, 0, 6, 16, 251, 172, 42, 182, 0, 243, 42, 180, 0, 220]
abbrev dktX3_refusal_0 : List UInt8 := dkwX3_refusal_0 ++ dktX3_refusal_1
theorem dksX3_refusal_0 : cX3_refusal.data.toList.drop 0 = dktX3_refusal_0 := by decide +kernel
theorem dksX3_refusal_1 : cX3_refusal.data.toList.drop 22 = dktX3_refusal_1 := dk_seg dksX3_refusal_0 22 rfl rfl
theorem dX3_refusal_0 : decode cX3_refusal 0 = .ok (.aload_n 0, 1) := dk_42 (dk_at dksX3_refusal_0 0 rfl rfl)
theorem dX3_refusal_1 : decode cX3_refusal 1 = .ok (.invokevirtual 236, 3) := dk_182 0 236 (dk_at dksX3_refusal_0 1 rfl rfl)
theorem dX3_refusal_4 : decode cX3_refusal 4 = .ok (.aload_n 0, 1) := dk_42 (dk_at dksX3_refusal_0 4 rfl rfl)
theorem dX3_refusal_5 : decode cX3_refusal 5 = .ok (.invokevirtual 239, 3) := dk_182 0 239 (dk_at dksX3_refusal_0 5 rfl rfl)
theorem dX3_refusal_8 : decode cX3_refusal 8 = .ok (.ifCond .lt 6, 3) := dk_155 0 6 (dk_at dksX3_refusal_0 8 rfl rfl)
theorem dX3_refusal_11 : decode cX3_refusal 11 = .ok (.bipush (-5), 2) := dk_16 251 (dk_at dksX3_refusal_0 11 rfl rfl)
theorem dX3_refusal_13 : decode cX3_refusal 13 = .ok (.ireturn, 1) := dk_172 (dk_at dksX3_refusal_0 13 rfl rfl)
theorem dX3_refusal_14 : decode cX3_refusal 14 = .ok (.aload_n 0, 1) := dk_42 (dk_at dksX3_refusal_0 14 rfl rfl)
theorem dX3_refusal_15 : decode cX3_refusal 15 = .ok (.invokevirtual 243, 3) := dk_182 0 243 (dk_at dksX3_refusal_0 15 rfl rfl)
theorem dX3_refusal_18 : decode cX3_refusal 18 = .ok (.aload_n 0, 1) := dk_42 (dk_at dksX3_refusal_0 18 rfl rfl)
theorem dX3_refusal_19 : decode cX3_refusal 19 = .ok (.getfield 220, 3) := dk_180 0 220 (dk_at dksX3_refusal_0 19 rfl rfl)
theorem dX3_refusal_22 : decode cX3_refusal 22 = .ok (.ifCond .lt 8, 3) := dk_155 0 8 (dk_at dksX3_refusal_1 0 rfl rfl)
theorem dX3_refusal_25 : decode cX3_refusal 25 = .ok (.bipush (-3), 2) := dk_16 253 (dk_at dksX3_refusal_1 3 rfl rfl)
theorem dX3_refusal_27 : decode cX3_refusal 27 = .ok (.goto 5, 3) := dk_167 0 5 (dk_at dksX3_refusal_1 5 rfl rfl)
theorem dX3_refusal_30 : decode cX3_refusal 30 = .ok (.bipush (-6), 2) := dk_16 250 (dk_at dksX3_refusal_1 8 rfl rfl)
theorem dX3_refusal_32 : decode cX3_refusal 32 = .ok (.ireturn, 1) := dk_172 (dk_at dksX3_refusal_1 10 rfl rfl)
abbrev cX3_keepNow : ByteArray := prog_5_method_33_code
def yX3_keepNow : MethodName := ⟨RX3, "keepNow", "()V"⟩
def dkwX3_keepNow_2 : List UInt8 := [180, 0, 37, 8, 42, 180, 0, 211, 79, 177]
abbrev dktX3_keepNow_2 : List UInt8 := dkwX3_keepNow_2 ++ []
def dkwX3_keepNow_1 : List UInt8 := [167, 255, 236, 42, 180, 0, 37, 6, 42, 180, 0, 109, 79, 42, 180, 0, 37, 7, 42, 180, 0, 113, 79, 42]
abbrev dktX3_keepNow_1 : List UInt8 := dkwX3_keepNow_1 ++ dktX3_keepNow_2
def dkwX3_keepNow_0 : List UInt8 := [3, 60, 27, 6, 162, 0, 21, 42, 180, 0, 37, 27, 42, 180, 0, 7, 27, 46, 79, 132, 1, 1]
abbrev dktX3_keepNow_0 : List UInt8 := dkwX3_keepNow_0 ++ dktX3_keepNow_1
theorem dksX3_keepNow_0 : cX3_keepNow.data.toList.drop 0 = dktX3_keepNow_0 := by decide +kernel
theorem dksX3_keepNow_1 : cX3_keepNow.data.toList.drop 22 = dktX3_keepNow_1 := dk_seg dksX3_keepNow_0 22 rfl rfl
theorem dksX3_keepNow_2 : cX3_keepNow.data.toList.drop 46 = dktX3_keepNow_2 := dk_seg dksX3_keepNow_1 24 rfl rfl
theorem dX3_keepNow_0 : decode cX3_keepNow 0 = .ok (.iconst 0, 1) := dk_3 (dk_at dksX3_keepNow_0 0 rfl rfl)
theorem dX3_keepNow_1 : decode cX3_keepNow 1 = .ok (.istore_n 1, 1) := dk_60 (dk_at dksX3_keepNow_0 1 rfl rfl)
theorem dX3_keepNow_2 : decode cX3_keepNow 2 = .ok (.iload_n 1, 1) := dk_27 (dk_at dksX3_keepNow_0 2 rfl rfl)
theorem dX3_keepNow_3 : decode cX3_keepNow 3 = .ok (.iconst 3, 1) := dk_6 (dk_at dksX3_keepNow_0 3 rfl rfl)
theorem dX3_keepNow_4 : decode cX3_keepNow 4 = .ok (.if_icmp .ge 21, 3) := dk_162 0 21 (dk_at dksX3_keepNow_0 4 rfl rfl)
theorem dX3_keepNow_7 : decode cX3_keepNow 7 = .ok (.aload_n 0, 1) := dk_42 (dk_at dksX3_keepNow_0 7 rfl rfl)
theorem dX3_keepNow_8 : decode cX3_keepNow 8 = .ok (.getfield 37, 3) := dk_180 0 37 (dk_at dksX3_keepNow_0 8 rfl rfl)
theorem dX3_keepNow_11 : decode cX3_keepNow 11 = .ok (.iload_n 1, 1) := dk_27 (dk_at dksX3_keepNow_0 11 rfl rfl)
theorem dX3_keepNow_12 : decode cX3_keepNow 12 = .ok (.aload_n 0, 1) := dk_42 (dk_at dksX3_keepNow_0 12 rfl rfl)
theorem dX3_keepNow_13 : decode cX3_keepNow 13 = .ok (.getfield 7, 3) := dk_180 0 7 (dk_at dksX3_keepNow_0 13 rfl rfl)
theorem dX3_keepNow_16 : decode cX3_keepNow 16 = .ok (.iload_n 1, 1) := dk_27 (dk_at dksX3_keepNow_0 16 rfl rfl)
theorem dX3_keepNow_17 : decode cX3_keepNow 17 = .ok (.iaload, 1) := dk_46 (dk_at dksX3_keepNow_0 17 rfl rfl)
theorem dX3_keepNow_18 : decode cX3_keepNow 18 = .ok (.iastore, 1) := dk_79 (dk_at dksX3_keepNow_0 18 rfl rfl)
theorem dX3_keepNow_19 : decode cX3_keepNow 19 = .ok (.iinc 1 1, 3) := dk_132 1 1 (dk_at dksX3_keepNow_0 19 rfl rfl)
theorem dX3_keepNow_22 : decode cX3_keepNow 22 = .ok (.goto (-20), 3) := dk_167 255 236 (dk_at dksX3_keepNow_1 0 rfl rfl)
theorem dX3_keepNow_25 : decode cX3_keepNow 25 = .ok (.aload_n 0, 1) := dk_42 (dk_at dksX3_keepNow_1 3 rfl rfl)
theorem dX3_keepNow_26 : decode cX3_keepNow 26 = .ok (.getfield 37, 3) := dk_180 0 37 (dk_at dksX3_keepNow_1 4 rfl rfl)
theorem dX3_keepNow_29 : decode cX3_keepNow 29 = .ok (.iconst 3, 1) := dk_6 (dk_at dksX3_keepNow_1 7 rfl rfl)
theorem dX3_keepNow_30 : decode cX3_keepNow 30 = .ok (.aload_n 0, 1) := dk_42 (dk_at dksX3_keepNow_1 8 rfl rfl)
theorem dX3_keepNow_31 : decode cX3_keepNow 31 = .ok (.getfield 109, 3) := dk_180 0 109 (dk_at dksX3_keepNow_1 9 rfl rfl)
theorem dX3_keepNow_34 : decode cX3_keepNow 34 = .ok (.iastore, 1) := dk_79 (dk_at dksX3_keepNow_1 12 rfl rfl)
theorem dX3_keepNow_35 : decode cX3_keepNow 35 = .ok (.aload_n 0, 1) := dk_42 (dk_at dksX3_keepNow_1 13 rfl rfl)
theorem dX3_keepNow_36 : decode cX3_keepNow 36 = .ok (.getfield 37, 3) := dk_180 0 37 (dk_at dksX3_keepNow_1 14 rfl rfl)
theorem dX3_keepNow_39 : decode cX3_keepNow 39 = .ok (.iconst 4, 1) := dk_7 (dk_at dksX3_keepNow_1 17 rfl rfl)
theorem dX3_keepNow_40 : decode cX3_keepNow 40 = .ok (.aload_n 0, 1) := dk_42 (dk_at dksX3_keepNow_1 18 rfl rfl)
theorem dX3_keepNow_41 : decode cX3_keepNow 41 = .ok (.getfield 113, 3) := dk_180 0 113 (dk_at dksX3_keepNow_1 19 rfl rfl)
theorem dX3_keepNow_44 : decode cX3_keepNow 44 = .ok (.iastore, 1) := dk_79 (dk_at dksX3_keepNow_1 22 rfl rfl)
theorem dX3_keepNow_45 : decode cX3_keepNow 45 = .ok (.aload_n 0, 1) := dk_42 (dk_at dksX3_keepNow_1 23 rfl rfl)
theorem dX3_keepNow_46 : decode cX3_keepNow 46 = .ok (.getfield 37, 3) := dk_180 0 37 (dk_at dksX3_keepNow_2 0 rfl rfl)
theorem dX3_keepNow_49 : decode cX3_keepNow 49 = .ok (.iconst 5, 1) := dk_8 (dk_at dksX3_keepNow_2 3 rfl rfl)
theorem dX3_keepNow_50 : decode cX3_keepNow 50 = .ok (.aload_n 0, 1) := dk_42 (dk_at dksX3_keepNow_2 4 rfl rfl)
theorem dX3_keepNow_51 : decode cX3_keepNow 51 = .ok (.getfield 211, 3) := dk_180 0 211 (dk_at dksX3_keepNow_2 5 rfl rfl)
theorem dX3_keepNow_54 : decode cX3_keepNow 54 = .ok (.iastore, 1) := dk_79 (dk_at dksX3_keepNow_2 8 rfl rfl)
theorem dX3_keepNow_55 : decode cX3_keepNow 55 = .ok (.return_, 1) := dk_177 (dk_at dksX3_keepNow_2 9 rfl rfl)
abbrev cX3_goCrises : ByteArray := prog_5_method_35_code
def yX3_goCrises : MethodName := ⟨RX3, "goCrises", "()V"⟩
def dkwX3_goCrises_6 : List UInt8 := [156, 0, 7, 27, 167, 0, 7, 42, 180, 0, 226, 181, 0, 226, 132, 1, 1, 167, 255, 129, 177]
abbrev dktX3_goCrises_6 : List UInt8 := dkwX3_goCrises_6 ++ []
def dkwX3_goCrises_5 : List UInt8 := [27, 46, 42, 180, 0, 31, 27, 46, 182, 0, 232, 42, 42, 180, 0, 113, 29, 164, 0, 14, 42, 180, 0, 226]
abbrev dktX3_goCrises_5 : List UInt8 := dkwX3_goCrises_5 ++ dktX3_goCrises_6
def dkwX3_goCrises_4 : List UInt8 := [181, 0, 223, 28, 154, 0, 31, 42, 42, 180, 0, 22, 27, 46, 42, 180, 0, 25, 27, 46, 42, 180, 0, 28]
abbrev dktX3_goCrises_4 : List UInt8 := dkwX3_goCrises_4 ++ dktX3_goCrises_5
def dkwX3_goCrises_3 : List UInt8 := [158, 0, 7, 27, 167, 0, 5, 16, 250, 181, 0, 220, 42, 28, 158, 0, 7, 28, 167, 0, 5, 16, 250]
abbrev dktX3_goCrises_3 : List UInt8 := dkwX3_goCrises_3 ++ dktX3_goCrises_4
def dkwX3_goCrises_2 : List UInt8 := [180, 0, 22, 27, 46, 42, 180, 0, 25, 27, 46, 182, 0, 229, 61, 42, 180, 0, 113, 62, 42, 28]
abbrev dktX3_goCrises_2 : List UInt8 := dkwX3_goCrises_2 ++ dktX3_goCrises_3
def dkwX3_goCrises_1 : List UInt8 := [3, 181, 0, 202, 3, 60, 27, 42, 180, 0, 123, 162, 0, 125, 42, 180, 0, 220, 156, 0, 118, 42, 42]
abbrev dktX3_goCrises_1 : List UInt8 := dkwX3_goCrises_1 ++ dktX3_goCrises_2
def dkwX3_goCrises_0 : List UInt8 := [42, 16, 250, 181, 0, 220, 42, 16, 250, 181, 0, 223, 42, 16, 250, 181, 0, 226, 42, 3, 181, 0, 199, 42]
abbrev dktX3_goCrises_0 : List UInt8 := dkwX3_goCrises_0 ++ dktX3_goCrises_1
theorem dksX3_goCrises_0 : cX3_goCrises.data.toList.drop 0 = dktX3_goCrises_0 := by decide +kernel
theorem dksX3_goCrises_1 : cX3_goCrises.data.toList.drop 24 = dktX3_goCrises_1 := dk_seg dksX3_goCrises_0 24 rfl rfl
theorem dksX3_goCrises_2 : cX3_goCrises.data.toList.drop 47 = dktX3_goCrises_2 := dk_seg dksX3_goCrises_1 23 rfl rfl
theorem dksX3_goCrises_3 : cX3_goCrises.data.toList.drop 69 = dktX3_goCrises_3 := dk_seg dksX3_goCrises_2 22 rfl rfl
theorem dksX3_goCrises_4 : cX3_goCrises.data.toList.drop 92 = dktX3_goCrises_4 := dk_seg dksX3_goCrises_3 23 rfl rfl
theorem dksX3_goCrises_5 : cX3_goCrises.data.toList.drop 116 = dktX3_goCrises_5 := dk_seg dksX3_goCrises_4 24 rfl rfl
theorem dksX3_goCrises_6 : cX3_goCrises.data.toList.drop 140 = dktX3_goCrises_6 := dk_seg dksX3_goCrises_5 24 rfl rfl
theorem dX3_goCrises_0 : decode cX3_goCrises 0 = .ok (.aload_n 0, 1) := dk_42 (dk_at dksX3_goCrises_0 0 rfl rfl)
theorem dX3_goCrises_1 : decode cX3_goCrises 1 = .ok (.bipush (-6), 2) := dk_16 250 (dk_at dksX3_goCrises_0 1 rfl rfl)
theorem dX3_goCrises_3 : decode cX3_goCrises 3 = .ok (.putfield 220, 3) := dk_181 0 220 (dk_at dksX3_goCrises_0 3 rfl rfl)
theorem dX3_goCrises_6 : decode cX3_goCrises 6 = .ok (.aload_n 0, 1) := dk_42 (dk_at dksX3_goCrises_0 6 rfl rfl)
theorem dX3_goCrises_7 : decode cX3_goCrises 7 = .ok (.bipush (-6), 2) := dk_16 250 (dk_at dksX3_goCrises_0 7 rfl rfl)
theorem dX3_goCrises_9 : decode cX3_goCrises 9 = .ok (.putfield 223, 3) := dk_181 0 223 (dk_at dksX3_goCrises_0 9 rfl rfl)
theorem dX3_goCrises_12 : decode cX3_goCrises 12 = .ok (.aload_n 0, 1) := dk_42 (dk_at dksX3_goCrises_0 12 rfl rfl)
theorem dX3_goCrises_13 : decode cX3_goCrises 13 = .ok (.bipush (-6), 2) := dk_16 250 (dk_at dksX3_goCrises_0 13 rfl rfl)
theorem dX3_goCrises_15 : decode cX3_goCrises 15 = .ok (.putfield 226, 3) := dk_181 0 226 (dk_at dksX3_goCrises_0 15 rfl rfl)
theorem dX3_goCrises_18 : decode cX3_goCrises 18 = .ok (.aload_n 0, 1) := dk_42 (dk_at dksX3_goCrises_0 18 rfl rfl)
theorem dX3_goCrises_19 : decode cX3_goCrises 19 = .ok (.iconst 0, 1) := dk_3 (dk_at dksX3_goCrises_0 19 rfl rfl)
theorem dX3_goCrises_20 : decode cX3_goCrises 20 = .ok (.putfield 199, 3) := dk_181 0 199 (dk_at dksX3_goCrises_0 20 rfl rfl)
theorem dX3_goCrises_23 : decode cX3_goCrises 23 = .ok (.aload_n 0, 1) := dk_42 (dk_at dksX3_goCrises_0 23 rfl rfl)
theorem dX3_goCrises_24 : decode cX3_goCrises 24 = .ok (.iconst 0, 1) := dk_3 (dk_at dksX3_goCrises_1 0 rfl rfl)
theorem dX3_goCrises_25 : decode cX3_goCrises 25 = .ok (.putfield 202, 3) := dk_181 0 202 (dk_at dksX3_goCrises_1 1 rfl rfl)
theorem dX3_goCrises_28 : decode cX3_goCrises 28 = .ok (.iconst 0, 1) := dk_3 (dk_at dksX3_goCrises_1 4 rfl rfl)
theorem dX3_goCrises_29 : decode cX3_goCrises 29 = .ok (.istore_n 1, 1) := dk_60 (dk_at dksX3_goCrises_1 5 rfl rfl)
theorem dX3_goCrises_30 : decode cX3_goCrises 30 = .ok (.iload_n 1, 1) := dk_27 (dk_at dksX3_goCrises_1 6 rfl rfl)
theorem dX3_goCrises_31 : decode cX3_goCrises 31 = .ok (.aload_n 0, 1) := dk_42 (dk_at dksX3_goCrises_1 7 rfl rfl)
theorem dX3_goCrises_32 : decode cX3_goCrises 32 = .ok (.getfield 123, 3) := dk_180 0 123 (dk_at dksX3_goCrises_1 8 rfl rfl)
theorem dX3_goCrises_35 : decode cX3_goCrises 35 = .ok (.if_icmp .ge 125, 3) := dk_162 0 125 (dk_at dksX3_goCrises_1 11 rfl rfl)
theorem dX3_goCrises_38 : decode cX3_goCrises 38 = .ok (.aload_n 0, 1) := dk_42 (dk_at dksX3_goCrises_1 14 rfl rfl)
theorem dX3_goCrises_39 : decode cX3_goCrises 39 = .ok (.getfield 220, 3) := dk_180 0 220 (dk_at dksX3_goCrises_1 15 rfl rfl)
theorem dX3_goCrises_42 : decode cX3_goCrises 42 = .ok (.ifCond .ge 118, 3) := dk_156 0 118 (dk_at dksX3_goCrises_1 18 rfl rfl)
theorem dX3_goCrises_45 : decode cX3_goCrises 45 = .ok (.aload_n 0, 1) := dk_42 (dk_at dksX3_goCrises_1 21 rfl rfl)
theorem dX3_goCrises_46 : decode cX3_goCrises 46 = .ok (.aload_n 0, 1) := dk_42 (dk_at dksX3_goCrises_1 22 rfl rfl)
theorem dX3_goCrises_47 : decode cX3_goCrises 47 = .ok (.getfield 22, 3) := dk_180 0 22 (dk_at dksX3_goCrises_2 0 rfl rfl)
theorem dX3_goCrises_50 : decode cX3_goCrises 50 = .ok (.iload_n 1, 1) := dk_27 (dk_at dksX3_goCrises_2 3 rfl rfl)
theorem dX3_goCrises_51 : decode cX3_goCrises 51 = .ok (.iaload, 1) := dk_46 (dk_at dksX3_goCrises_2 4 rfl rfl)
theorem dX3_goCrises_52 : decode cX3_goCrises 52 = .ok (.aload_n 0, 1) := dk_42 (dk_at dksX3_goCrises_2 5 rfl rfl)
theorem dX3_goCrises_53 : decode cX3_goCrises 53 = .ok (.getfield 25, 3) := dk_180 0 25 (dk_at dksX3_goCrises_2 6 rfl rfl)
theorem dX3_goCrises_56 : decode cX3_goCrises 56 = .ok (.iload_n 1, 1) := dk_27 (dk_at dksX3_goCrises_2 9 rfl rfl)
theorem dX3_goCrises_57 : decode cX3_goCrises 57 = .ok (.iaload, 1) := dk_46 (dk_at dksX3_goCrises_2 10 rfl rfl)
theorem dX3_goCrises_58 : decode cX3_goCrises 58 = .ok (.invokevirtual 229, 3) := dk_182 0 229 (dk_at dksX3_goCrises_2 11 rfl rfl)
theorem dX3_goCrises_61 : decode cX3_goCrises 61 = .ok (.istore_n 2, 1) := dk_61 (dk_at dksX3_goCrises_2 14 rfl rfl)
theorem dX3_goCrises_62 : decode cX3_goCrises 62 = .ok (.aload_n 0, 1) := dk_42 (dk_at dksX3_goCrises_2 15 rfl rfl)
theorem dX3_goCrises_63 : decode cX3_goCrises 63 = .ok (.getfield 113, 3) := dk_180 0 113 (dk_at dksX3_goCrises_2 16 rfl rfl)
theorem dX3_goCrises_66 : decode cX3_goCrises 66 = .ok (.istore_n 3, 1) := dk_62 (dk_at dksX3_goCrises_2 19 rfl rfl)
theorem dX3_goCrises_67 : decode cX3_goCrises 67 = .ok (.aload_n 0, 1) := dk_42 (dk_at dksX3_goCrises_2 20 rfl rfl)
theorem dX3_goCrises_68 : decode cX3_goCrises 68 = .ok (.iload_n 2, 1) := dk_28 (dk_at dksX3_goCrises_2 21 rfl rfl)
theorem dX3_goCrises_69 : decode cX3_goCrises 69 = .ok (.ifCond .le 7, 3) := dk_158 0 7 (dk_at dksX3_goCrises_3 0 rfl rfl)
theorem dX3_goCrises_72 : decode cX3_goCrises 72 = .ok (.iload_n 1, 1) := dk_27 (dk_at dksX3_goCrises_3 3 rfl rfl)
theorem dX3_goCrises_73 : decode cX3_goCrises 73 = .ok (.goto 5, 3) := dk_167 0 5 (dk_at dksX3_goCrises_3 4 rfl rfl)
theorem dX3_goCrises_76 : decode cX3_goCrises 76 = .ok (.bipush (-6), 2) := dk_16 250 (dk_at dksX3_goCrises_3 7 rfl rfl)
theorem dX3_goCrises_78 : decode cX3_goCrises 78 = .ok (.putfield 220, 3) := dk_181 0 220 (dk_at dksX3_goCrises_3 9 rfl rfl)
theorem dX3_goCrises_81 : decode cX3_goCrises 81 = .ok (.aload_n 0, 1) := dk_42 (dk_at dksX3_goCrises_3 12 rfl rfl)
theorem dX3_goCrises_82 : decode cX3_goCrises 82 = .ok (.iload_n 2, 1) := dk_28 (dk_at dksX3_goCrises_3 13 rfl rfl)
theorem dX3_goCrises_83 : decode cX3_goCrises 83 = .ok (.ifCond .le 7, 3) := dk_158 0 7 (dk_at dksX3_goCrises_3 14 rfl rfl)
theorem dX3_goCrises_86 : decode cX3_goCrises 86 = .ok (.iload_n 2, 1) := dk_28 (dk_at dksX3_goCrises_3 17 rfl rfl)
theorem dX3_goCrises_87 : decode cX3_goCrises 87 = .ok (.goto 5, 3) := dk_167 0 5 (dk_at dksX3_goCrises_3 18 rfl rfl)
theorem dX3_goCrises_90 : decode cX3_goCrises 90 = .ok (.bipush (-6), 2) := dk_16 250 (dk_at dksX3_goCrises_3 21 rfl rfl)
theorem dX3_goCrises_92 : decode cX3_goCrises 92 = .ok (.putfield 223, 3) := dk_181 0 223 (dk_at dksX3_goCrises_4 0 rfl rfl)
theorem dX3_goCrises_95 : decode cX3_goCrises 95 = .ok (.iload_n 2, 1) := dk_28 (dk_at dksX3_goCrises_4 3 rfl rfl)
theorem dX3_goCrises_96 : decode cX3_goCrises 96 = .ok (.ifCond .ne 31, 3) := dk_154 0 31 (dk_at dksX3_goCrises_4 4 rfl rfl)
theorem dX3_goCrises_99 : decode cX3_goCrises 99 = .ok (.aload_n 0, 1) := dk_42 (dk_at dksX3_goCrises_4 7 rfl rfl)
theorem dX3_goCrises_100 : decode cX3_goCrises 100 = .ok (.aload_n 0, 1) := dk_42 (dk_at dksX3_goCrises_4 8 rfl rfl)
theorem dX3_goCrises_101 : decode cX3_goCrises 101 = .ok (.getfield 22, 3) := dk_180 0 22 (dk_at dksX3_goCrises_4 9 rfl rfl)
theorem dX3_goCrises_104 : decode cX3_goCrises 104 = .ok (.iload_n 1, 1) := dk_27 (dk_at dksX3_goCrises_4 12 rfl rfl)
theorem dX3_goCrises_105 : decode cX3_goCrises 105 = .ok (.iaload, 1) := dk_46 (dk_at dksX3_goCrises_4 13 rfl rfl)
theorem dX3_goCrises_106 : decode cX3_goCrises 106 = .ok (.aload_n 0, 1) := dk_42 (dk_at dksX3_goCrises_4 14 rfl rfl)
theorem dX3_goCrises_107 : decode cX3_goCrises 107 = .ok (.getfield 25, 3) := dk_180 0 25 (dk_at dksX3_goCrises_4 15 rfl rfl)
theorem dX3_goCrises_110 : decode cX3_goCrises 110 = .ok (.iload_n 1, 1) := dk_27 (dk_at dksX3_goCrises_4 18 rfl rfl)
theorem dX3_goCrises_111 : decode cX3_goCrises 111 = .ok (.iaload, 1) := dk_46 (dk_at dksX3_goCrises_4 19 rfl rfl)
theorem dX3_goCrises_112 : decode cX3_goCrises 112 = .ok (.aload_n 0, 1) := dk_42 (dk_at dksX3_goCrises_4 20 rfl rfl)
theorem dX3_goCrises_113 : decode cX3_goCrises 113 = .ok (.getfield 28, 3) := dk_180 0 28 (dk_at dksX3_goCrises_4 21 rfl rfl)
theorem dX3_goCrises_116 : decode cX3_goCrises 116 = .ok (.iload_n 1, 1) := dk_27 (dk_at dksX3_goCrises_5 0 rfl rfl)
theorem dX3_goCrises_117 : decode cX3_goCrises 117 = .ok (.iaload, 1) := dk_46 (dk_at dksX3_goCrises_5 1 rfl rfl)
theorem dX3_goCrises_118 : decode cX3_goCrises 118 = .ok (.aload_n 0, 1) := dk_42 (dk_at dksX3_goCrises_5 2 rfl rfl)
theorem dX3_goCrises_119 : decode cX3_goCrises 119 = .ok (.getfield 31, 3) := dk_180 0 31 (dk_at dksX3_goCrises_5 3 rfl rfl)
theorem dX3_goCrises_122 : decode cX3_goCrises 122 = .ok (.iload_n 1, 1) := dk_27 (dk_at dksX3_goCrises_5 6 rfl rfl)
theorem dX3_goCrises_123 : decode cX3_goCrises 123 = .ok (.iaload, 1) := dk_46 (dk_at dksX3_goCrises_5 7 rfl rfl)
theorem dX3_goCrises_124 : decode cX3_goCrises 124 = .ok (.invokevirtual 232, 3) := dk_182 0 232 (dk_at dksX3_goCrises_5 8 rfl rfl)
theorem dX3_goCrises_127 : decode cX3_goCrises 127 = .ok (.aload_n 0, 1) := dk_42 (dk_at dksX3_goCrises_5 11 rfl rfl)
theorem dX3_goCrises_128 : decode cX3_goCrises 128 = .ok (.aload_n 0, 1) := dk_42 (dk_at dksX3_goCrises_5 12 rfl rfl)
theorem dX3_goCrises_129 : decode cX3_goCrises 129 = .ok (.getfield 113, 3) := dk_180 0 113 (dk_at dksX3_goCrises_5 13 rfl rfl)
theorem dX3_goCrises_132 : decode cX3_goCrises 132 = .ok (.iload_n 3, 1) := dk_29 (dk_at dksX3_goCrises_5 16 rfl rfl)
theorem dX3_goCrises_133 : decode cX3_goCrises 133 = .ok (.if_icmp .le 14, 3) := dk_164 0 14 (dk_at dksX3_goCrises_5 17 rfl rfl)
theorem dX3_goCrises_136 : decode cX3_goCrises 136 = .ok (.aload_n 0, 1) := dk_42 (dk_at dksX3_goCrises_5 20 rfl rfl)
theorem dX3_goCrises_137 : decode cX3_goCrises 137 = .ok (.getfield 226, 3) := dk_180 0 226 (dk_at dksX3_goCrises_5 21 rfl rfl)
theorem dX3_goCrises_140 : decode cX3_goCrises 140 = .ok (.ifCond .ge 7, 3) := dk_156 0 7 (dk_at dksX3_goCrises_6 0 rfl rfl)
theorem dX3_goCrises_143 : decode cX3_goCrises 143 = .ok (.iload_n 1, 1) := dk_27 (dk_at dksX3_goCrises_6 3 rfl rfl)
theorem dX3_goCrises_144 : decode cX3_goCrises 144 = .ok (.goto 7, 3) := dk_167 0 7 (dk_at dksX3_goCrises_6 4 rfl rfl)
theorem dX3_goCrises_147 : decode cX3_goCrises 147 = .ok (.aload_n 0, 1) := dk_42 (dk_at dksX3_goCrises_6 7 rfl rfl)
theorem dX3_goCrises_148 : decode cX3_goCrises 148 = .ok (.getfield 226, 3) := dk_180 0 226 (dk_at dksX3_goCrises_6 8 rfl rfl)
theorem dX3_goCrises_151 : decode cX3_goCrises 151 = .ok (.putfield 226, 3) := dk_181 0 226 (dk_at dksX3_goCrises_6 11 rfl rfl)
theorem dX3_goCrises_154 : decode cX3_goCrises 154 = .ok (.iinc 1 1, 3) := dk_132 1 1 (dk_at dksX3_goCrises_6 14 rfl rfl)
theorem dX3_goCrises_157 : decode cX3_goCrises 157 = .ok (.goto (-127), 3) := dk_167 255 129 (dk_at dksX3_goCrises_6 17 rfl rfl)
theorem dX3_goCrises_160 : decode cX3_goCrises 160 = .ok (.return_, 1) := dk_177 (dk_at dksX3_goCrises_6 20 rfl rfl)
abbrev cX3_whyNot : ByteArray := prog_5_method_31_code
def yX3_whyNot : MethodName := ⟨RX3, "whyNot", "(II)I"⟩
def dkwX3_whyNot_4 : List UInt8 := [180, 0, 211, 16, 99, 160, 0, 7, 6, 167, 0, 4, 3, 172, 3, 172]
abbrev dktX3_whyNot_4 : List UInt8 := dkwX3_whyNot_4 ++ []
def dkwX3_whyNot_3 : List UInt8 := [4, 167, 0, 19, 42, 28, 184, 0, 69, 182, 0, 104, 155, 0, 7, 5, 167, 0, 4, 3, 172, 42]
abbrev dktX3_whyNot_3 : List UInt8 := dkwX3_whyNot_3 ++ dktX3_whyNot_4
def dkwX3_whyNot_2 : List UInt8 := [42, 180, 0, 7, 28, 46, 156, 0, 7, 4, 167, 0, 4, 3, 172, 42, 180, 0, 7, 28, 46, 155, 0, 7]
abbrev dktX3_whyNot_2 : List UInt8 := dkwX3_whyNot_2 ++ dktX3_whyNot_3
def dkwX3_whyNot_1 : List UInt8 := [170, 0, 0, 0, 0, 0, 91, 0, 0, 0, 0, 0, 0, 0, 3, 0, 0, 0, 31, 0, 0, 0, 46, 0, 0, 0, 91, 0, 0, 0, 76]
abbrev dktX3_whyNot_1 : List UInt8 := dkwX3_whyNot_1 ++ dktX3_whyNot_2
def dkwX3_whyNot_0 : List UInt8 := [27]
abbrev dktX3_whyNot_0 : List UInt8 := dkwX3_whyNot_0 ++ dktX3_whyNot_1
theorem dksX3_whyNot_0 : cX3_whyNot.data.toList.drop 0 = dktX3_whyNot_0 := by decide +kernel
theorem dksX3_whyNot_1 : cX3_whyNot.data.toList.drop 1 = dktX3_whyNot_1 := dk_seg dksX3_whyNot_0 1 rfl rfl
theorem dksX3_whyNot_2 : cX3_whyNot.data.toList.drop 32 = dktX3_whyNot_2 := dk_seg dksX3_whyNot_1 31 rfl rfl
theorem dksX3_whyNot_3 : cX3_whyNot.data.toList.drop 56 = dktX3_whyNot_3 := dk_seg dksX3_whyNot_2 24 rfl rfl
theorem dksX3_whyNot_4 : cX3_whyNot.data.toList.drop 78 = dktX3_whyNot_4 := dk_seg dksX3_whyNot_3 22 rfl rfl
theorem dX3_whyNot_0 : decode cX3_whyNot 0 = .ok (.iload_n 1, 1) := dk_27 (dk_at dksX3_whyNot_0 0 rfl rfl)
theorem dX3_whyNot_1 : decode cX3_whyNot 1 = .ok (.tableswitch 91 0 3 #[31, 46, 91, 76], 31) := by decide +kernel
theorem dX3_whyNot_32 : decode cX3_whyNot 32 = .ok (.aload_n 0, 1) := dk_42 (dk_at dksX3_whyNot_2 0 rfl rfl)
theorem dX3_whyNot_33 : decode cX3_whyNot 33 = .ok (.getfield 7, 3) := dk_180 0 7 (dk_at dksX3_whyNot_2 1 rfl rfl)
theorem dX3_whyNot_36 : decode cX3_whyNot 36 = .ok (.iload_n 2, 1) := dk_28 (dk_at dksX3_whyNot_2 4 rfl rfl)
theorem dX3_whyNot_37 : decode cX3_whyNot 37 = .ok (.iaload, 1) := dk_46 (dk_at dksX3_whyNot_2 5 rfl rfl)
theorem dX3_whyNot_38 : decode cX3_whyNot 38 = .ok (.ifCond .ge 7, 3) := dk_156 0 7 (dk_at dksX3_whyNot_2 6 rfl rfl)
theorem dX3_whyNot_41 : decode cX3_whyNot 41 = .ok (.iconst 1, 1) := dk_4 (dk_at dksX3_whyNot_2 9 rfl rfl)
theorem dX3_whyNot_42 : decode cX3_whyNot 42 = .ok (.goto 4, 3) := dk_167 0 4 (dk_at dksX3_whyNot_2 10 rfl rfl)
theorem dX3_whyNot_45 : decode cX3_whyNot 45 = .ok (.iconst 0, 1) := dk_3 (dk_at dksX3_whyNot_2 13 rfl rfl)
theorem dX3_whyNot_46 : decode cX3_whyNot 46 = .ok (.ireturn, 1) := dk_172 (dk_at dksX3_whyNot_2 14 rfl rfl)
theorem dX3_whyNot_47 : decode cX3_whyNot 47 = .ok (.aload_n 0, 1) := dk_42 (dk_at dksX3_whyNot_2 15 rfl rfl)
theorem dX3_whyNot_48 : decode cX3_whyNot 48 = .ok (.getfield 7, 3) := dk_180 0 7 (dk_at dksX3_whyNot_2 16 rfl rfl)
theorem dX3_whyNot_51 : decode cX3_whyNot 51 = .ok (.iload_n 2, 1) := dk_28 (dk_at dksX3_whyNot_2 19 rfl rfl)
theorem dX3_whyNot_52 : decode cX3_whyNot 52 = .ok (.iaload, 1) := dk_46 (dk_at dksX3_whyNot_2 20 rfl rfl)
theorem dX3_whyNot_53 : decode cX3_whyNot 53 = .ok (.ifCond .lt 7, 3) := dk_155 0 7 (dk_at dksX3_whyNot_2 21 rfl rfl)
theorem dX3_whyNot_56 : decode cX3_whyNot 56 = .ok (.iconst 1, 1) := dk_4 (dk_at dksX3_whyNot_3 0 rfl rfl)
theorem dX3_whyNot_57 : decode cX3_whyNot 57 = .ok (.goto 19, 3) := dk_167 0 19 (dk_at dksX3_whyNot_3 1 rfl rfl)
theorem dX3_whyNot_60 : decode cX3_whyNot 60 = .ok (.aload_n 0, 1) := dk_42 (dk_at dksX3_whyNot_3 4 rfl rfl)
theorem dX3_whyNot_61 : decode cX3_whyNot 61 = .ok (.iload_n 2, 1) := dk_28 (dk_at dksX3_whyNot_3 5 rfl rfl)
theorem dX3_whyNot_62 : decode cX3_whyNot 62 = .ok (.invokestatic 69, 3) := dk_184 0 69 (dk_at dksX3_whyNot_3 6 rfl rfl)
theorem dX3_whyNot_65 : decode cX3_whyNot 65 = .ok (.invokevirtual 104, 3) := dk_182 0 104 (dk_at dksX3_whyNot_3 9 rfl rfl)
theorem dX3_whyNot_68 : decode cX3_whyNot 68 = .ok (.ifCond .lt 7, 3) := dk_155 0 7 (dk_at dksX3_whyNot_3 12 rfl rfl)
theorem dX3_whyNot_71 : decode cX3_whyNot 71 = .ok (.iconst 2, 1) := dk_5 (dk_at dksX3_whyNot_3 15 rfl rfl)
theorem dX3_whyNot_72 : decode cX3_whyNot 72 = .ok (.goto 4, 3) := dk_167 0 4 (dk_at dksX3_whyNot_3 16 rfl rfl)
theorem dX3_whyNot_75 : decode cX3_whyNot 75 = .ok (.iconst 0, 1) := dk_3 (dk_at dksX3_whyNot_3 19 rfl rfl)
theorem dX3_whyNot_76 : decode cX3_whyNot 76 = .ok (.ireturn, 1) := dk_172 (dk_at dksX3_whyNot_3 20 rfl rfl)
theorem dX3_whyNot_77 : decode cX3_whyNot 77 = .ok (.aload_n 0, 1) := dk_42 (dk_at dksX3_whyNot_3 21 rfl rfl)
theorem dX3_whyNot_78 : decode cX3_whyNot 78 = .ok (.getfield 211, 3) := dk_180 0 211 (dk_at dksX3_whyNot_4 0 rfl rfl)
theorem dX3_whyNot_81 : decode cX3_whyNot 81 = .ok (.bipush 99, 2) := dk_16 99 (dk_at dksX3_whyNot_4 3 rfl rfl)
theorem dX3_whyNot_83 : decode cX3_whyNot 83 = .ok (.if_icmp .ne 7, 3) := dk_160 0 7 (dk_at dksX3_whyNot_4 5 rfl rfl)
theorem dX3_whyNot_86 : decode cX3_whyNot 86 = .ok (.iconst 3, 1) := dk_6 (dk_at dksX3_whyNot_4 8 rfl rfl)
theorem dX3_whyNot_87 : decode cX3_whyNot 87 = .ok (.goto 4, 3) := dk_167 0 4 (dk_at dksX3_whyNot_4 9 rfl rfl)
theorem dX3_whyNot_90 : decode cX3_whyNot 90 = .ok (.iconst 0, 1) := dk_3 (dk_at dksX3_whyNot_4 12 rfl rfl)
theorem dX3_whyNot_91 : decode cX3_whyNot 91 = .ok (.ireturn, 1) := dk_172 (dk_at dksX3_whyNot_4 13 rfl rfl)
theorem dX3_whyNot_92 : decode cX3_whyNot 92 = .ok (.iconst 0, 1) := dk_3 (dk_at dksX3_whyNot_4 14 rfl rfl)
theorem dX3_whyNot_93 : decode cX3_whyNot 93 = .ok (.ireturn, 1) := dk_172 (dk_at dksX3_whyNot_4 15 rfl rfl)
abbrev cX3_happen : ByteArray := prog_5_method_32_code
def yX3_happen : MethodName := ⟨RX3, "happen", "(IIII)V"⟩
def dkwX3_happen_3 : List UInt8 := [42, 182, 0, 217, 167, 0, 13, 42, 89, 180, 0, 211, 4, 96, 181, 0, 211, 177]
abbrev dktX3_happen_3 : List UInt8 := dkwX3_happen_3 ++ []
def dkwX3_happen_2 : List UInt8 := [42, 28, 29, 21, 4, 182, 0, 214, 167, 0, 33, 42, 180, 0, 7, 28, 28, 184, 0, 69, 79, 167, 0, 20]
abbrev dktX3_happen_2 : List UInt8 := dkwX3_happen_2 ++ dktX3_happen_3
def dkwX3_happen_1 : List UInt8 := [170, 0, 0, 0, 0, 0, 58, 0, 0, 0, 0, 0, 0, 0, 2, 0, 0, 0, 27, 0, 0, 0, 38, 0, 0, 0, 51]
abbrev dktX3_happen_1 : List UInt8 := dkwX3_happen_1 ++ dktX3_happen_2
def dkwX3_happen_0 : List UInt8 := [27]
abbrev dktX3_happen_0 : List UInt8 := dkwX3_happen_0 ++ dktX3_happen_1
theorem dksX3_happen_0 : cX3_happen.data.toList.drop 0 = dktX3_happen_0 := by decide +kernel
theorem dksX3_happen_1 : cX3_happen.data.toList.drop 1 = dktX3_happen_1 := dk_seg dksX3_happen_0 1 rfl rfl
theorem dksX3_happen_2 : cX3_happen.data.toList.drop 28 = dktX3_happen_2 := dk_seg dksX3_happen_1 27 rfl rfl
theorem dksX3_happen_3 : cX3_happen.data.toList.drop 52 = dktX3_happen_3 := dk_seg dksX3_happen_2 24 rfl rfl
theorem dX3_happen_0 : decode cX3_happen 0 = .ok (.iload_n 1, 1) := dk_27 (dk_at dksX3_happen_0 0 rfl rfl)
theorem dX3_happen_1 : decode cX3_happen 1 = .ok (.tableswitch 58 0 2 #[27, 38, 51], 27) := by decide +kernel
theorem dX3_happen_28 : decode cX3_happen 28 = .ok (.aload_n 0, 1) := dk_42 (dk_at dksX3_happen_2 0 rfl rfl)
theorem dX3_happen_29 : decode cX3_happen 29 = .ok (.iload_n 2, 1) := dk_28 (dk_at dksX3_happen_2 1 rfl rfl)
theorem dX3_happen_30 : decode cX3_happen 30 = .ok (.iload_n 3, 1) := dk_29 (dk_at dksX3_happen_2 2 rfl rfl)
theorem dX3_happen_31 : decode cX3_happen 31 = .ok (.iload 4, 2) := dk_21 4 (dk_at dksX3_happen_2 3 rfl rfl)
theorem dX3_happen_33 : decode cX3_happen 33 = .ok (.invokevirtual 214, 3) := dk_182 0 214 (dk_at dksX3_happen_2 5 rfl rfl)
theorem dX3_happen_36 : decode cX3_happen 36 = .ok (.goto 33, 3) := dk_167 0 33 (dk_at dksX3_happen_2 8 rfl rfl)
theorem dX3_happen_39 : decode cX3_happen 39 = .ok (.aload_n 0, 1) := dk_42 (dk_at dksX3_happen_2 11 rfl rfl)
theorem dX3_happen_40 : decode cX3_happen 40 = .ok (.getfield 7, 3) := dk_180 0 7 (dk_at dksX3_happen_2 12 rfl rfl)
theorem dX3_happen_43 : decode cX3_happen 43 = .ok (.iload_n 2, 1) := dk_28 (dk_at dksX3_happen_2 15 rfl rfl)
theorem dX3_happen_44 : decode cX3_happen 44 = .ok (.iload_n 2, 1) := dk_28 (dk_at dksX3_happen_2 16 rfl rfl)
theorem dX3_happen_45 : decode cX3_happen 45 = .ok (.invokestatic 69, 3) := dk_184 0 69 (dk_at dksX3_happen_2 17 rfl rfl)
theorem dX3_happen_48 : decode cX3_happen 48 = .ok (.iastore, 1) := dk_79 (dk_at dksX3_happen_2 20 rfl rfl)
theorem dX3_happen_49 : decode cX3_happen 49 = .ok (.goto 20, 3) := dk_167 0 20 (dk_at dksX3_happen_2 21 rfl rfl)
theorem dX3_happen_52 : decode cX3_happen 52 = .ok (.aload_n 0, 1) := dk_42 (dk_at dksX3_happen_3 0 rfl rfl)
theorem dX3_happen_53 : decode cX3_happen 53 = .ok (.invokevirtual 217, 3) := dk_182 0 217 (dk_at dksX3_happen_3 1 rfl rfl)
theorem dX3_happen_56 : decode cX3_happen 56 = .ok (.goto 13, 3) := dk_167 0 13 (dk_at dksX3_happen_3 4 rfl rfl)
theorem dX3_happen_59 : decode cX3_happen 59 = .ok (.aload_n 0, 1) := dk_42 (dk_at dksX3_happen_3 7 rfl rfl)
theorem dX3_happen_60 : decode cX3_happen 60 = .ok (.dup, 1) := dk_89 (dk_at dksX3_happen_3 8 rfl rfl)
theorem dX3_happen_61 : decode cX3_happen 61 = .ok (.getfield 211, 3) := dk_180 0 211 (dk_at dksX3_happen_3 9 rfl rfl)
theorem dX3_happen_64 : decode cX3_happen 64 = .ok (.iconst 1, 1) := dk_4 (dk_at dksX3_happen_3 12 rfl rfl)
theorem dX3_happen_65 : decode cX3_happen 65 = .ok (.iadd, 1) := dk_96 (dk_at dksX3_happen_3 13 rfl rfl)
theorem dX3_happen_66 : decode cX3_happen 66 = .ok (.putfield 211, 3) := dk_181 0 211 (dk_at dksX3_happen_3 14 rfl rfl)
theorem dX3_happen_69 : decode cX3_happen 69 = .ok (.return_, 1) := dk_177 (dk_at dksX3_happen_3 17 rfl rfl)
abbrev cX3_stroke : ByteArray := prog_5_method_27_code
def yX3_stroke : MethodName := ⟨RX3, "stroke", "(III)V"⟩
def dkwX3_stroke_5 : List UInt8 := [180, 0, 154, 96, 181, 0, 199, 42, 89, 180, 0, 202, 42, 180, 0, 160, 96, 181, 0, 202, 177]
abbrev dktX3_stroke_5 : List UInt8 := dkwX3_stroke_5 ++ []
def dkwX3_stroke_4 : List UInt8 := [42, 180, 0, 163, 154, 0, 7, 4, 167, 0, 4, 3, 96, 181, 0, 113, 42, 89, 180, 0, 199, 42]
abbrev dktX3_stroke_4 : List UInt8 := dkwX3_stroke_4 ++ dktX3_stroke_5
def dkwX3_stroke_3 : List UInt8 := [160, 0, 7, 4, 167, 0, 4, 3, 96, 181, 0, 113, 42, 89, 180, 0, 113, 42, 180, 0, 154, 158, 0, 14]
abbrev dktX3_stroke_3 : List UInt8 := dkwX3_stroke_3 ++ dktX3_stroke_4
def dkwX3_stroke_2 : List UInt8 := [159, 0, 7, 6, 167, 0, 4, 3, 96, 181, 0, 109, 42, 89, 180, 0, 113, 42, 180, 0, 188, 27]
abbrev dktX3_stroke_2 : List UInt8 := dkwX3_stroke_2 ++ dktX3_stroke_3
def dkwX3_stroke_1 : List UInt8 := [3, 96, 181, 0, 109, 42, 89, 180, 0, 109, 42, 180, 0, 188, 155, 0, 15, 42, 180, 0, 188, 27]
abbrev dktX3_stroke_1 : List UInt8 := dkwX3_stroke_1 ++ dktX3_stroke_2
def dkwX3_stroke_0 : List UInt8 := [42, 27, 28, 29, 182, 0, 195, 42, 89, 180, 0, 109, 42, 180, 0, 154, 4, 164, 0, 7, 5, 167, 0, 4]
abbrev dktX3_stroke_0 : List UInt8 := dkwX3_stroke_0 ++ dktX3_stroke_1
theorem dksX3_stroke_0 : cX3_stroke.data.toList.drop 0 = dktX3_stroke_0 := by decide +kernel
theorem dksX3_stroke_1 : cX3_stroke.data.toList.drop 24 = dktX3_stroke_1 := dk_seg dksX3_stroke_0 24 rfl rfl
theorem dksX3_stroke_2 : cX3_stroke.data.toList.drop 46 = dktX3_stroke_2 := dk_seg dksX3_stroke_1 22 rfl rfl
theorem dksX3_stroke_3 : cX3_stroke.data.toList.drop 68 = dktX3_stroke_3 := dk_seg dksX3_stroke_2 22 rfl rfl
theorem dksX3_stroke_4 : cX3_stroke.data.toList.drop 92 = dktX3_stroke_4 := dk_seg dksX3_stroke_3 24 rfl rfl
theorem dksX3_stroke_5 : cX3_stroke.data.toList.drop 114 = dktX3_stroke_5 := dk_seg dksX3_stroke_4 22 rfl rfl
theorem dX3_stroke_0 : decode cX3_stroke 0 = .ok (.aload_n 0, 1) := dk_42 (dk_at dksX3_stroke_0 0 rfl rfl)
theorem dX3_stroke_1 : decode cX3_stroke 1 = .ok (.iload_n 1, 1) := dk_27 (dk_at dksX3_stroke_0 1 rfl rfl)
theorem dX3_stroke_2 : decode cX3_stroke 2 = .ok (.iload_n 2, 1) := dk_28 (dk_at dksX3_stroke_0 2 rfl rfl)
theorem dX3_stroke_3 : decode cX3_stroke 3 = .ok (.iload_n 3, 1) := dk_29 (dk_at dksX3_stroke_0 3 rfl rfl)
theorem dX3_stroke_4 : decode cX3_stroke 4 = .ok (.invokevirtual 195, 3) := dk_182 0 195 (dk_at dksX3_stroke_0 4 rfl rfl)
theorem dX3_stroke_7 : decode cX3_stroke 7 = .ok (.aload_n 0, 1) := dk_42 (dk_at dksX3_stroke_0 7 rfl rfl)
theorem dX3_stroke_8 : decode cX3_stroke 8 = .ok (.dup, 1) := dk_89 (dk_at dksX3_stroke_0 8 rfl rfl)
theorem dX3_stroke_9 : decode cX3_stroke 9 = .ok (.getfield 109, 3) := dk_180 0 109 (dk_at dksX3_stroke_0 9 rfl rfl)
theorem dX3_stroke_12 : decode cX3_stroke 12 = .ok (.aload_n 0, 1) := dk_42 (dk_at dksX3_stroke_0 12 rfl rfl)
theorem dX3_stroke_13 : decode cX3_stroke 13 = .ok (.getfield 154, 3) := dk_180 0 154 (dk_at dksX3_stroke_0 13 rfl rfl)
theorem dX3_stroke_16 : decode cX3_stroke 16 = .ok (.iconst 1, 1) := dk_4 (dk_at dksX3_stroke_0 16 rfl rfl)
theorem dX3_stroke_17 : decode cX3_stroke 17 = .ok (.if_icmp .le 7, 3) := dk_164 0 7 (dk_at dksX3_stroke_0 17 rfl rfl)
theorem dX3_stroke_20 : decode cX3_stroke 20 = .ok (.iconst 2, 1) := dk_5 (dk_at dksX3_stroke_0 20 rfl rfl)
theorem dX3_stroke_21 : decode cX3_stroke 21 = .ok (.goto 4, 3) := dk_167 0 4 (dk_at dksX3_stroke_0 21 rfl rfl)
theorem dX3_stroke_24 : decode cX3_stroke 24 = .ok (.iconst 0, 1) := dk_3 (dk_at dksX3_stroke_1 0 rfl rfl)
theorem dX3_stroke_25 : decode cX3_stroke 25 = .ok (.iadd, 1) := dk_96 (dk_at dksX3_stroke_1 1 rfl rfl)
theorem dX3_stroke_26 : decode cX3_stroke 26 = .ok (.putfield 109, 3) := dk_181 0 109 (dk_at dksX3_stroke_1 2 rfl rfl)
theorem dX3_stroke_29 : decode cX3_stroke 29 = .ok (.aload_n 0, 1) := dk_42 (dk_at dksX3_stroke_1 5 rfl rfl)
theorem dX3_stroke_30 : decode cX3_stroke 30 = .ok (.dup, 1) := dk_89 (dk_at dksX3_stroke_1 6 rfl rfl)
theorem dX3_stroke_31 : decode cX3_stroke 31 = .ok (.getfield 109, 3) := dk_180 0 109 (dk_at dksX3_stroke_1 7 rfl rfl)
theorem dX3_stroke_34 : decode cX3_stroke 34 = .ok (.aload_n 0, 1) := dk_42 (dk_at dksX3_stroke_1 10 rfl rfl)
theorem dX3_stroke_35 : decode cX3_stroke 35 = .ok (.getfield 188, 3) := dk_180 0 188 (dk_at dksX3_stroke_1 11 rfl rfl)
theorem dX3_stroke_38 : decode cX3_stroke 38 = .ok (.ifCond .lt 15, 3) := dk_155 0 15 (dk_at dksX3_stroke_1 14 rfl rfl)
theorem dX3_stroke_41 : decode cX3_stroke 41 = .ok (.aload_n 0, 1) := dk_42 (dk_at dksX3_stroke_1 17 rfl rfl)
theorem dX3_stroke_42 : decode cX3_stroke 42 = .ok (.getfield 188, 3) := dk_180 0 188 (dk_at dksX3_stroke_1 18 rfl rfl)
theorem dX3_stroke_45 : decode cX3_stroke 45 = .ok (.iload_n 1, 1) := dk_27 (dk_at dksX3_stroke_1 21 rfl rfl)
theorem dX3_stroke_46 : decode cX3_stroke 46 = .ok (.if_icmp .eq 7, 3) := dk_159 0 7 (dk_at dksX3_stroke_2 0 rfl rfl)
theorem dX3_stroke_49 : decode cX3_stroke 49 = .ok (.iconst 3, 1) := dk_6 (dk_at dksX3_stroke_2 3 rfl rfl)
theorem dX3_stroke_50 : decode cX3_stroke 50 = .ok (.goto 4, 3) := dk_167 0 4 (dk_at dksX3_stroke_2 4 rfl rfl)
theorem dX3_stroke_53 : decode cX3_stroke 53 = .ok (.iconst 0, 1) := dk_3 (dk_at dksX3_stroke_2 7 rfl rfl)
theorem dX3_stroke_54 : decode cX3_stroke 54 = .ok (.iadd, 1) := dk_96 (dk_at dksX3_stroke_2 8 rfl rfl)
theorem dX3_stroke_55 : decode cX3_stroke 55 = .ok (.putfield 109, 3) := dk_181 0 109 (dk_at dksX3_stroke_2 9 rfl rfl)
theorem dX3_stroke_58 : decode cX3_stroke 58 = .ok (.aload_n 0, 1) := dk_42 (dk_at dksX3_stroke_2 12 rfl rfl)
theorem dX3_stroke_59 : decode cX3_stroke 59 = .ok (.dup, 1) := dk_89 (dk_at dksX3_stroke_2 13 rfl rfl)
theorem dX3_stroke_60 : decode cX3_stroke 60 = .ok (.getfield 113, 3) := dk_180 0 113 (dk_at dksX3_stroke_2 14 rfl rfl)
theorem dX3_stroke_63 : decode cX3_stroke 63 = .ok (.aload_n 0, 1) := dk_42 (dk_at dksX3_stroke_2 17 rfl rfl)
theorem dX3_stroke_64 : decode cX3_stroke 64 = .ok (.getfield 188, 3) := dk_180 0 188 (dk_at dksX3_stroke_2 18 rfl rfl)
theorem dX3_stroke_67 : decode cX3_stroke 67 = .ok (.iload_n 1, 1) := dk_27 (dk_at dksX3_stroke_2 21 rfl rfl)
theorem dX3_stroke_68 : decode cX3_stroke 68 = .ok (.if_icmp .ne 7, 3) := dk_160 0 7 (dk_at dksX3_stroke_3 0 rfl rfl)
theorem dX3_stroke_71 : decode cX3_stroke 71 = .ok (.iconst 1, 1) := dk_4 (dk_at dksX3_stroke_3 3 rfl rfl)
theorem dX3_stroke_72 : decode cX3_stroke 72 = .ok (.goto 4, 3) := dk_167 0 4 (dk_at dksX3_stroke_3 4 rfl rfl)
theorem dX3_stroke_75 : decode cX3_stroke 75 = .ok (.iconst 0, 1) := dk_3 (dk_at dksX3_stroke_3 7 rfl rfl)
theorem dX3_stroke_76 : decode cX3_stroke 76 = .ok (.iadd, 1) := dk_96 (dk_at dksX3_stroke_3 8 rfl rfl)
theorem dX3_stroke_77 : decode cX3_stroke 77 = .ok (.putfield 113, 3) := dk_181 0 113 (dk_at dksX3_stroke_3 9 rfl rfl)
theorem dX3_stroke_80 : decode cX3_stroke 80 = .ok (.aload_n 0, 1) := dk_42 (dk_at dksX3_stroke_3 12 rfl rfl)
theorem dX3_stroke_81 : decode cX3_stroke 81 = .ok (.dup, 1) := dk_89 (dk_at dksX3_stroke_3 13 rfl rfl)
theorem dX3_stroke_82 : decode cX3_stroke 82 = .ok (.getfield 113, 3) := dk_180 0 113 (dk_at dksX3_stroke_3 14 rfl rfl)
theorem dX3_stroke_85 : decode cX3_stroke 85 = .ok (.aload_n 0, 1) := dk_42 (dk_at dksX3_stroke_3 17 rfl rfl)
theorem dX3_stroke_86 : decode cX3_stroke 86 = .ok (.getfield 154, 3) := dk_180 0 154 (dk_at dksX3_stroke_3 18 rfl rfl)
theorem dX3_stroke_89 : decode cX3_stroke 89 = .ok (.ifCond .le 14, 3) := dk_158 0 14 (dk_at dksX3_stroke_3 21 rfl rfl)
theorem dX3_stroke_92 : decode cX3_stroke 92 = .ok (.aload_n 0, 1) := dk_42 (dk_at dksX3_stroke_4 0 rfl rfl)
theorem dX3_stroke_93 : decode cX3_stroke 93 = .ok (.getfield 163, 3) := dk_180 0 163 (dk_at dksX3_stroke_4 1 rfl rfl)
theorem dX3_stroke_96 : decode cX3_stroke 96 = .ok (.ifCond .ne 7, 3) := dk_154 0 7 (dk_at dksX3_stroke_4 4 rfl rfl)
theorem dX3_stroke_99 : decode cX3_stroke 99 = .ok (.iconst 1, 1) := dk_4 (dk_at dksX3_stroke_4 7 rfl rfl)
theorem dX3_stroke_100 : decode cX3_stroke 100 = .ok (.goto 4, 3) := dk_167 0 4 (dk_at dksX3_stroke_4 8 rfl rfl)
theorem dX3_stroke_103 : decode cX3_stroke 103 = .ok (.iconst 0, 1) := dk_3 (dk_at dksX3_stroke_4 11 rfl rfl)
theorem dX3_stroke_104 : decode cX3_stroke 104 = .ok (.iadd, 1) := dk_96 (dk_at dksX3_stroke_4 12 rfl rfl)
theorem dX3_stroke_105 : decode cX3_stroke 105 = .ok (.putfield 113, 3) := dk_181 0 113 (dk_at dksX3_stroke_4 13 rfl rfl)
theorem dX3_stroke_108 : decode cX3_stroke 108 = .ok (.aload_n 0, 1) := dk_42 (dk_at dksX3_stroke_4 16 rfl rfl)
theorem dX3_stroke_109 : decode cX3_stroke 109 = .ok (.dup, 1) := dk_89 (dk_at dksX3_stroke_4 17 rfl rfl)
theorem dX3_stroke_110 : decode cX3_stroke 110 = .ok (.getfield 199, 3) := dk_180 0 199 (dk_at dksX3_stroke_4 18 rfl rfl)
theorem dX3_stroke_113 : decode cX3_stroke 113 = .ok (.aload_n 0, 1) := dk_42 (dk_at dksX3_stroke_4 21 rfl rfl)
theorem dX3_stroke_114 : decode cX3_stroke 114 = .ok (.getfield 154, 3) := dk_180 0 154 (dk_at dksX3_stroke_5 0 rfl rfl)
theorem dX3_stroke_117 : decode cX3_stroke 117 = .ok (.iadd, 1) := dk_96 (dk_at dksX3_stroke_5 3 rfl rfl)
theorem dX3_stroke_118 : decode cX3_stroke 118 = .ok (.putfield 199, 3) := dk_181 0 199 (dk_at dksX3_stroke_5 4 rfl rfl)
theorem dX3_stroke_121 : decode cX3_stroke 121 = .ok (.aload_n 0, 1) := dk_42 (dk_at dksX3_stroke_5 7 rfl rfl)
theorem dX3_stroke_122 : decode cX3_stroke 122 = .ok (.dup, 1) := dk_89 (dk_at dksX3_stroke_5 8 rfl rfl)
theorem dX3_stroke_123 : decode cX3_stroke 123 = .ok (.getfield 202, 3) := dk_180 0 202 (dk_at dksX3_stroke_5 9 rfl rfl)
theorem dX3_stroke_126 : decode cX3_stroke 126 = .ok (.aload_n 0, 1) := dk_42 (dk_at dksX3_stroke_5 12 rfl rfl)
theorem dX3_stroke_127 : decode cX3_stroke 127 = .ok (.getfield 160, 3) := dk_180 0 160 (dk_at dksX3_stroke_5 13 rfl rfl)
theorem dX3_stroke_130 : decode cX3_stroke 130 = .ok (.iadd, 1) := dk_96 (dk_at dksX3_stroke_5 16 rfl rfl)
theorem dX3_stroke_131 : decode cX3_stroke 131 = .ok (.putfield 202, 3) := dk_181 0 202 (dk_at dksX3_stroke_5 17 rfl rfl)
theorem dX3_stroke_134 : decode cX3_stroke 134 = .ok (.return_, 1) := dk_177 (dk_at dksX3_stroke_5 20 rfl rfl)
abbrev cX3_send : ByteArray := prog_5_method_26_code
def yX3_send : MethodName := ⟨RX3, "send", "(III)V"⟩
def dkwX3_send_3 : List UInt8 := [167, 255, 237, 177]
abbrev dktX3_send_3 : List UInt8 := dkwX3_send_3 ++ []
def dkwX3_send_2 : List UInt8 := [181, 0, 188, 42, 180, 0, 166, 158, 0, 18, 42, 180, 0, 188, 156, 0, 11, 42, 29, 182, 0, 191]
abbrev dktX3_send_2 : List UInt8 := dkwX3_send_2 ++ dktX3_send_3
def dkwX3_send_1 : List UInt8 := [181, 0, 160, 42, 16, 250, 181, 0, 163, 42, 16, 250, 181, 0, 157, 42, 16, 250, 181, 0, 169, 42, 16, 250]
abbrev dktX3_send_1 : List UInt8 := dkwX3_send_1 ++ dktX3_send_2
def dkwX3_send_0 : List UInt8 := [42, 27, 181, 0, 172, 42, 28, 181, 0, 175, 42, 29, 181, 0, 166, 42, 3, 181, 0, 154, 42, 3]
abbrev dktX3_send_0 : List UInt8 := dkwX3_send_0 ++ dktX3_send_1
theorem dksX3_send_0 : cX3_send.data.toList.drop 0 = dktX3_send_0 := by decide +kernel
theorem dksX3_send_1 : cX3_send.data.toList.drop 22 = dktX3_send_1 := dk_seg dksX3_send_0 22 rfl rfl
theorem dksX3_send_2 : cX3_send.data.toList.drop 46 = dktX3_send_2 := dk_seg dksX3_send_1 24 rfl rfl
theorem dksX3_send_3 : cX3_send.data.toList.drop 68 = dktX3_send_3 := dk_seg dksX3_send_2 22 rfl rfl
theorem dX3_send_0 : decode cX3_send 0 = .ok (.aload_n 0, 1) := dk_42 (dk_at dksX3_send_0 0 rfl rfl)
theorem dX3_send_1 : decode cX3_send 1 = .ok (.iload_n 1, 1) := dk_27 (dk_at dksX3_send_0 1 rfl rfl)
theorem dX3_send_2 : decode cX3_send 2 = .ok (.putfield 172, 3) := dk_181 0 172 (dk_at dksX3_send_0 2 rfl rfl)
theorem dX3_send_5 : decode cX3_send 5 = .ok (.aload_n 0, 1) := dk_42 (dk_at dksX3_send_0 5 rfl rfl)
theorem dX3_send_6 : decode cX3_send 6 = .ok (.iload_n 2, 1) := dk_28 (dk_at dksX3_send_0 6 rfl rfl)
theorem dX3_send_7 : decode cX3_send 7 = .ok (.putfield 175, 3) := dk_181 0 175 (dk_at dksX3_send_0 7 rfl rfl)
theorem dX3_send_10 : decode cX3_send 10 = .ok (.aload_n 0, 1) := dk_42 (dk_at dksX3_send_0 10 rfl rfl)
theorem dX3_send_11 : decode cX3_send 11 = .ok (.iload_n 3, 1) := dk_29 (dk_at dksX3_send_0 11 rfl rfl)
theorem dX3_send_12 : decode cX3_send 12 = .ok (.putfield 166, 3) := dk_181 0 166 (dk_at dksX3_send_0 12 rfl rfl)
theorem dX3_send_15 : decode cX3_send 15 = .ok (.aload_n 0, 1) := dk_42 (dk_at dksX3_send_0 15 rfl rfl)
theorem dX3_send_16 : decode cX3_send 16 = .ok (.iconst 0, 1) := dk_3 (dk_at dksX3_send_0 16 rfl rfl)
theorem dX3_send_17 : decode cX3_send 17 = .ok (.putfield 154, 3) := dk_181 0 154 (dk_at dksX3_send_0 17 rfl rfl)
theorem dX3_send_20 : decode cX3_send 20 = .ok (.aload_n 0, 1) := dk_42 (dk_at dksX3_send_0 20 rfl rfl)
theorem dX3_send_21 : decode cX3_send 21 = .ok (.iconst 0, 1) := dk_3 (dk_at dksX3_send_0 21 rfl rfl)
theorem dX3_send_22 : decode cX3_send 22 = .ok (.putfield 160, 3) := dk_181 0 160 (dk_at dksX3_send_1 0 rfl rfl)
theorem dX3_send_25 : decode cX3_send 25 = .ok (.aload_n 0, 1) := dk_42 (dk_at dksX3_send_1 3 rfl rfl)
theorem dX3_send_26 : decode cX3_send 26 = .ok (.bipush (-6), 2) := dk_16 250 (dk_at dksX3_send_1 4 rfl rfl)
theorem dX3_send_28 : decode cX3_send 28 = .ok (.putfield 163, 3) := dk_181 0 163 (dk_at dksX3_send_1 6 rfl rfl)
theorem dX3_send_31 : decode cX3_send 31 = .ok (.aload_n 0, 1) := dk_42 (dk_at dksX3_send_1 9 rfl rfl)
theorem dX3_send_32 : decode cX3_send 32 = .ok (.bipush (-6), 2) := dk_16 250 (dk_at dksX3_send_1 10 rfl rfl)
theorem dX3_send_34 : decode cX3_send 34 = .ok (.putfield 157, 3) := dk_181 0 157 (dk_at dksX3_send_1 12 rfl rfl)
theorem dX3_send_37 : decode cX3_send 37 = .ok (.aload_n 0, 1) := dk_42 (dk_at dksX3_send_1 15 rfl rfl)
theorem dX3_send_38 : decode cX3_send 38 = .ok (.bipush (-6), 2) := dk_16 250 (dk_at dksX3_send_1 16 rfl rfl)
theorem dX3_send_40 : decode cX3_send 40 = .ok (.putfield 169, 3) := dk_181 0 169 (dk_at dksX3_send_1 18 rfl rfl)
theorem dX3_send_43 : decode cX3_send 43 = .ok (.aload_n 0, 1) := dk_42 (dk_at dksX3_send_1 21 rfl rfl)
theorem dX3_send_44 : decode cX3_send 44 = .ok (.bipush (-6), 2) := dk_16 250 (dk_at dksX3_send_1 22 rfl rfl)
theorem dX3_send_46 : decode cX3_send 46 = .ok (.putfield 188, 3) := dk_181 0 188 (dk_at dksX3_send_2 0 rfl rfl)
theorem dX3_send_49 : decode cX3_send 49 = .ok (.aload_n 0, 1) := dk_42 (dk_at dksX3_send_2 3 rfl rfl)
theorem dX3_send_50 : decode cX3_send 50 = .ok (.getfield 166, 3) := dk_180 0 166 (dk_at dksX3_send_2 4 rfl rfl)
theorem dX3_send_53 : decode cX3_send 53 = .ok (.ifCond .le 18, 3) := dk_158 0 18 (dk_at dksX3_send_2 7 rfl rfl)
theorem dX3_send_56 : decode cX3_send 56 = .ok (.aload_n 0, 1) := dk_42 (dk_at dksX3_send_2 10 rfl rfl)
theorem dX3_send_57 : decode cX3_send 57 = .ok (.getfield 188, 3) := dk_180 0 188 (dk_at dksX3_send_2 11 rfl rfl)
theorem dX3_send_60 : decode cX3_send 60 = .ok (.ifCond .ge 11, 3) := dk_156 0 11 (dk_at dksX3_send_2 14 rfl rfl)
theorem dX3_send_63 : decode cX3_send 63 = .ok (.aload_n 0, 1) := dk_42 (dk_at dksX3_send_2 17 rfl rfl)
theorem dX3_send_64 : decode cX3_send 64 = .ok (.iload_n 3, 1) := dk_29 (dk_at dksX3_send_2 18 rfl rfl)
theorem dX3_send_65 : decode cX3_send 65 = .ok (.invokevirtual 191, 3) := dk_182 0 191 (dk_at dksX3_send_2 19 rfl rfl)
theorem dX3_send_68 : decode cX3_send 68 = .ok (.goto (-19), 3) := dk_167 255 237 (dk_at dksX3_send_3 0 rfl rfl)
theorem dX3_send_71 : decode cX3_send 71 = .ok (.return_, 1) := dk_177 (dk_at dksX3_send_3 3 rfl rfl)
abbrev cX3_step : ByteArray := prog_5_method_25_code
def yX3_step : MethodName := ⟨RX3, "step", "(I)V"⟩
def dkwX3_step_5 : List UInt8 := [16, 250, 79, 42, 42, 180, 0, 172, 181, 0, 188, 177]
abbrev dktX3_step_5 : List UInt8 := dkwX3_step_5 ++ []
def dkwX3_step_4 : List UInt8 := [180, 0, 7, 42, 180, 0, 172, 29, 79, 29, 184, 0, 85, 153, 0, 22, 42, 180, 0, 7, 42, 180, 0, 172]
abbrev dktX3_step_4 : List UInt8 := dkwX3_step_4 ++ dktX3_step_5
def dkwX3_step_3 : List UInt8 := [62, 42, 29, 182, 0, 104, 54, 4, 21, 4, 155, 0, 11, 42, 21, 4, 27, 182, 0, 184, 177, 42]
abbrev dktX3_step_3 : List UInt8 := dkwX3_step_3 ++ dktX3_step_4
def dkwX3_step_2 : List UInt8 := [180, 0, 166, 4, 100, 181, 0, 166, 42, 180, 0, 7, 42, 180, 0, 172, 46, 42, 180, 0, 175, 184, 0, 181]
abbrev dktX3_step_2 : List UInt8 := dkwX3_step_2 ++ dktX3_step_3
def dkwX3_step_1 : List UInt8 := [180, 0, 175, 160, 0, 7, 3, 167, 0, 4, 4, 96, 181, 0, 160, 42, 28, 181, 0, 175, 42, 89]
abbrev dktX3_step_1 : List UInt8 := dkwX3_step_1 ++ dktX3_step_2
def dkwX3_step_0 : List UInt8 := [42, 180, 0, 7, 42, 180, 0, 172, 46, 42, 180, 0, 175, 184, 0, 178, 61, 42, 89, 180, 0, 160, 28, 42]
abbrev dktX3_step_0 : List UInt8 := dkwX3_step_0 ++ dktX3_step_1
theorem dksX3_step_0 : cX3_step.data.toList.drop 0 = dktX3_step_0 := by decide +kernel
theorem dksX3_step_1 : cX3_step.data.toList.drop 24 = dktX3_step_1 := dk_seg dksX3_step_0 24 rfl rfl
theorem dksX3_step_2 : cX3_step.data.toList.drop 46 = dktX3_step_2 := dk_seg dksX3_step_1 22 rfl rfl
theorem dksX3_step_3 : cX3_step.data.toList.drop 70 = dktX3_step_3 := dk_seg dksX3_step_2 24 rfl rfl
theorem dksX3_step_4 : cX3_step.data.toList.drop 92 = dktX3_step_4 := dk_seg dksX3_step_3 22 rfl rfl
theorem dksX3_step_5 : cX3_step.data.toList.drop 116 = dktX3_step_5 := dk_seg dksX3_step_4 24 rfl rfl
theorem dX3_step_0 : decode cX3_step 0 = .ok (.aload_n 0, 1) := dk_42 (dk_at dksX3_step_0 0 rfl rfl)
theorem dX3_step_1 : decode cX3_step 1 = .ok (.getfield 7, 3) := dk_180 0 7 (dk_at dksX3_step_0 1 rfl rfl)
theorem dX3_step_4 : decode cX3_step 4 = .ok (.aload_n 0, 1) := dk_42 (dk_at dksX3_step_0 4 rfl rfl)
theorem dX3_step_5 : decode cX3_step 5 = .ok (.getfield 172, 3) := dk_180 0 172 (dk_at dksX3_step_0 5 rfl rfl)
theorem dX3_step_8 : decode cX3_step 8 = .ok (.iaload, 1) := dk_46 (dk_at dksX3_step_0 8 rfl rfl)
theorem dX3_step_9 : decode cX3_step 9 = .ok (.aload_n 0, 1) := dk_42 (dk_at dksX3_step_0 9 rfl rfl)
theorem dX3_step_10 : decode cX3_step 10 = .ok (.getfield 175, 3) := dk_180 0 175 (dk_at dksX3_step_0 10 rfl rfl)
theorem dX3_step_13 : decode cX3_step 13 = .ok (.invokestatic 178, 3) := dk_184 0 178 (dk_at dksX3_step_0 13 rfl rfl)
theorem dX3_step_16 : decode cX3_step 16 = .ok (.istore_n 2, 1) := dk_61 (dk_at dksX3_step_0 16 rfl rfl)
theorem dX3_step_17 : decode cX3_step 17 = .ok (.aload_n 0, 1) := dk_42 (dk_at dksX3_step_0 17 rfl rfl)
theorem dX3_step_18 : decode cX3_step 18 = .ok (.dup, 1) := dk_89 (dk_at dksX3_step_0 18 rfl rfl)
theorem dX3_step_19 : decode cX3_step 19 = .ok (.getfield 160, 3) := dk_180 0 160 (dk_at dksX3_step_0 19 rfl rfl)
theorem dX3_step_22 : decode cX3_step 22 = .ok (.iload_n 2, 1) := dk_28 (dk_at dksX3_step_0 22 rfl rfl)
theorem dX3_step_23 : decode cX3_step 23 = .ok (.aload_n 0, 1) := dk_42 (dk_at dksX3_step_0 23 rfl rfl)
theorem dX3_step_24 : decode cX3_step 24 = .ok (.getfield 175, 3) := dk_180 0 175 (dk_at dksX3_step_1 0 rfl rfl)
theorem dX3_step_27 : decode cX3_step 27 = .ok (.if_icmp .ne 7, 3) := dk_160 0 7 (dk_at dksX3_step_1 3 rfl rfl)
theorem dX3_step_30 : decode cX3_step 30 = .ok (.iconst 0, 1) := dk_3 (dk_at dksX3_step_1 6 rfl rfl)
theorem dX3_step_31 : decode cX3_step 31 = .ok (.goto 4, 3) := dk_167 0 4 (dk_at dksX3_step_1 7 rfl rfl)
theorem dX3_step_34 : decode cX3_step 34 = .ok (.iconst 1, 1) := dk_4 (dk_at dksX3_step_1 10 rfl rfl)
theorem dX3_step_35 : decode cX3_step 35 = .ok (.iadd, 1) := dk_96 (dk_at dksX3_step_1 11 rfl rfl)
theorem dX3_step_36 : decode cX3_step 36 = .ok (.putfield 160, 3) := dk_181 0 160 (dk_at dksX3_step_1 12 rfl rfl)
theorem dX3_step_39 : decode cX3_step 39 = .ok (.aload_n 0, 1) := dk_42 (dk_at dksX3_step_1 15 rfl rfl)
theorem dX3_step_40 : decode cX3_step 40 = .ok (.iload_n 2, 1) := dk_28 (dk_at dksX3_step_1 16 rfl rfl)
theorem dX3_step_41 : decode cX3_step 41 = .ok (.putfield 175, 3) := dk_181 0 175 (dk_at dksX3_step_1 17 rfl rfl)
theorem dX3_step_44 : decode cX3_step 44 = .ok (.aload_n 0, 1) := dk_42 (dk_at dksX3_step_1 20 rfl rfl)
theorem dX3_step_45 : decode cX3_step 45 = .ok (.dup, 1) := dk_89 (dk_at dksX3_step_1 21 rfl rfl)
theorem dX3_step_46 : decode cX3_step 46 = .ok (.getfield 166, 3) := dk_180 0 166 (dk_at dksX3_step_2 0 rfl rfl)
theorem dX3_step_49 : decode cX3_step 49 = .ok (.iconst 1, 1) := dk_4 (dk_at dksX3_step_2 3 rfl rfl)
theorem dX3_step_50 : decode cX3_step 50 = .ok (.isub, 1) := dk_100 (dk_at dksX3_step_2 4 rfl rfl)
theorem dX3_step_51 : decode cX3_step 51 = .ok (.putfield 166, 3) := dk_181 0 166 (dk_at dksX3_step_2 5 rfl rfl)
theorem dX3_step_54 : decode cX3_step 54 = .ok (.aload_n 0, 1) := dk_42 (dk_at dksX3_step_2 8 rfl rfl)
theorem dX3_step_55 : decode cX3_step 55 = .ok (.getfield 7, 3) := dk_180 0 7 (dk_at dksX3_step_2 9 rfl rfl)
theorem dX3_step_58 : decode cX3_step 58 = .ok (.aload_n 0, 1) := dk_42 (dk_at dksX3_step_2 12 rfl rfl)
theorem dX3_step_59 : decode cX3_step 59 = .ok (.getfield 172, 3) := dk_180 0 172 (dk_at dksX3_step_2 13 rfl rfl)
theorem dX3_step_62 : decode cX3_step 62 = .ok (.iaload, 1) := dk_46 (dk_at dksX3_step_2 16 rfl rfl)
theorem dX3_step_63 : decode cX3_step 63 = .ok (.aload_n 0, 1) := dk_42 (dk_at dksX3_step_2 17 rfl rfl)
theorem dX3_step_64 : decode cX3_step 64 = .ok (.getfield 175, 3) := dk_180 0 175 (dk_at dksX3_step_2 18 rfl rfl)
theorem dX3_step_67 : decode cX3_step 67 = .ok (.invokestatic 181, 3) := dk_184 0 181 (dk_at dksX3_step_2 21 rfl rfl)
theorem dX3_step_70 : decode cX3_step 70 = .ok (.istore_n 3, 1) := dk_62 (dk_at dksX3_step_3 0 rfl rfl)
theorem dX3_step_71 : decode cX3_step 71 = .ok (.aload_n 0, 1) := dk_42 (dk_at dksX3_step_3 1 rfl rfl)
theorem dX3_step_72 : decode cX3_step 72 = .ok (.iload_n 3, 1) := dk_29 (dk_at dksX3_step_3 2 rfl rfl)
theorem dX3_step_73 : decode cX3_step 73 = .ok (.invokevirtual 104, 3) := dk_182 0 104 (dk_at dksX3_step_3 3 rfl rfl)
theorem dX3_step_76 : decode cX3_step 76 = .ok (.istore 4, 2) := dk_54 4 (dk_at dksX3_step_3 6 rfl rfl)
theorem dX3_step_78 : decode cX3_step 78 = .ok (.iload 4, 2) := dk_21 4 (dk_at dksX3_step_3 8 rfl rfl)
theorem dX3_step_80 : decode cX3_step 80 = .ok (.ifCond .lt 11, 3) := dk_155 0 11 (dk_at dksX3_step_3 10 rfl rfl)
theorem dX3_step_83 : decode cX3_step 83 = .ok (.aload_n 0, 1) := dk_42 (dk_at dksX3_step_3 13 rfl rfl)
theorem dX3_step_84 : decode cX3_step 84 = .ok (.iload 4, 2) := dk_21 4 (dk_at dksX3_step_3 14 rfl rfl)
theorem dX3_step_86 : decode cX3_step 86 = .ok (.iload_n 1, 1) := dk_27 (dk_at dksX3_step_3 16 rfl rfl)
theorem dX3_step_87 : decode cX3_step 87 = .ok (.invokevirtual 184, 3) := dk_182 0 184 (dk_at dksX3_step_3 17 rfl rfl)
theorem dX3_step_90 : decode cX3_step 90 = .ok (.return_, 1) := dk_177 (dk_at dksX3_step_3 20 rfl rfl)
theorem dX3_step_91 : decode cX3_step 91 = .ok (.aload_n 0, 1) := dk_42 (dk_at dksX3_step_3 21 rfl rfl)
theorem dX3_step_92 : decode cX3_step 92 = .ok (.getfield 7, 3) := dk_180 0 7 (dk_at dksX3_step_4 0 rfl rfl)
theorem dX3_step_95 : decode cX3_step 95 = .ok (.aload_n 0, 1) := dk_42 (dk_at dksX3_step_4 3 rfl rfl)
theorem dX3_step_96 : decode cX3_step 96 = .ok (.getfield 172, 3) := dk_180 0 172 (dk_at dksX3_step_4 4 rfl rfl)
theorem dX3_step_99 : decode cX3_step 99 = .ok (.iload_n 3, 1) := dk_29 (dk_at dksX3_step_4 7 rfl rfl)
theorem dX3_step_100 : decode cX3_step 100 = .ok (.iastore, 1) := dk_79 (dk_at dksX3_step_4 8 rfl rfl)
theorem dX3_step_101 : decode cX3_step 101 = .ok (.iload_n 3, 1) := dk_29 (dk_at dksX3_step_4 9 rfl rfl)
theorem dX3_step_102 : decode cX3_step 102 = .ok (.invokestatic 85, 3) := dk_184 0 85 (dk_at dksX3_step_4 10 rfl rfl)
theorem dX3_step_105 : decode cX3_step 105 = .ok (.ifCond .eq 22, 3) := dk_153 0 22 (dk_at dksX3_step_4 13 rfl rfl)
theorem dX3_step_108 : decode cX3_step 108 = .ok (.aload_n 0, 1) := dk_42 (dk_at dksX3_step_4 16 rfl rfl)
theorem dX3_step_109 : decode cX3_step 109 = .ok (.getfield 7, 3) := dk_180 0 7 (dk_at dksX3_step_4 17 rfl rfl)
theorem dX3_step_112 : decode cX3_step 112 = .ok (.aload_n 0, 1) := dk_42 (dk_at dksX3_step_4 20 rfl rfl)
theorem dX3_step_113 : decode cX3_step 113 = .ok (.getfield 172, 3) := dk_180 0 172 (dk_at dksX3_step_4 21 rfl rfl)
theorem dX3_step_116 : decode cX3_step 116 = .ok (.bipush (-6), 2) := dk_16 250 (dk_at dksX3_step_5 0 rfl rfl)
theorem dX3_step_118 : decode cX3_step 118 = .ok (.iastore, 1) := dk_79 (dk_at dksX3_step_5 2 rfl rfl)
theorem dX3_step_119 : decode cX3_step 119 = .ok (.aload_n 0, 1) := dk_42 (dk_at dksX3_step_5 3 rfl rfl)
theorem dX3_step_120 : decode cX3_step 120 = .ok (.aload_n 0, 1) := dk_42 (dk_at dksX3_step_5 4 rfl rfl)
theorem dX3_step_121 : decode cX3_step 121 = .ok (.getfield 172, 3) := dk_180 0 172 (dk_at dksX3_step_5 5 rfl rfl)
theorem dX3_step_124 : decode cX3_step 124 = .ok (.putfield 188, 3) := dk_181 0 188 (dk_at dksX3_step_5 8 rfl rfl)
theorem dX3_step_127 : decode cX3_step 127 = .ok (.return_, 1) := dk_177 (dk_at dksX3_step_5 11 rfl rfl)
abbrev cX3_turned : ByteArray := prog_5_method_11_code
def yX3_turned : MethodName := ⟨RX3, "turned", "(II)I"⟩
def dkwX3_turned_3 : List UInt8 := [153, 0, 14, 16, 8, 21, 4, 100, 16, 8, 112, 167, 0, 5, 21, 4, 172]
abbrev dktX3_turned_3 : List UInt8 := dkwX3_turned_3 ++ []
def dkwX3_turned_2 : List UInt8 := [167, 0, 4, 3, 62, 28, 153, 0, 13, 16, 12, 27, 100, 16, 8, 112, 167, 0, 4, 27, 54, 4, 29]
abbrev dktX3_turned_2 : List UInt8 := dkwX3_turned_2 ++ dktX3_turned_3
def dkwX3_turned_1 : List UInt8 := [3, 61, 26, 16, 9, 112, 27, 184, 0, 93, 96, 133, 9, 20, 0, 96, 184, 0, 75, 154, 0, 7, 4]
abbrev dktX3_turned_1 : List UInt8 := dkwX3_turned_1 ++ dktX3_turned_2
def dkwX3_turned_0 : List UInt8 := [26, 16, 9, 108, 27, 184, 0, 88, 96, 133, 9, 20, 0, 91, 184, 0, 75, 154, 0, 7, 4, 167, 0, 4]
abbrev dktX3_turned_0 : List UInt8 := dkwX3_turned_0 ++ dktX3_turned_1
theorem dksX3_turned_0 : cX3_turned.data.toList.drop 0 = dktX3_turned_0 := by decide +kernel
theorem dksX3_turned_1 : cX3_turned.data.toList.drop 24 = dktX3_turned_1 := dk_seg dksX3_turned_0 24 rfl rfl
theorem dksX3_turned_2 : cX3_turned.data.toList.drop 47 = dktX3_turned_2 := dk_seg dksX3_turned_1 23 rfl rfl
theorem dksX3_turned_3 : cX3_turned.data.toList.drop 70 = dktX3_turned_3 := dk_seg dksX3_turned_2 23 rfl rfl
theorem dX3_turned_0 : decode cX3_turned 0 = .ok (.iload_n 0, 1) := dk_26 (dk_at dksX3_turned_0 0 rfl rfl)
theorem dX3_turned_1 : decode cX3_turned 1 = .ok (.bipush 9, 2) := dk_16 9 (dk_at dksX3_turned_0 1 rfl rfl)
theorem dX3_turned_3 : decode cX3_turned 3 = .ok (.idiv, 1) := dk_108 (dk_at dksX3_turned_0 3 rfl rfl)
theorem dX3_turned_4 : decode cX3_turned 4 = .ok (.iload_n 1, 1) := dk_27 (dk_at dksX3_turned_0 4 rfl rfl)
theorem dX3_turned_5 : decode cX3_turned 5 = .ok (.invokestatic 88, 3) := dk_184 0 88 (dk_at dksX3_turned_0 5 rfl rfl)
theorem dX3_turned_8 : decode cX3_turned 8 = .ok (.iadd, 1) := dk_96 (dk_at dksX3_turned_0 8 rfl rfl)
theorem dX3_turned_9 : decode cX3_turned 9 = .ok (.i2l, 1) := dk_133 (dk_at dksX3_turned_0 9 rfl rfl)
theorem dX3_turned_10 : decode cX3_turned 10 = .ok (.lconst 0, 1) := dk_9 (dk_at dksX3_turned_0 10 rfl rfl)
theorem dX3_turned_11 : decode cX3_turned 11 = .ok (.ldc2_w 91, 3) := dk_20 0 91 (dk_at dksX3_turned_0 11 rfl rfl)
theorem dX3_turned_14 : decode cX3_turned 14 = .ok (.invokestatic 75, 3) := dk_184 0 75 (dk_at dksX3_turned_0 14 rfl rfl)
theorem dX3_turned_17 : decode cX3_turned 17 = .ok (.ifCond .ne 7, 3) := dk_154 0 7 (dk_at dksX3_turned_0 17 rfl rfl)
theorem dX3_turned_20 : decode cX3_turned 20 = .ok (.iconst 1, 1) := dk_4 (dk_at dksX3_turned_0 20 rfl rfl)
theorem dX3_turned_21 : decode cX3_turned 21 = .ok (.goto 4, 3) := dk_167 0 4 (dk_at dksX3_turned_0 21 rfl rfl)
theorem dX3_turned_24 : decode cX3_turned 24 = .ok (.iconst 0, 1) := dk_3 (dk_at dksX3_turned_1 0 rfl rfl)
theorem dX3_turned_25 : decode cX3_turned 25 = .ok (.istore_n 2, 1) := dk_61 (dk_at dksX3_turned_1 1 rfl rfl)
theorem dX3_turned_26 : decode cX3_turned 26 = .ok (.iload_n 0, 1) := dk_26 (dk_at dksX3_turned_1 2 rfl rfl)
theorem dX3_turned_27 : decode cX3_turned 27 = .ok (.bipush 9, 2) := dk_16 9 (dk_at dksX3_turned_1 3 rfl rfl)
theorem dX3_turned_29 : decode cX3_turned 29 = .ok (.irem, 1) := dk_112 (dk_at dksX3_turned_1 5 rfl rfl)
theorem dX3_turned_30 : decode cX3_turned 30 = .ok (.iload_n 1, 1) := dk_27 (dk_at dksX3_turned_1 6 rfl rfl)
theorem dX3_turned_31 : decode cX3_turned 31 = .ok (.invokestatic 93, 3) := dk_184 0 93 (dk_at dksX3_turned_1 7 rfl rfl)
theorem dX3_turned_34 : decode cX3_turned 34 = .ok (.iadd, 1) := dk_96 (dk_at dksX3_turned_1 10 rfl rfl)
theorem dX3_turned_35 : decode cX3_turned 35 = .ok (.i2l, 1) := dk_133 (dk_at dksX3_turned_1 11 rfl rfl)
theorem dX3_turned_36 : decode cX3_turned 36 = .ok (.lconst 0, 1) := dk_9 (dk_at dksX3_turned_1 12 rfl rfl)
theorem dX3_turned_37 : decode cX3_turned 37 = .ok (.ldc2_w 96, 3) := dk_20 0 96 (dk_at dksX3_turned_1 13 rfl rfl)
theorem dX3_turned_40 : decode cX3_turned 40 = .ok (.invokestatic 75, 3) := dk_184 0 75 (dk_at dksX3_turned_1 16 rfl rfl)
theorem dX3_turned_43 : decode cX3_turned 43 = .ok (.ifCond .ne 7, 3) := dk_154 0 7 (dk_at dksX3_turned_1 19 rfl rfl)
theorem dX3_turned_46 : decode cX3_turned 46 = .ok (.iconst 1, 1) := dk_4 (dk_at dksX3_turned_1 22 rfl rfl)
theorem dX3_turned_47 : decode cX3_turned 47 = .ok (.goto 4, 3) := dk_167 0 4 (dk_at dksX3_turned_2 0 rfl rfl)
theorem dX3_turned_50 : decode cX3_turned 50 = .ok (.iconst 0, 1) := dk_3 (dk_at dksX3_turned_2 3 rfl rfl)
theorem dX3_turned_51 : decode cX3_turned 51 = .ok (.istore_n 3, 1) := dk_62 (dk_at dksX3_turned_2 4 rfl rfl)
theorem dX3_turned_52 : decode cX3_turned 52 = .ok (.iload_n 2, 1) := dk_28 (dk_at dksX3_turned_2 5 rfl rfl)
theorem dX3_turned_53 : decode cX3_turned 53 = .ok (.ifCond .eq 13, 3) := dk_153 0 13 (dk_at dksX3_turned_2 6 rfl rfl)
theorem dX3_turned_56 : decode cX3_turned 56 = .ok (.bipush 12, 2) := dk_16 12 (dk_at dksX3_turned_2 9 rfl rfl)
theorem dX3_turned_58 : decode cX3_turned 58 = .ok (.iload_n 1, 1) := dk_27 (dk_at dksX3_turned_2 11 rfl rfl)
theorem dX3_turned_59 : decode cX3_turned 59 = .ok (.isub, 1) := dk_100 (dk_at dksX3_turned_2 12 rfl rfl)
theorem dX3_turned_60 : decode cX3_turned 60 = .ok (.bipush 8, 2) := dk_16 8 (dk_at dksX3_turned_2 13 rfl rfl)
theorem dX3_turned_62 : decode cX3_turned 62 = .ok (.irem, 1) := dk_112 (dk_at dksX3_turned_2 15 rfl rfl)
theorem dX3_turned_63 : decode cX3_turned 63 = .ok (.goto 4, 3) := dk_167 0 4 (dk_at dksX3_turned_2 16 rfl rfl)
theorem dX3_turned_66 : decode cX3_turned 66 = .ok (.iload_n 1, 1) := dk_27 (dk_at dksX3_turned_2 19 rfl rfl)
theorem dX3_turned_67 : decode cX3_turned 67 = .ok (.istore 4, 2) := dk_54 4 (dk_at dksX3_turned_2 20 rfl rfl)
theorem dX3_turned_69 : decode cX3_turned 69 = .ok (.iload_n 3, 1) := dk_29 (dk_at dksX3_turned_2 22 rfl rfl)
theorem dX3_turned_70 : decode cX3_turned 70 = .ok (.ifCond .eq 14, 3) := dk_153 0 14 (dk_at dksX3_turned_3 0 rfl rfl)
theorem dX3_turned_73 : decode cX3_turned 73 = .ok (.bipush 8, 2) := dk_16 8 (dk_at dksX3_turned_3 3 rfl rfl)
theorem dX3_turned_75 : decode cX3_turned 75 = .ok (.iload 4, 2) := dk_21 4 (dk_at dksX3_turned_3 5 rfl rfl)
theorem dX3_turned_77 : decode cX3_turned 77 = .ok (.isub, 1) := dk_100 (dk_at dksX3_turned_3 7 rfl rfl)
theorem dX3_turned_78 : decode cX3_turned 78 = .ok (.bipush 8, 2) := dk_16 8 (dk_at dksX3_turned_3 8 rfl rfl)
theorem dX3_turned_80 : decode cX3_turned 80 = .ok (.irem, 1) := dk_112 (dk_at dksX3_turned_3 10 rfl rfl)
theorem dX3_turned_81 : decode cX3_turned 81 = .ok (.goto 5, 3) := dk_167 0 5 (dk_at dksX3_turned_3 11 rfl rfl)
theorem dX3_turned_84 : decode cX3_turned 84 = .ok (.iload 4, 2) := dk_21 4 (dk_at dksX3_turned_3 14 rfl rfl)
theorem dX3_turned_86 : decode cX3_turned 86 = .ok (.ireturn, 1) := dk_172 (dk_at dksX3_turned_3 16 rfl rfl)
abbrev cX3_downwards : ByteArray := prog_5_method_9_code
def yX3_downwards : MethodName := ⟨RX3, "downwards", "(I)I"⟩
def dkwX3_downwards_1 : List UInt8 := [26, 16, 6, 160, 0, 7, 3, 167, 0, 4, 4, 172]
abbrev dktX3_downwards_1 : List UInt8 := dkwX3_downwards_1 ++ []
def dkwX3_downwards_0 : List UInt8 := [26, 153, 0, 14, 26, 4, 159, 0, 9, 26, 16, 7, 160, 0, 7, 2, 167, 0, 19, 26, 5, 159, 0, 9]
abbrev dktX3_downwards_0 : List UInt8 := dkwX3_downwards_0 ++ dktX3_downwards_1
theorem dksX3_downwards_0 : cX3_downwards.data.toList.drop 0 = dktX3_downwards_0 := by decide +kernel
theorem dksX3_downwards_1 : cX3_downwards.data.toList.drop 24 = dktX3_downwards_1 := dk_seg dksX3_downwards_0 24 rfl rfl
theorem dX3_downwards_0 : decode cX3_downwards 0 = .ok (.iload_n 0, 1) := dk_26 (dk_at dksX3_downwards_0 0 rfl rfl)
theorem dX3_downwards_1 : decode cX3_downwards 1 = .ok (.ifCond .eq 14, 3) := dk_153 0 14 (dk_at dksX3_downwards_0 1 rfl rfl)
theorem dX3_downwards_4 : decode cX3_downwards 4 = .ok (.iload_n 0, 1) := dk_26 (dk_at dksX3_downwards_0 4 rfl rfl)
theorem dX3_downwards_5 : decode cX3_downwards 5 = .ok (.iconst 1, 1) := dk_4 (dk_at dksX3_downwards_0 5 rfl rfl)
theorem dX3_downwards_6 : decode cX3_downwards 6 = .ok (.if_icmp .eq 9, 3) := dk_159 0 9 (dk_at dksX3_downwards_0 6 rfl rfl)
theorem dX3_downwards_9 : decode cX3_downwards 9 = .ok (.iload_n 0, 1) := dk_26 (dk_at dksX3_downwards_0 9 rfl rfl)
theorem dX3_downwards_10 : decode cX3_downwards 10 = .ok (.bipush 7, 2) := dk_16 7 (dk_at dksX3_downwards_0 10 rfl rfl)
theorem dX3_downwards_12 : decode cX3_downwards 12 = .ok (.if_icmp .ne 7, 3) := dk_160 0 7 (dk_at dksX3_downwards_0 12 rfl rfl)
theorem dX3_downwards_15 : decode cX3_downwards 15 = .ok (.iconst (-1), 1) := dk_2 (dk_at dksX3_downwards_0 15 rfl rfl)
theorem dX3_downwards_16 : decode cX3_downwards 16 = .ok (.goto 19, 3) := dk_167 0 19 (dk_at dksX3_downwards_0 16 rfl rfl)
theorem dX3_downwards_19 : decode cX3_downwards 19 = .ok (.iload_n 0, 1) := dk_26 (dk_at dksX3_downwards_0 19 rfl rfl)
theorem dX3_downwards_20 : decode cX3_downwards 20 = .ok (.iconst 2, 1) := dk_5 (dk_at dksX3_downwards_0 20 rfl rfl)
theorem dX3_downwards_21 : decode cX3_downwards 21 = .ok (.if_icmp .eq 9, 3) := dk_159 0 9 (dk_at dksX3_downwards_0 21 rfl rfl)
theorem dX3_downwards_24 : decode cX3_downwards 24 = .ok (.iload_n 0, 1) := dk_26 (dk_at dksX3_downwards_1 0 rfl rfl)
theorem dX3_downwards_25 : decode cX3_downwards 25 = .ok (.bipush 6, 2) := dk_16 6 (dk_at dksX3_downwards_1 1 rfl rfl)
theorem dX3_downwards_27 : decode cX3_downwards 27 = .ok (.if_icmp .ne 7, 3) := dk_160 0 7 (dk_at dksX3_downwards_1 3 rfl rfl)
theorem dX3_downwards_30 : decode cX3_downwards 30 = .ok (.iconst 0, 1) := dk_3 (dk_at dksX3_downwards_1 6 rfl rfl)
theorem dX3_downwards_31 : decode cX3_downwards 31 = .ok (.goto 4, 3) := dk_167 0 4 (dk_at dksX3_downwards_1 7 rfl rfl)
theorem dX3_downwards_34 : decode cX3_downwards 34 = .ok (.iconst 1, 1) := dk_4 (dk_at dksX3_downwards_1 10 rfl rfl)
theorem dX3_downwards_35 : decode cX3_downwards 35 = .ok (.ireturn, 1) := dk_172 (dk_at dksX3_downwards_1 11 rfl rfl)
abbrev cX3_across : ByteArray := prog_5_method_10_code
def yX3_across : MethodName := ⟨RX3, "across", "(I)I"⟩
def dkwX3_across_0 : List UInt8 := [26, 153, 0, 8, 26, 7, 160, 0, 7, 3, 167, 0, 13, 26, 7, 162, 0, 7, 4, 167, 0, 4, 2, 172]
abbrev dktX3_across_0 : List UInt8 := dkwX3_across_0 ++ []
theorem dksX3_across_0 : cX3_across.data.toList.drop 0 = dktX3_across_0 := by decide +kernel
theorem dX3_across_0 : decode cX3_across 0 = .ok (.iload_n 0, 1) := dk_26 (dk_at dksX3_across_0 0 rfl rfl)
theorem dX3_across_1 : decode cX3_across 1 = .ok (.ifCond .eq 8, 3) := dk_153 0 8 (dk_at dksX3_across_0 1 rfl rfl)
theorem dX3_across_4 : decode cX3_across 4 = .ok (.iload_n 0, 1) := dk_26 (dk_at dksX3_across_0 4 rfl rfl)
theorem dX3_across_5 : decode cX3_across 5 = .ok (.iconst 4, 1) := dk_7 (dk_at dksX3_across_0 5 rfl rfl)
theorem dX3_across_6 : decode cX3_across 6 = .ok (.if_icmp .ne 7, 3) := dk_160 0 7 (dk_at dksX3_across_0 6 rfl rfl)
theorem dX3_across_9 : decode cX3_across 9 = .ok (.iconst 0, 1) := dk_3 (dk_at dksX3_across_0 9 rfl rfl)
theorem dX3_across_10 : decode cX3_across 10 = .ok (.goto 13, 3) := dk_167 0 13 (dk_at dksX3_across_0 10 rfl rfl)
theorem dX3_across_13 : decode cX3_across 13 = .ok (.iload_n 0, 1) := dk_26 (dk_at dksX3_across_0 13 rfl rfl)
theorem dX3_across_14 : decode cX3_across 14 = .ok (.iconst 4, 1) := dk_7 (dk_at dksX3_across_0 14 rfl rfl)
theorem dX3_across_15 : decode cX3_across 15 = .ok (.if_icmp .ge 7, 3) := dk_162 0 7 (dk_at dksX3_across_0 15 rfl rfl)
theorem dX3_across_18 : decode cX3_across 18 = .ok (.iconst 1, 1) := dk_4 (dk_at dksX3_across_0 18 rfl rfl)
theorem dX3_across_19 : decode cX3_across 19 = .ok (.goto 4, 3) := dk_167 0 4 (dk_at dksX3_across_0 19 rfl rfl)
theorem dX3_across_22 : decode cX3_across 22 = .ok (.iconst (-1), 1) := dk_2 (dk_at dksX3_across_0 22 rfl rfl)
theorem dX3_across_23 : decode cX3_across 23 = .ok (.ireturn, 1) := dk_172 (dk_at dksX3_across_0 23 rfl rfl)
abbrev cX3_ahead : ByteArray := prog_5_method_12_code
def yX3_ahead : MethodName := ⟨RX3, "ahead", "(II)I"⟩
def dkwX3_ahead_0 : List UInt8 := [26, 16, 9, 27, 184, 0, 88, 104, 96, 27, 184, 0, 93, 96, 172]
abbrev dktX3_ahead_0 : List UInt8 := dkwX3_ahead_0 ++ []
theorem dksX3_ahead_0 : cX3_ahead.data.toList.drop 0 = dktX3_ahead_0 := by decide +kernel
theorem dX3_ahead_0 : decode cX3_ahead 0 = .ok (.iload_n 0, 1) := dk_26 (dk_at dksX3_ahead_0 0 rfl rfl)
theorem dX3_ahead_1 : decode cX3_ahead 1 = .ok (.bipush 9, 2) := dk_16 9 (dk_at dksX3_ahead_0 1 rfl rfl)
theorem dX3_ahead_3 : decode cX3_ahead 3 = .ok (.iload_n 1, 1) := dk_27 (dk_at dksX3_ahead_0 3 rfl rfl)
theorem dX3_ahead_4 : decode cX3_ahead 4 = .ok (.invokestatic 88, 3) := dk_184 0 88 (dk_at dksX3_ahead_0 4 rfl rfl)
theorem dX3_ahead_7 : decode cX3_ahead 7 = .ok (.imul, 1) := dk_104 (dk_at dksX3_ahead_0 7 rfl rfl)
theorem dX3_ahead_8 : decode cX3_ahead 8 = .ok (.iadd, 1) := dk_96 (dk_at dksX3_ahead_0 8 rfl rfl)
theorem dX3_ahead_9 : decode cX3_ahead 9 = .ok (.iload_n 1, 1) := dk_27 (dk_at dksX3_ahead_0 9 rfl rfl)
theorem dX3_ahead_10 : decode cX3_ahead 10 = .ok (.invokestatic 93, 3) := dk_184 0 93 (dk_at dksX3_ahead_0 10 rfl rfl)
theorem dX3_ahead_13 : decode cX3_ahead 13 = .ok (.iadd, 1) := dk_96 (dk_at dksX3_ahead_0 13 rfl rfl)
theorem dX3_ahead_14 : decode cX3_ahead 14 = .ok (.ireturn, 1) := dk_172 (dk_at dksX3_ahead_0 14 rfl rfl)
abbrev cX3_touch : ByteArray := prog_5_method_24_code
def yX3_touch : MethodName := ⟨RX3, "touch", "(II)V"⟩
def dkwX3_touch_1 : List UInt8 := [180, 0, 160, 181, 0, 163, 42, 28, 42, 180, 0, 166, 100, 181, 0, 169, 42, 27, 181, 0, 172, 177]
abbrev dktX3_touch_1 : List UInt8 := dkwX3_touch_1 ++ []
def dkwX3_touch_0 : List UInt8 := [42, 89, 180, 0, 154, 4, 96, 181, 0, 154, 42, 180, 0, 157, 156, 0, 26, 42, 27, 181, 0, 157, 42, 42]
abbrev dktX3_touch_0 : List UInt8 := dkwX3_touch_0 ++ dktX3_touch_1
theorem dksX3_touch_0 : cX3_touch.data.toList.drop 0 = dktX3_touch_0 := by decide +kernel
theorem dksX3_touch_1 : cX3_touch.data.toList.drop 24 = dktX3_touch_1 := dk_seg dksX3_touch_0 24 rfl rfl
theorem dX3_touch_0 : decode cX3_touch 0 = .ok (.aload_n 0, 1) := dk_42 (dk_at dksX3_touch_0 0 rfl rfl)
theorem dX3_touch_1 : decode cX3_touch 1 = .ok (.dup, 1) := dk_89 (dk_at dksX3_touch_0 1 rfl rfl)
theorem dX3_touch_2 : decode cX3_touch 2 = .ok (.getfield 154, 3) := dk_180 0 154 (dk_at dksX3_touch_0 2 rfl rfl)
theorem dX3_touch_5 : decode cX3_touch 5 = .ok (.iconst 1, 1) := dk_4 (dk_at dksX3_touch_0 5 rfl rfl)
theorem dX3_touch_6 : decode cX3_touch 6 = .ok (.iadd, 1) := dk_96 (dk_at dksX3_touch_0 6 rfl rfl)
theorem dX3_touch_7 : decode cX3_touch 7 = .ok (.putfield 154, 3) := dk_181 0 154 (dk_at dksX3_touch_0 7 rfl rfl)
theorem dX3_touch_10 : decode cX3_touch 10 = .ok (.aload_n 0, 1) := dk_42 (dk_at dksX3_touch_0 10 rfl rfl)
theorem dX3_touch_11 : decode cX3_touch 11 = .ok (.getfield 157, 3) := dk_180 0 157 (dk_at dksX3_touch_0 11 rfl rfl)
theorem dX3_touch_14 : decode cX3_touch 14 = .ok (.ifCond .ge 26, 3) := dk_156 0 26 (dk_at dksX3_touch_0 14 rfl rfl)
theorem dX3_touch_17 : decode cX3_touch 17 = .ok (.aload_n 0, 1) := dk_42 (dk_at dksX3_touch_0 17 rfl rfl)
theorem dX3_touch_18 : decode cX3_touch 18 = .ok (.iload_n 1, 1) := dk_27 (dk_at dksX3_touch_0 18 rfl rfl)
theorem dX3_touch_19 : decode cX3_touch 19 = .ok (.putfield 157, 3) := dk_181 0 157 (dk_at dksX3_touch_0 19 rfl rfl)
theorem dX3_touch_22 : decode cX3_touch 22 = .ok (.aload_n 0, 1) := dk_42 (dk_at dksX3_touch_0 22 rfl rfl)
theorem dX3_touch_23 : decode cX3_touch 23 = .ok (.aload_n 0, 1) := dk_42 (dk_at dksX3_touch_0 23 rfl rfl)
theorem dX3_touch_24 : decode cX3_touch 24 = .ok (.getfield 160, 3) := dk_180 0 160 (dk_at dksX3_touch_1 0 rfl rfl)
theorem dX3_touch_27 : decode cX3_touch 27 = .ok (.putfield 163, 3) := dk_181 0 163 (dk_at dksX3_touch_1 3 rfl rfl)
theorem dX3_touch_30 : decode cX3_touch 30 = .ok (.aload_n 0, 1) := dk_42 (dk_at dksX3_touch_1 6 rfl rfl)
theorem dX3_touch_31 : decode cX3_touch 31 = .ok (.iload_n 2, 1) := dk_28 (dk_at dksX3_touch_1 7 rfl rfl)
theorem dX3_touch_32 : decode cX3_touch 32 = .ok (.aload_n 0, 1) := dk_42 (dk_at dksX3_touch_1 8 rfl rfl)
theorem dX3_touch_33 : decode cX3_touch 33 = .ok (.getfield 166, 3) := dk_180 0 166 (dk_at dksX3_touch_1 9 rfl rfl)
theorem dX3_touch_36 : decode cX3_touch 36 = .ok (.isub, 1) := dk_100 (dk_at dksX3_touch_1 12 rfl rfl)
theorem dX3_touch_37 : decode cX3_touch 37 = .ok (.putfield 169, 3) := dk_181 0 169 (dk_at dksX3_touch_1 13 rfl rfl)
theorem dX3_touch_40 : decode cX3_touch 40 = .ok (.aload_n 0, 1) := dk_42 (dk_at dksX3_touch_1 16 rfl rfl)
theorem dX3_touch_41 : decode cX3_touch 41 = .ok (.iload_n 1, 1) := dk_27 (dk_at dksX3_touch_1 17 rfl rfl)
theorem dX3_touch_42 : decode cX3_touch 42 = .ok (.putfield 172, 3) := dk_181 0 172 (dk_at dksX3_touch_1 18 rfl rfl)
theorem dX3_touch_45 : decode cX3_touch 45 = .ok (.return_, 1) := dk_177 (dk_at dksX3_touch_1 21 rfl rfl)
abbrev cX3_nap : ByteArray := prog_5_method_30_code
def yX3_nap : MethodName := ⟨RX3, "nap", "()V"⟩
def dkwX3_nap_3 : List UInt8 := [167, 255, 219, 177]
abbrev dktX3_nap_3 : List UInt8 := dkwX3_nap_3 ++ []
def dkwX3_nap_2 : List UInt8 := [180, 0, 34, 28, 46, 27, 160, 0, 8, 42, 28, 182, 0, 208, 132, 2, 1, 167, 255, 233, 132, 1, 1]
abbrev dktX3_nap_2 : List UInt8 := dkwX3_nap_2 ++ dktX3_nap_3
def dkwX3_nap_1 : List UInt8 := [132, 1, 1, 167, 255, 233, 3, 60, 27, 16, 9, 162, 0, 37, 3, 61, 28, 6, 162, 0, 24, 42]
abbrev dktX3_nap_1 : List UInt8 := dkwX3_nap_1 ++ dktX3_nap_2
def dkwX3_nap_0 : List UInt8 := [3, 60, 27, 6, 162, 0, 24, 42, 180, 0, 34, 27, 42, 180, 0, 7, 27, 46, 184, 0, 205, 79]
abbrev dktX3_nap_0 : List UInt8 := dkwX3_nap_0 ++ dktX3_nap_1
theorem dksX3_nap_0 : cX3_nap.data.toList.drop 0 = dktX3_nap_0 := by decide +kernel
theorem dksX3_nap_1 : cX3_nap.data.toList.drop 22 = dktX3_nap_1 := dk_seg dksX3_nap_0 22 rfl rfl
theorem dksX3_nap_2 : cX3_nap.data.toList.drop 44 = dktX3_nap_2 := dk_seg dksX3_nap_1 22 rfl rfl
theorem dksX3_nap_3 : cX3_nap.data.toList.drop 67 = dktX3_nap_3 := dk_seg dksX3_nap_2 23 rfl rfl
theorem dX3_nap_0 : decode cX3_nap 0 = .ok (.iconst 0, 1) := dk_3 (dk_at dksX3_nap_0 0 rfl rfl)
theorem dX3_nap_1 : decode cX3_nap 1 = .ok (.istore_n 1, 1) := dk_60 (dk_at dksX3_nap_0 1 rfl rfl)
theorem dX3_nap_2 : decode cX3_nap 2 = .ok (.iload_n 1, 1) := dk_27 (dk_at dksX3_nap_0 2 rfl rfl)
theorem dX3_nap_3 : decode cX3_nap 3 = .ok (.iconst 3, 1) := dk_6 (dk_at dksX3_nap_0 3 rfl rfl)
theorem dX3_nap_4 : decode cX3_nap 4 = .ok (.if_icmp .ge 24, 3) := dk_162 0 24 (dk_at dksX3_nap_0 4 rfl rfl)
theorem dX3_nap_7 : decode cX3_nap 7 = .ok (.aload_n 0, 1) := dk_42 (dk_at dksX3_nap_0 7 rfl rfl)
theorem dX3_nap_8 : decode cX3_nap 8 = .ok (.getfield 34, 3) := dk_180 0 34 (dk_at dksX3_nap_0 8 rfl rfl)
theorem dX3_nap_11 : decode cX3_nap 11 = .ok (.iload_n 1, 1) := dk_27 (dk_at dksX3_nap_0 11 rfl rfl)
theorem dX3_nap_12 : decode cX3_nap 12 = .ok (.aload_n 0, 1) := dk_42 (dk_at dksX3_nap_0 12 rfl rfl)
theorem dX3_nap_13 : decode cX3_nap 13 = .ok (.getfield 7, 3) := dk_180 0 7 (dk_at dksX3_nap_0 13 rfl rfl)
theorem dX3_nap_16 : decode cX3_nap 16 = .ok (.iload_n 1, 1) := dk_27 (dk_at dksX3_nap_0 16 rfl rfl)
theorem dX3_nap_17 : decode cX3_nap 17 = .ok (.iaload, 1) := dk_46 (dk_at dksX3_nap_0 17 rfl rfl)
theorem dX3_nap_18 : decode cX3_nap 18 = .ok (.invokestatic 205, 3) := dk_184 0 205 (dk_at dksX3_nap_0 18 rfl rfl)
theorem dX3_nap_21 : decode cX3_nap 21 = .ok (.iastore, 1) := dk_79 (dk_at dksX3_nap_0 21 rfl rfl)
theorem dX3_nap_22 : decode cX3_nap 22 = .ok (.iinc 1 1, 3) := dk_132 1 1 (dk_at dksX3_nap_1 0 rfl rfl)
theorem dX3_nap_25 : decode cX3_nap 25 = .ok (.goto (-23), 3) := dk_167 255 233 (dk_at dksX3_nap_1 3 rfl rfl)
theorem dX3_nap_28 : decode cX3_nap 28 = .ok (.iconst 0, 1) := dk_3 (dk_at dksX3_nap_1 6 rfl rfl)
theorem dX3_nap_29 : decode cX3_nap 29 = .ok (.istore_n 1, 1) := dk_60 (dk_at dksX3_nap_1 7 rfl rfl)
theorem dX3_nap_30 : decode cX3_nap 30 = .ok (.iload_n 1, 1) := dk_27 (dk_at dksX3_nap_1 8 rfl rfl)
theorem dX3_nap_31 : decode cX3_nap 31 = .ok (.bipush 9, 2) := dk_16 9 (dk_at dksX3_nap_1 9 rfl rfl)
theorem dX3_nap_33 : decode cX3_nap 33 = .ok (.if_icmp .ge 37, 3) := dk_162 0 37 (dk_at dksX3_nap_1 11 rfl rfl)
theorem dX3_nap_36 : decode cX3_nap 36 = .ok (.iconst 0, 1) := dk_3 (dk_at dksX3_nap_1 14 rfl rfl)
theorem dX3_nap_37 : decode cX3_nap 37 = .ok (.istore_n 2, 1) := dk_61 (dk_at dksX3_nap_1 15 rfl rfl)
theorem dX3_nap_38 : decode cX3_nap 38 = .ok (.iload_n 2, 1) := dk_28 (dk_at dksX3_nap_1 16 rfl rfl)
theorem dX3_nap_39 : decode cX3_nap 39 = .ok (.iconst 3, 1) := dk_6 (dk_at dksX3_nap_1 17 rfl rfl)
theorem dX3_nap_40 : decode cX3_nap 40 = .ok (.if_icmp .ge 24, 3) := dk_162 0 24 (dk_at dksX3_nap_1 18 rfl rfl)
theorem dX3_nap_43 : decode cX3_nap 43 = .ok (.aload_n 0, 1) := dk_42 (dk_at dksX3_nap_1 21 rfl rfl)
theorem dX3_nap_44 : decode cX3_nap 44 = .ok (.getfield 34, 3) := dk_180 0 34 (dk_at dksX3_nap_2 0 rfl rfl)
theorem dX3_nap_47 : decode cX3_nap 47 = .ok (.iload_n 2, 1) := dk_28 (dk_at dksX3_nap_2 3 rfl rfl)
theorem dX3_nap_48 : decode cX3_nap 48 = .ok (.iaload, 1) := dk_46 (dk_at dksX3_nap_2 4 rfl rfl)
theorem dX3_nap_49 : decode cX3_nap 49 = .ok (.iload_n 1, 1) := dk_27 (dk_at dksX3_nap_2 5 rfl rfl)
theorem dX3_nap_50 : decode cX3_nap 50 = .ok (.if_icmp .ne 8, 3) := dk_160 0 8 (dk_at dksX3_nap_2 6 rfl rfl)
theorem dX3_nap_53 : decode cX3_nap 53 = .ok (.aload_n 0, 1) := dk_42 (dk_at dksX3_nap_2 9 rfl rfl)
theorem dX3_nap_54 : decode cX3_nap 54 = .ok (.iload_n 2, 1) := dk_28 (dk_at dksX3_nap_2 10 rfl rfl)
theorem dX3_nap_55 : decode cX3_nap 55 = .ok (.invokevirtual 208, 3) := dk_182 0 208 (dk_at dksX3_nap_2 11 rfl rfl)
theorem dX3_nap_58 : decode cX3_nap 58 = .ok (.iinc 2 1, 3) := dk_132 2 1 (dk_at dksX3_nap_2 14 rfl rfl)
theorem dX3_nap_61 : decode cX3_nap 61 = .ok (.goto (-23), 3) := dk_167 255 233 (dk_at dksX3_nap_2 17 rfl rfl)
theorem dX3_nap_64 : decode cX3_nap 64 = .ok (.iinc 1 1, 3) := dk_132 1 1 (dk_at dksX3_nap_2 20 rfl rfl)
theorem dX3_nap_67 : decode cX3_nap 67 = .ok (.goto (-37), 3) := dk_167 255 219 (dk_at dksX3_nap_3 0 rfl rfl)
theorem dX3_nap_70 : decode cX3_nap 70 = .ok (.return_, 1) := dk_177 (dk_at dksX3_nap_3 3 rfl rfl)
abbrev cX3_columnOf : ByteArray := prog_5_method_28_code
def yX3_columnOf : MethodName := ⟨RX3, "columnOf", "(I)I"⟩
def dkwX3_columnOf_0 : List UInt8 := [26, 156, 0, 8, 16, 9, 167, 0, 7, 26, 16, 9, 112, 172]
abbrev dktX3_columnOf_0 : List UInt8 := dkwX3_columnOf_0 ++ []
theorem dksX3_columnOf_0 : cX3_columnOf.data.toList.drop 0 = dktX3_columnOf_0 := by decide +kernel
theorem dX3_columnOf_0 : decode cX3_columnOf 0 = .ok (.iload_n 0, 1) := dk_26 (dk_at dksX3_columnOf_0 0 rfl rfl)
theorem dX3_columnOf_1 : decode cX3_columnOf 1 = .ok (.ifCond .ge 8, 3) := dk_156 0 8 (dk_at dksX3_columnOf_0 1 rfl rfl)
theorem dX3_columnOf_4 : decode cX3_columnOf 4 = .ok (.bipush 9, 2) := dk_16 9 (dk_at dksX3_columnOf_0 4 rfl rfl)
theorem dX3_columnOf_6 : decode cX3_columnOf 6 = .ok (.goto 7, 3) := dk_167 0 7 (dk_at dksX3_columnOf_0 6 rfl rfl)
theorem dX3_columnOf_9 : decode cX3_columnOf 9 = .ok (.iload_n 0, 1) := dk_26 (dk_at dksX3_columnOf_0 9 rfl rfl)
theorem dX3_columnOf_10 : decode cX3_columnOf 10 = .ok (.bipush 9, 2) := dk_16 9 (dk_at dksX3_columnOf_0 10 rfl rfl)
theorem dX3_columnOf_12 : decode cX3_columnOf 12 = .ok (.irem, 1) := dk_112 (dk_at dksX3_columnOf_0 12 rfl rfl)
theorem dX3_columnOf_13 : decode cX3_columnOf 13 = .ok (.ireturn, 1) := dk_172 (dk_at dksX3_columnOf_0 13 rfl rfl)
abbrev cX3_drift : ByteArray := prog_5_method_29_code
def yX3_drift : MethodName := ⟨RX3, "drift", "(I)V"⟩
def dkwX3_drift_1 : List UInt8 := [154, 0, 22, 42, 28, 4, 100, 182, 0, 104, 156, 0, 12, 42, 180, 0, 7, 27, 28, 4, 100, 79, 177]
abbrev dktX3_drift_1 : List UInt8 := dkwX3_drift_1 ++ []
def dkwX3_drift_0 : List UInt8 := [42, 180, 0, 7, 27, 46, 61, 28, 155, 0, 38, 28, 16, 9, 112, 158, 0, 31, 28, 4, 100, 184, 0, 85]
abbrev dktX3_drift_0 : List UInt8 := dkwX3_drift_0 ++ dktX3_drift_1
theorem dksX3_drift_0 : cX3_drift.data.toList.drop 0 = dktX3_drift_0 := by decide +kernel
theorem dksX3_drift_1 : cX3_drift.data.toList.drop 24 = dktX3_drift_1 := dk_seg dksX3_drift_0 24 rfl rfl
theorem dX3_drift_0 : decode cX3_drift 0 = .ok (.aload_n 0, 1) := dk_42 (dk_at dksX3_drift_0 0 rfl rfl)
theorem dX3_drift_1 : decode cX3_drift 1 = .ok (.getfield 7, 3) := dk_180 0 7 (dk_at dksX3_drift_0 1 rfl rfl)
theorem dX3_drift_4 : decode cX3_drift 4 = .ok (.iload_n 1, 1) := dk_27 (dk_at dksX3_drift_0 4 rfl rfl)
theorem dX3_drift_5 : decode cX3_drift 5 = .ok (.iaload, 1) := dk_46 (dk_at dksX3_drift_0 5 rfl rfl)
theorem dX3_drift_6 : decode cX3_drift 6 = .ok (.istore_n 2, 1) := dk_61 (dk_at dksX3_drift_0 6 rfl rfl)
theorem dX3_drift_7 : decode cX3_drift 7 = .ok (.iload_n 2, 1) := dk_28 (dk_at dksX3_drift_0 7 rfl rfl)
theorem dX3_drift_8 : decode cX3_drift 8 = .ok (.ifCond .lt 38, 3) := dk_155 0 38 (dk_at dksX3_drift_0 8 rfl rfl)
theorem dX3_drift_11 : decode cX3_drift 11 = .ok (.iload_n 2, 1) := dk_28 (dk_at dksX3_drift_0 11 rfl rfl)
theorem dX3_drift_12 : decode cX3_drift 12 = .ok (.bipush 9, 2) := dk_16 9 (dk_at dksX3_drift_0 12 rfl rfl)
theorem dX3_drift_14 : decode cX3_drift 14 = .ok (.irem, 1) := dk_112 (dk_at dksX3_drift_0 14 rfl rfl)
theorem dX3_drift_15 : decode cX3_drift 15 = .ok (.ifCond .le 31, 3) := dk_158 0 31 (dk_at dksX3_drift_0 15 rfl rfl)
theorem dX3_drift_18 : decode cX3_drift 18 = .ok (.iload_n 2, 1) := dk_28 (dk_at dksX3_drift_0 18 rfl rfl)
theorem dX3_drift_19 : decode cX3_drift 19 = .ok (.iconst 1, 1) := dk_4 (dk_at dksX3_drift_0 19 rfl rfl)
theorem dX3_drift_20 : decode cX3_drift 20 = .ok (.isub, 1) := dk_100 (dk_at dksX3_drift_0 20 rfl rfl)
theorem dX3_drift_21 : decode cX3_drift 21 = .ok (.invokestatic 85, 3) := dk_184 0 85 (dk_at dksX3_drift_0 21 rfl rfl)
theorem dX3_drift_24 : decode cX3_drift 24 = .ok (.ifCond .ne 22, 3) := dk_154 0 22 (dk_at dksX3_drift_1 0 rfl rfl)
theorem dX3_drift_27 : decode cX3_drift 27 = .ok (.aload_n 0, 1) := dk_42 (dk_at dksX3_drift_1 3 rfl rfl)
theorem dX3_drift_28 : decode cX3_drift 28 = .ok (.iload_n 2, 1) := dk_28 (dk_at dksX3_drift_1 4 rfl rfl)
theorem dX3_drift_29 : decode cX3_drift 29 = .ok (.iconst 1, 1) := dk_4 (dk_at dksX3_drift_1 5 rfl rfl)
theorem dX3_drift_30 : decode cX3_drift 30 = .ok (.isub, 1) := dk_100 (dk_at dksX3_drift_1 6 rfl rfl)
theorem dX3_drift_31 : decode cX3_drift 31 = .ok (.invokevirtual 104, 3) := dk_182 0 104 (dk_at dksX3_drift_1 7 rfl rfl)
theorem dX3_drift_34 : decode cX3_drift 34 = .ok (.ifCond .ge 12, 3) := dk_156 0 12 (dk_at dksX3_drift_1 10 rfl rfl)
theorem dX3_drift_37 : decode cX3_drift 37 = .ok (.aload_n 0, 1) := dk_42 (dk_at dksX3_drift_1 13 rfl rfl)
theorem dX3_drift_38 : decode cX3_drift 38 = .ok (.getfield 7, 3) := dk_180 0 7 (dk_at dksX3_drift_1 14 rfl rfl)
theorem dX3_drift_41 : decode cX3_drift 41 = .ok (.iload_n 1, 1) := dk_27 (dk_at dksX3_drift_1 17 rfl rfl)
theorem dX3_drift_42 : decode cX3_drift 42 = .ok (.iload_n 2, 1) := dk_28 (dk_at dksX3_drift_1 18 rfl rfl)
theorem dX3_drift_43 : decode cX3_drift 43 = .ok (.iconst 1, 1) := dk_4 (dk_at dksX3_drift_1 19 rfl rfl)
theorem dX3_drift_44 : decode cX3_drift 44 = .ok (.isub, 1) := dk_100 (dk_at dksX3_drift_1 20 rfl rfl)
theorem dX3_drift_45 : decode cX3_drift 45 = .ok (.iastore, 1) := dk_79 (dk_at dksX3_drift_1 21 rfl rfl)
theorem dX3_drift_46 : decode cX3_drift 46 = .ok (.return_, 1) := dk_177 (dk_at dksX3_drift_1 22 rfl rfl)
abbrev cX3_back : ByteArray := prog_5_method_34_code
def yX3_back : MethodName := ⟨RX3, "back", "(I)I"⟩
def dkwX3_back_2 : List UInt8 := [42, 180, 0, 37, 8, 46, 181, 0, 211, 27, 172]
abbrev dktX3_back_2 : List UInt8 := dkwX3_back_2 ++ []
def dkwX3_back_1 : List UInt8 := [167, 255, 236, 42, 42, 180, 0, 37, 6, 46, 181, 0, 109, 42, 42, 180, 0, 37, 7, 46, 181, 0, 113, 42]
abbrev dktX3_back_1 : List UInt8 := dkwX3_back_1 ++ dktX3_back_2
def dkwX3_back_0 : List UInt8 := [3, 61, 28, 6, 162, 0, 21, 42, 180, 0, 7, 28, 42, 180, 0, 37, 28, 46, 79, 132, 2, 1]
abbrev dktX3_back_0 : List UInt8 := dkwX3_back_0 ++ dktX3_back_1
theorem dksX3_back_0 : cX3_back.data.toList.drop 0 = dktX3_back_0 := by decide +kernel
theorem dksX3_back_1 : cX3_back.data.toList.drop 22 = dktX3_back_1 := dk_seg dksX3_back_0 22 rfl rfl
theorem dksX3_back_2 : cX3_back.data.toList.drop 46 = dktX3_back_2 := dk_seg dksX3_back_1 24 rfl rfl
theorem dX3_back_0 : decode cX3_back 0 = .ok (.iconst 0, 1) := dk_3 (dk_at dksX3_back_0 0 rfl rfl)
theorem dX3_back_1 : decode cX3_back 1 = .ok (.istore_n 2, 1) := dk_61 (dk_at dksX3_back_0 1 rfl rfl)
theorem dX3_back_2 : decode cX3_back 2 = .ok (.iload_n 2, 1) := dk_28 (dk_at dksX3_back_0 2 rfl rfl)
theorem dX3_back_3 : decode cX3_back 3 = .ok (.iconst 3, 1) := dk_6 (dk_at dksX3_back_0 3 rfl rfl)
theorem dX3_back_4 : decode cX3_back 4 = .ok (.if_icmp .ge 21, 3) := dk_162 0 21 (dk_at dksX3_back_0 4 rfl rfl)
theorem dX3_back_7 : decode cX3_back 7 = .ok (.aload_n 0, 1) := dk_42 (dk_at dksX3_back_0 7 rfl rfl)
theorem dX3_back_8 : decode cX3_back 8 = .ok (.getfield 7, 3) := dk_180 0 7 (dk_at dksX3_back_0 8 rfl rfl)
theorem dX3_back_11 : decode cX3_back 11 = .ok (.iload_n 2, 1) := dk_28 (dk_at dksX3_back_0 11 rfl rfl)
theorem dX3_back_12 : decode cX3_back 12 = .ok (.aload_n 0, 1) := dk_42 (dk_at dksX3_back_0 12 rfl rfl)
theorem dX3_back_13 : decode cX3_back 13 = .ok (.getfield 37, 3) := dk_180 0 37 (dk_at dksX3_back_0 13 rfl rfl)
theorem dX3_back_16 : decode cX3_back 16 = .ok (.iload_n 2, 1) := dk_28 (dk_at dksX3_back_0 16 rfl rfl)
theorem dX3_back_17 : decode cX3_back 17 = .ok (.iaload, 1) := dk_46 (dk_at dksX3_back_0 17 rfl rfl)
theorem dX3_back_18 : decode cX3_back 18 = .ok (.iastore, 1) := dk_79 (dk_at dksX3_back_0 18 rfl rfl)
theorem dX3_back_19 : decode cX3_back 19 = .ok (.iinc 2 1, 3) := dk_132 2 1 (dk_at dksX3_back_0 19 rfl rfl)
theorem dX3_back_22 : decode cX3_back 22 = .ok (.goto (-20), 3) := dk_167 255 236 (dk_at dksX3_back_1 0 rfl rfl)
theorem dX3_back_25 : decode cX3_back 25 = .ok (.aload_n 0, 1) := dk_42 (dk_at dksX3_back_1 3 rfl rfl)
theorem dX3_back_26 : decode cX3_back 26 = .ok (.aload_n 0, 1) := dk_42 (dk_at dksX3_back_1 4 rfl rfl)
theorem dX3_back_27 : decode cX3_back 27 = .ok (.getfield 37, 3) := dk_180 0 37 (dk_at dksX3_back_1 5 rfl rfl)
theorem dX3_back_30 : decode cX3_back 30 = .ok (.iconst 3, 1) := dk_6 (dk_at dksX3_back_1 8 rfl rfl)
theorem dX3_back_31 : decode cX3_back 31 = .ok (.iaload, 1) := dk_46 (dk_at dksX3_back_1 9 rfl rfl)
theorem dX3_back_32 : decode cX3_back 32 = .ok (.putfield 109, 3) := dk_181 0 109 (dk_at dksX3_back_1 10 rfl rfl)
theorem dX3_back_35 : decode cX3_back 35 = .ok (.aload_n 0, 1) := dk_42 (dk_at dksX3_back_1 13 rfl rfl)
theorem dX3_back_36 : decode cX3_back 36 = .ok (.aload_n 0, 1) := dk_42 (dk_at dksX3_back_1 14 rfl rfl)
theorem dX3_back_37 : decode cX3_back 37 = .ok (.getfield 37, 3) := dk_180 0 37 (dk_at dksX3_back_1 15 rfl rfl)
theorem dX3_back_40 : decode cX3_back 40 = .ok (.iconst 4, 1) := dk_7 (dk_at dksX3_back_1 18 rfl rfl)
theorem dX3_back_41 : decode cX3_back 41 = .ok (.iaload, 1) := dk_46 (dk_at dksX3_back_1 19 rfl rfl)
theorem dX3_back_42 : decode cX3_back 42 = .ok (.putfield 113, 3) := dk_181 0 113 (dk_at dksX3_back_1 20 rfl rfl)
theorem dX3_back_45 : decode cX3_back 45 = .ok (.aload_n 0, 1) := dk_42 (dk_at dksX3_back_1 23 rfl rfl)
theorem dX3_back_46 : decode cX3_back 46 = .ok (.aload_n 0, 1) := dk_42 (dk_at dksX3_back_2 0 rfl rfl)
theorem dX3_back_47 : decode cX3_back 47 = .ok (.getfield 37, 3) := dk_180 0 37 (dk_at dksX3_back_2 1 rfl rfl)
theorem dX3_back_50 : decode cX3_back 50 = .ok (.iconst 5, 1) := dk_8 (dk_at dksX3_back_2 4 rfl rfl)
theorem dX3_back_51 : decode cX3_back 51 = .ok (.iaload, 1) := dk_46 (dk_at dksX3_back_2 5 rfl rfl)
theorem dX3_back_52 : decode cX3_back 52 = .ok (.putfield 211, 3) := dk_181 0 211 (dk_at dksX3_back_2 6 rfl rfl)
theorem dX3_back_55 : decode cX3_back 55 = .ok (.iload_n 1, 1) := dk_27 (dk_at dksX3_back_2 9 rfl rfl)
theorem dX3_back_56 : decode cX3_back 56 = .ok (.ireturn, 1) := dk_172 (dk_at dksX3_back_2 10 rfl rfl)
abbrev cX3_behind : ByteArray := prog_5_method_38_code
def yX3_behind : MethodName := ⟨RX3, "behind", "(I)I"⟩
def dkwX3_behind_1 : List UInt8 := [167, 0, 9, 42, 180, 0, 7, 27, 46, 182, 0, 249, 172]
abbrev dktX3_behind_1 : List UInt8 := dkwX3_behind_1 ++ []
def dkwX3_behind_0 : List UInt8 := [27, 184, 0, 98, 154, 0, 5, 2, 172, 42, 182, 0, 246, 61, 42, 28, 16, 250, 159, 0, 7, 28]
abbrev dktX3_behind_0 : List UInt8 := dkwX3_behind_0 ++ dktX3_behind_1
theorem dksX3_behind_0 : cX3_behind.data.toList.drop 0 = dktX3_behind_0 := by decide +kernel
theorem dksX3_behind_1 : cX3_behind.data.toList.drop 22 = dktX3_behind_1 := dk_seg dksX3_behind_0 22 rfl rfl
theorem dX3_behind_0 : decode cX3_behind 0 = .ok (.iload_n 1, 1) := dk_27 (dk_at dksX3_behind_0 0 rfl rfl)
theorem dX3_behind_1 : decode cX3_behind 1 = .ok (.invokestatic 98, 3) := dk_184 0 98 (dk_at dksX3_behind_0 1 rfl rfl)
theorem dX3_behind_4 : decode cX3_behind 4 = .ok (.ifCond .ne 5, 3) := dk_154 0 5 (dk_at dksX3_behind_0 4 rfl rfl)
theorem dX3_behind_7 : decode cX3_behind 7 = .ok (.iconst (-1), 1) := dk_2 (dk_at dksX3_behind_0 7 rfl rfl)
theorem dX3_behind_8 : decode cX3_behind 8 = .ok (.ireturn, 1) := dk_172 (dk_at dksX3_behind_0 8 rfl rfl)
theorem dX3_behind_9 : decode cX3_behind 9 = .ok (.aload_n 0, 1) := dk_42 (dk_at dksX3_behind_0 9 rfl rfl)
theorem dX3_behind_10 : decode cX3_behind 10 = .ok (.invokevirtual 246, 3) := dk_182 0 246 (dk_at dksX3_behind_0 10 rfl rfl)
theorem dX3_behind_13 : decode cX3_behind 13 = .ok (.istore_n 2, 1) := dk_61 (dk_at dksX3_behind_0 13 rfl rfl)
theorem dX3_behind_14 : decode cX3_behind 14 = .ok (.aload_n 0, 1) := dk_42 (dk_at dksX3_behind_0 14 rfl rfl)
theorem dX3_behind_15 : decode cX3_behind 15 = .ok (.iload_n 2, 1) := dk_28 (dk_at dksX3_behind_0 15 rfl rfl)
theorem dX3_behind_16 : decode cX3_behind 16 = .ok (.bipush (-6), 2) := dk_16 250 (dk_at dksX3_behind_0 16 rfl rfl)
theorem dX3_behind_18 : decode cX3_behind 18 = .ok (.if_icmp .eq 7, 3) := dk_159 0 7 (dk_at dksX3_behind_0 18 rfl rfl)
theorem dX3_behind_21 : decode cX3_behind 21 = .ok (.iload_n 2, 1) := dk_28 (dk_at dksX3_behind_0 21 rfl rfl)
theorem dX3_behind_22 : decode cX3_behind 22 = .ok (.goto 9, 3) := dk_167 0 9 (dk_at dksX3_behind_1 0 rfl rfl)
theorem dX3_behind_25 : decode cX3_behind 25 = .ok (.aload_n 0, 1) := dk_42 (dk_at dksX3_behind_1 3 rfl rfl)
theorem dX3_behind_26 : decode cX3_behind 26 = .ok (.getfield 7, 3) := dk_180 0 7 (dk_at dksX3_behind_1 4 rfl rfl)
theorem dX3_behind_29 : decode cX3_behind 29 = .ok (.iload_n 1, 1) := dk_27 (dk_at dksX3_behind_1 7 rfl rfl)
theorem dX3_behind_30 : decode cX3_behind 30 = .ok (.iaload, 1) := dk_46 (dk_at dksX3_behind_1 8 rfl rfl)
theorem dX3_behind_31 : decode cX3_behind 31 = .ok (.invokevirtual 249, 3) := dk_182 0 249 (dk_at dksX3_behind_1 9 rfl rfl)
theorem dX3_behind_34 : decode cX3_behind 34 = .ok (.ireturn, 1) := dk_172 (dk_at dksX3_behind_1 12 rfl rfl)
abbrev cX3_table : ByteArray := prog_5_method_40_code
def yX3_table : MethodName := ⟨RX3, "table", "(I)I"⟩
def dkwX3_table_3 : List UInt8 := [182, 0, 249, 172]
abbrev dktX3_table_3 : List UInt8 := dkwX3_table_3 ++ []
def dkwX3_table_2 : List UInt8 := [180, 0, 113, 167, 0, 19, 27, 5, 160, 0, 10, 42, 182, 0, 254, 167, 0, 7, 42, 180, 0, 211]
abbrev dktX3_table_2 : List UInt8 := dkwX3_table_2 ++ dktX3_table_3
def dkwX3_table_1 : List UInt8 := [159, 0, 7, 28, 167, 0, 42, 27, 154, 0, 10, 42, 180, 0, 109, 167, 0, 31, 27, 4, 160, 0, 10, 42]
abbrev dktX3_table_1 : List UInt8 := dkwX3_table_1 ++ dktX3_table_2
def dkwX3_table_0 : List UInt8 := [27, 133, 9, 20, 0, 252, 184, 0, 75, 154, 0, 6, 16, 254, 172, 42, 182, 0, 246, 61, 42, 28, 16, 250]
abbrev dktX3_table_0 : List UInt8 := dkwX3_table_0 ++ dktX3_table_1
theorem dksX3_table_0 : cX3_table.data.toList.drop 0 = dktX3_table_0 := by decide +kernel
theorem dksX3_table_1 : cX3_table.data.toList.drop 24 = dktX3_table_1 := dk_seg dksX3_table_0 24 rfl rfl
theorem dksX3_table_2 : cX3_table.data.toList.drop 48 = dktX3_table_2 := dk_seg dksX3_table_1 24 rfl rfl
theorem dksX3_table_3 : cX3_table.data.toList.drop 70 = dktX3_table_3 := dk_seg dksX3_table_2 22 rfl rfl
theorem dX3_table_0 : decode cX3_table 0 = .ok (.iload_n 1, 1) := dk_27 (dk_at dksX3_table_0 0 rfl rfl)
theorem dX3_table_1 : decode cX3_table 1 = .ok (.i2l, 1) := dk_133 (dk_at dksX3_table_0 1 rfl rfl)
theorem dX3_table_2 : decode cX3_table 2 = .ok (.lconst 0, 1) := dk_9 (dk_at dksX3_table_0 2 rfl rfl)
theorem dX3_table_3 : decode cX3_table 3 = .ok (.ldc2_w 252, 3) := dk_20 0 252 (dk_at dksX3_table_0 3 rfl rfl)
theorem dX3_table_6 : decode cX3_table 6 = .ok (.invokestatic 75, 3) := dk_184 0 75 (dk_at dksX3_table_0 6 rfl rfl)
theorem dX3_table_9 : decode cX3_table 9 = .ok (.ifCond .ne 6, 3) := dk_154 0 6 (dk_at dksX3_table_0 9 rfl rfl)
theorem dX3_table_12 : decode cX3_table 12 = .ok (.bipush (-2), 2) := dk_16 254 (dk_at dksX3_table_0 12 rfl rfl)
theorem dX3_table_14 : decode cX3_table 14 = .ok (.ireturn, 1) := dk_172 (dk_at dksX3_table_0 14 rfl rfl)
theorem dX3_table_15 : decode cX3_table 15 = .ok (.aload_n 0, 1) := dk_42 (dk_at dksX3_table_0 15 rfl rfl)
theorem dX3_table_16 : decode cX3_table 16 = .ok (.invokevirtual 246, 3) := dk_182 0 246 (dk_at dksX3_table_0 16 rfl rfl)
theorem dX3_table_19 : decode cX3_table 19 = .ok (.istore_n 2, 1) := dk_61 (dk_at dksX3_table_0 19 rfl rfl)
theorem dX3_table_20 : decode cX3_table 20 = .ok (.aload_n 0, 1) := dk_42 (dk_at dksX3_table_0 20 rfl rfl)
theorem dX3_table_21 : decode cX3_table 21 = .ok (.iload_n 2, 1) := dk_28 (dk_at dksX3_table_0 21 rfl rfl)
theorem dX3_table_22 : decode cX3_table 22 = .ok (.bipush (-6), 2) := dk_16 250 (dk_at dksX3_table_0 22 rfl rfl)
theorem dX3_table_24 : decode cX3_table 24 = .ok (.if_icmp .eq 7, 3) := dk_159 0 7 (dk_at dksX3_table_1 0 rfl rfl)
theorem dX3_table_27 : decode cX3_table 27 = .ok (.iload_n 2, 1) := dk_28 (dk_at dksX3_table_1 3 rfl rfl)
theorem dX3_table_28 : decode cX3_table 28 = .ok (.goto 42, 3) := dk_167 0 42 (dk_at dksX3_table_1 4 rfl rfl)
theorem dX3_table_31 : decode cX3_table 31 = .ok (.iload_n 1, 1) := dk_27 (dk_at dksX3_table_1 7 rfl rfl)
theorem dX3_table_32 : decode cX3_table 32 = .ok (.ifCond .ne 10, 3) := dk_154 0 10 (dk_at dksX3_table_1 8 rfl rfl)
theorem dX3_table_35 : decode cX3_table 35 = .ok (.aload_n 0, 1) := dk_42 (dk_at dksX3_table_1 11 rfl rfl)
theorem dX3_table_36 : decode cX3_table 36 = .ok (.getfield 109, 3) := dk_180 0 109 (dk_at dksX3_table_1 12 rfl rfl)
theorem dX3_table_39 : decode cX3_table 39 = .ok (.goto 31, 3) := dk_167 0 31 (dk_at dksX3_table_1 15 rfl rfl)
theorem dX3_table_42 : decode cX3_table 42 = .ok (.iload_n 1, 1) := dk_27 (dk_at dksX3_table_1 18 rfl rfl)
theorem dX3_table_43 : decode cX3_table 43 = .ok (.iconst 1, 1) := dk_4 (dk_at dksX3_table_1 19 rfl rfl)
theorem dX3_table_44 : decode cX3_table 44 = .ok (.if_icmp .ne 10, 3) := dk_160 0 10 (dk_at dksX3_table_1 20 rfl rfl)
theorem dX3_table_47 : decode cX3_table 47 = .ok (.aload_n 0, 1) := dk_42 (dk_at dksX3_table_1 23 rfl rfl)
theorem dX3_table_48 : decode cX3_table 48 = .ok (.getfield 113, 3) := dk_180 0 113 (dk_at dksX3_table_2 0 rfl rfl)
theorem dX3_table_51 : decode cX3_table 51 = .ok (.goto 19, 3) := dk_167 0 19 (dk_at dksX3_table_2 3 rfl rfl)
theorem dX3_table_54 : decode cX3_table 54 = .ok (.iload_n 1, 1) := dk_27 (dk_at dksX3_table_2 6 rfl rfl)
theorem dX3_table_55 : decode cX3_table 55 = .ok (.iconst 2, 1) := dk_5 (dk_at dksX3_table_2 7 rfl rfl)
theorem dX3_table_56 : decode cX3_table 56 = .ok (.if_icmp .ne 10, 3) := dk_160 0 10 (dk_at dksX3_table_2 8 rfl rfl)
theorem dX3_table_59 : decode cX3_table 59 = .ok (.aload_n 0, 1) := dk_42 (dk_at dksX3_table_2 11 rfl rfl)
theorem dX3_table_60 : decode cX3_table 60 = .ok (.invokevirtual 254, 3) := dk_182 0 254 (dk_at dksX3_table_2 12 rfl rfl)
theorem dX3_table_63 : decode cX3_table 63 = .ok (.goto 7, 3) := dk_167 0 7 (dk_at dksX3_table_2 15 rfl rfl)
theorem dX3_table_66 : decode cX3_table 66 = .ok (.aload_n 0, 1) := dk_42 (dk_at dksX3_table_2 18 rfl rfl)
theorem dX3_table_67 : decode cX3_table 67 = .ok (.getfield 211, 3) := dk_180 0 211 (dk_at dksX3_table_2 19 rfl rfl)
theorem dX3_table_70 : decode cX3_table 70 = .ok (.invokevirtual 249, 3) := dk_182 0 249 (dk_at dksX3_table_3 0 rfl rfl)
theorem dX3_table_73 : decode cX3_table 73 = .ok (.ireturn, 1) := dk_172 (dk_at dksX3_table_3 3 rfl rfl)
abbrev cX3_downMany : ByteArray := prog_5_method_39_code
def yX3_downMany : MethodName := ⟨RX3, "downMany", "()I"⟩
def dkwX3_downMany_1 : List UInt8 := [96, 60, 132, 2, 1, 167, 255, 231, 27, 172]
abbrev dktX3_downMany_1 : List UInt8 := dkwX3_downMany_1 ++ []
def dkwX3_downMany_0 : List UInt8 := [3, 60, 3, 61, 28, 6, 162, 0, 26, 27, 42, 180, 0, 7, 28, 46, 156, 0, 7, 4, 167, 0, 4, 3]
abbrev dktX3_downMany_0 : List UInt8 := dkwX3_downMany_0 ++ dktX3_downMany_1
theorem dksX3_downMany_0 : cX3_downMany.data.toList.drop 0 = dktX3_downMany_0 := by decide +kernel
theorem dksX3_downMany_1 : cX3_downMany.data.toList.drop 24 = dktX3_downMany_1 := dk_seg dksX3_downMany_0 24 rfl rfl
theorem dX3_downMany_0 : decode cX3_downMany 0 = .ok (.iconst 0, 1) := dk_3 (dk_at dksX3_downMany_0 0 rfl rfl)
theorem dX3_downMany_1 : decode cX3_downMany 1 = .ok (.istore_n 1, 1) := dk_60 (dk_at dksX3_downMany_0 1 rfl rfl)
theorem dX3_downMany_2 : decode cX3_downMany 2 = .ok (.iconst 0, 1) := dk_3 (dk_at dksX3_downMany_0 2 rfl rfl)
theorem dX3_downMany_3 : decode cX3_downMany 3 = .ok (.istore_n 2, 1) := dk_61 (dk_at dksX3_downMany_0 3 rfl rfl)
theorem dX3_downMany_4 : decode cX3_downMany 4 = .ok (.iload_n 2, 1) := dk_28 (dk_at dksX3_downMany_0 4 rfl rfl)
theorem dX3_downMany_5 : decode cX3_downMany 5 = .ok (.iconst 3, 1) := dk_6 (dk_at dksX3_downMany_0 5 rfl rfl)
theorem dX3_downMany_6 : decode cX3_downMany 6 = .ok (.if_icmp .ge 26, 3) := dk_162 0 26 (dk_at dksX3_downMany_0 6 rfl rfl)
theorem dX3_downMany_9 : decode cX3_downMany 9 = .ok (.iload_n 1, 1) := dk_27 (dk_at dksX3_downMany_0 9 rfl rfl)
theorem dX3_downMany_10 : decode cX3_downMany 10 = .ok (.aload_n 0, 1) := dk_42 (dk_at dksX3_downMany_0 10 rfl rfl)
theorem dX3_downMany_11 : decode cX3_downMany 11 = .ok (.getfield 7, 3) := dk_180 0 7 (dk_at dksX3_downMany_0 11 rfl rfl)
theorem dX3_downMany_14 : decode cX3_downMany 14 = .ok (.iload_n 2, 1) := dk_28 (dk_at dksX3_downMany_0 14 rfl rfl)
theorem dX3_downMany_15 : decode cX3_downMany 15 = .ok (.iaload, 1) := dk_46 (dk_at dksX3_downMany_0 15 rfl rfl)
theorem dX3_downMany_16 : decode cX3_downMany 16 = .ok (.ifCond .ge 7, 3) := dk_156 0 7 (dk_at dksX3_downMany_0 16 rfl rfl)
theorem dX3_downMany_19 : decode cX3_downMany 19 = .ok (.iconst 1, 1) := dk_4 (dk_at dksX3_downMany_0 19 rfl rfl)
theorem dX3_downMany_20 : decode cX3_downMany 20 = .ok (.goto 4, 3) := dk_167 0 4 (dk_at dksX3_downMany_0 20 rfl rfl)
theorem dX3_downMany_23 : decode cX3_downMany 23 = .ok (.iconst 0, 1) := dk_3 (dk_at dksX3_downMany_0 23 rfl rfl)
theorem dX3_downMany_24 : decode cX3_downMany 24 = .ok (.iadd, 1) := dk_96 (dk_at dksX3_downMany_1 0 rfl rfl)
theorem dX3_downMany_25 : decode cX3_downMany 25 = .ok (.istore_n 1, 1) := dk_60 (dk_at dksX3_downMany_1 1 rfl rfl)
theorem dX3_downMany_26 : decode cX3_downMany 26 = .ok (.iinc 2 1, 3) := dk_132 2 1 (dk_at dksX3_downMany_1 2 rfl rfl)
theorem dX3_downMany_29 : decode cX3_downMany 29 = .ok (.goto (-25), 3) := dk_167 255 231 (dk_at dksX3_downMany_1 5 rfl rfl)
theorem dX3_downMany_32 : decode cX3_downMany 32 = .ok (.iload_n 1, 1) := dk_27 (dk_at dksX3_downMany_1 8 rfl rfl)
theorem dX3_downMany_33 : decode cX3_downMany 33 = .ok (.ireturn, 1) := dk_172 (dk_at dksX3_downMany_1 9 rfl rfl)
abbrev cX3_candour : ByteArray := prog_5_method_41_code
def yX3_candour : MethodName := ⟨RX3, "candour", "(I)I"⟩
def dkwX3_candour_2 : List UInt8 := [172]
abbrev dktX3_candour_2 : List UInt8 := dkwX3_candour_2 ++ []
def dkwX3_candour_1 : List UInt8 := [16, 250, 159, 0, 7, 28, 167, 0, 18, 27, 154, 0, 10, 42, 180, 0, 226, 167, 0, 7, 42, 180, 0, 202]
abbrev dktX3_candour_1 : List UInt8 := dkwX3_candour_1 ++ dktX3_candour_2
def dkwX3_candour_0 : List UInt8 := [27, 133, 9, 10, 184, 0, 75, 154, 0, 6, 16, 254, 172, 42, 42, 182, 0, 246, 182, 0, 249, 61, 28]
abbrev dktX3_candour_0 : List UInt8 := dkwX3_candour_0 ++ dktX3_candour_1
theorem dksX3_candour_0 : cX3_candour.data.toList.drop 0 = dktX3_candour_0 := by decide +kernel
theorem dksX3_candour_1 : cX3_candour.data.toList.drop 23 = dktX3_candour_1 := dk_seg dksX3_candour_0 23 rfl rfl
theorem dksX3_candour_2 : cX3_candour.data.toList.drop 47 = dktX3_candour_2 := dk_seg dksX3_candour_1 24 rfl rfl
theorem dX3_candour_0 : decode cX3_candour 0 = .ok (.iload_n 1, 1) := dk_27 (dk_at dksX3_candour_0 0 rfl rfl)
theorem dX3_candour_1 : decode cX3_candour 1 = .ok (.i2l, 1) := dk_133 (dk_at dksX3_candour_0 1 rfl rfl)
theorem dX3_candour_2 : decode cX3_candour 2 = .ok (.lconst 0, 1) := dk_9 (dk_at dksX3_candour_0 2 rfl rfl)
theorem dX3_candour_3 : decode cX3_candour 3 = .ok (.lconst 1, 1) := dk_10 (dk_at dksX3_candour_0 3 rfl rfl)
theorem dX3_candour_4 : decode cX3_candour 4 = .ok (.invokestatic 75, 3) := dk_184 0 75 (dk_at dksX3_candour_0 4 rfl rfl)
theorem dX3_candour_7 : decode cX3_candour 7 = .ok (.ifCond .ne 6, 3) := dk_154 0 6 (dk_at dksX3_candour_0 7 rfl rfl)
theorem dX3_candour_10 : decode cX3_candour 10 = .ok (.bipush (-2), 2) := dk_16 254 (dk_at dksX3_candour_0 10 rfl rfl)
theorem dX3_candour_12 : decode cX3_candour 12 = .ok (.ireturn, 1) := dk_172 (dk_at dksX3_candour_0 12 rfl rfl)
theorem dX3_candour_13 : decode cX3_candour 13 = .ok (.aload_n 0, 1) := dk_42 (dk_at dksX3_candour_0 13 rfl rfl)
theorem dX3_candour_14 : decode cX3_candour 14 = .ok (.aload_n 0, 1) := dk_42 (dk_at dksX3_candour_0 14 rfl rfl)
theorem dX3_candour_15 : decode cX3_candour 15 = .ok (.invokevirtual 246, 3) := dk_182 0 246 (dk_at dksX3_candour_0 15 rfl rfl)
theorem dX3_candour_18 : decode cX3_candour 18 = .ok (.invokevirtual 249, 3) := dk_182 0 249 (dk_at dksX3_candour_0 18 rfl rfl)
theorem dX3_candour_21 : decode cX3_candour 21 = .ok (.istore_n 2, 1) := dk_61 (dk_at dksX3_candour_0 21 rfl rfl)
theorem dX3_candour_22 : decode cX3_candour 22 = .ok (.iload_n 2, 1) := dk_28 (dk_at dksX3_candour_0 22 rfl rfl)
theorem dX3_candour_23 : decode cX3_candour 23 = .ok (.bipush (-6), 2) := dk_16 250 (dk_at dksX3_candour_1 0 rfl rfl)
theorem dX3_candour_25 : decode cX3_candour 25 = .ok (.if_icmp .eq 7, 3) := dk_159 0 7 (dk_at dksX3_candour_1 2 rfl rfl)
theorem dX3_candour_28 : decode cX3_candour 28 = .ok (.iload_n 2, 1) := dk_28 (dk_at dksX3_candour_1 5 rfl rfl)
theorem dX3_candour_29 : decode cX3_candour 29 = .ok (.goto 18, 3) := dk_167 0 18 (dk_at dksX3_candour_1 6 rfl rfl)
theorem dX3_candour_32 : decode cX3_candour 32 = .ok (.iload_n 1, 1) := dk_27 (dk_at dksX3_candour_1 9 rfl rfl)
theorem dX3_candour_33 : decode cX3_candour 33 = .ok (.ifCond .ne 10, 3) := dk_154 0 10 (dk_at dksX3_candour_1 10 rfl rfl)
theorem dX3_candour_36 : decode cX3_candour 36 = .ok (.aload_n 0, 1) := dk_42 (dk_at dksX3_candour_1 13 rfl rfl)
theorem dX3_candour_37 : decode cX3_candour 37 = .ok (.getfield 226, 3) := dk_180 0 226 (dk_at dksX3_candour_1 14 rfl rfl)
theorem dX3_candour_40 : decode cX3_candour 40 = .ok (.goto 7, 3) := dk_167 0 7 (dk_at dksX3_candour_1 17 rfl rfl)
theorem dX3_candour_43 : decode cX3_candour 43 = .ok (.aload_n 0, 1) := dk_42 (dk_at dksX3_candour_1 20 rfl rfl)
theorem dX3_candour_44 : decode cX3_candour 44 = .ok (.getfield 202, 3) := dk_180 0 202 (dk_at dksX3_candour_1 21 rfl rfl)
theorem dX3_candour_47 : decode cX3_candour 47 = .ok (.ireturn, 1) := dk_172 (dk_at dksX3_candour_2 0 rfl rfl)
abbrev cX3_done : ByteArray := prog_5_method_42_code
def yX3_done : MethodName := ⟨RX3, "done", "()I"⟩
def dkwX3_done_1 : List UInt8 := [180, 0, 123, 172]
abbrev dktX3_done_1 : List UInt8 := dkwX3_done_1 ++ []
def dkwX3_done_0 : List UInt8 := [42, 182, 0, 246, 60, 27, 16, 250, 159, 0, 9, 42, 27, 182, 0, 249, 172, 42, 3, 181, 0, 120, 42]
abbrev dktX3_done_0 : List UInt8 := dkwX3_done_0 ++ dktX3_done_1
theorem dksX3_done_0 : cX3_done.data.toList.drop 0 = dktX3_done_0 := by decide +kernel
theorem dksX3_done_1 : cX3_done.data.toList.drop 23 = dktX3_done_1 := dk_seg dksX3_done_0 23 rfl rfl
theorem dX3_done_0 : decode cX3_done 0 = .ok (.aload_n 0, 1) := dk_42 (dk_at dksX3_done_0 0 rfl rfl)
theorem dX3_done_1 : decode cX3_done 1 = .ok (.invokevirtual 246, 3) := dk_182 0 246 (dk_at dksX3_done_0 1 rfl rfl)
theorem dX3_done_4 : decode cX3_done 4 = .ok (.istore_n 1, 1) := dk_60 (dk_at dksX3_done_0 4 rfl rfl)
theorem dX3_done_5 : decode cX3_done 5 = .ok (.iload_n 1, 1) := dk_27 (dk_at dksX3_done_0 5 rfl rfl)
theorem dX3_done_6 : decode cX3_done 6 = .ok (.bipush (-6), 2) := dk_16 250 (dk_at dksX3_done_0 6 rfl rfl)
theorem dX3_done_8 : decode cX3_done 8 = .ok (.if_icmp .eq 9, 3) := dk_159 0 9 (dk_at dksX3_done_0 8 rfl rfl)
theorem dX3_done_11 : decode cX3_done 11 = .ok (.aload_n 0, 1) := dk_42 (dk_at dksX3_done_0 11 rfl rfl)
theorem dX3_done_12 : decode cX3_done 12 = .ok (.iload_n 1, 1) := dk_27 (dk_at dksX3_done_0 12 rfl rfl)
theorem dX3_done_13 : decode cX3_done 13 = .ok (.invokevirtual 249, 3) := dk_182 0 249 (dk_at dksX3_done_0 13 rfl rfl)
theorem dX3_done_16 : decode cX3_done 16 = .ok (.ireturn, 1) := dk_172 (dk_at dksX3_done_0 16 rfl rfl)
theorem dX3_done_17 : decode cX3_done 17 = .ok (.aload_n 0, 1) := dk_42 (dk_at dksX3_done_0 17 rfl rfl)
theorem dX3_done_18 : decode cX3_done 18 = .ok (.iconst 0, 1) := dk_3 (dk_at dksX3_done_0 18 rfl rfl)
theorem dX3_done_19 : decode cX3_done 19 = .ok (.putfield 120, 3) := dk_181 0 120 (dk_at dksX3_done_0 19 rfl rfl)
theorem dX3_done_22 : decode cX3_done 22 = .ok (.aload_n 0, 1) := dk_42 (dk_at dksX3_done_0 22 rfl rfl)
theorem dX3_done_23 : decode cX3_done 23 = .ok (.getfield 123, 3) := dk_180 0 123 (dk_at dksX3_done_1 0 rfl rfl)
theorem dX3_done_26 : decode cX3_done 26 = .ok (.ireturn, 1) := dk_172 (dk_at dksX3_done_1 3 rfl rfl)
abbrev cX3_hint : ByteArray := prog_5_method_44_code
def yX3_hint : MethodName := ⟨RX3, "hint", "(IIII)I"⟩
def dkwX3_hint_6 : List UInt8 := [21, 4, 154, 0, 8, 21, 5, 167, 0, 5, 21, 6, 172]
abbrev dktX3_hint_6 : List UInt8 := dkwX3_hint_6 ++ []
def dkwX3_hint_5 : List UInt8 := [21, 6, 54, 6, 21, 9, 153, 0, 8, 21, 8, 167, 0, 5, 21, 5, 54, 5, 132, 7, 255, 167, 255, 176]
abbrev dktX3_hint_5 : List UInt8 := dkwX3_hint_5 ++ dktX3_hint_6
def dkwX3_hint_4 : List UInt8 := [21, 8, 21, 5, 163, 0, 7, 4, 167, 0, 4, 3, 54, 9, 21, 9, 153, 0, 8, 21, 7, 167, 0, 5]
abbrev dktX3_hint_4 : List UInt8 := dkwX3_hint_4 ++ dktX3_hint_5
def dkwX3_hint_3 : List UInt8 := [155, 0, 72, 42, 27, 28, 29, 21, 7, 182, 1, 1, 54, 8, 21, 8, 155, 0, 19, 21, 5, 155, 0, 10]
abbrev dktX3_hint_3 : List UInt8 := dkwX3_hint_3 ++ dktX3_hint_4
def dkwX3_hint_2 : List UInt8 := [16, 250, 54, 5, 16, 250, 54, 6, 16, 7, 54, 7, 21, 7, 155, 0, 81, 42, 180, 0, 7, 27, 46]
abbrev dktX3_hint_2 : List UInt8 := dkwX3_hint_2 ++ dktX3_hint_3
def dkwX3_hint_1 : List UInt8 := [20, 0, 91, 184, 0, 75, 153, 0, 14, 21, 4, 133, 9, 10, 184, 0, 75, 154, 0, 6, 16, 254, 172]
abbrev dktX3_hint_1 : List UInt8 := dkwX3_hint_1 ++ dktX3_hint_2
def dkwX3_hint_0 : List UInt8 := [27, 184, 0, 98, 153, 0, 15, 28, 184, 0, 98, 153, 0, 8, 27, 28, 160, 0, 5, 2, 172, 29, 133, 9]
abbrev dktX3_hint_0 : List UInt8 := dkwX3_hint_0 ++ dktX3_hint_1
theorem dksX3_hint_0 : cX3_hint.data.toList.drop 0 = dktX3_hint_0 := by decide +kernel
theorem dksX3_hint_1 : cX3_hint.data.toList.drop 24 = dktX3_hint_1 := dk_seg dksX3_hint_0 24 rfl rfl
theorem dksX3_hint_2 : cX3_hint.data.toList.drop 47 = dktX3_hint_2 := dk_seg dksX3_hint_1 23 rfl rfl
theorem dksX3_hint_3 : cX3_hint.data.toList.drop 70 = dktX3_hint_3 := dk_seg dksX3_hint_2 23 rfl rfl
theorem dksX3_hint_4 : cX3_hint.data.toList.drop 94 = dktX3_hint_4 := dk_seg dksX3_hint_3 24 rfl rfl
theorem dksX3_hint_5 : cX3_hint.data.toList.drop 118 = dktX3_hint_5 := dk_seg dksX3_hint_4 24 rfl rfl
theorem dksX3_hint_6 : cX3_hint.data.toList.drop 142 = dktX3_hint_6 := dk_seg dksX3_hint_5 24 rfl rfl
theorem dX3_hint_0 : decode cX3_hint 0 = .ok (.iload_n 1, 1) := dk_27 (dk_at dksX3_hint_0 0 rfl rfl)
theorem dX3_hint_1 : decode cX3_hint 1 = .ok (.invokestatic 98, 3) := dk_184 0 98 (dk_at dksX3_hint_0 1 rfl rfl)
theorem dX3_hint_4 : decode cX3_hint 4 = .ok (.ifCond .eq 15, 3) := dk_153 0 15 (dk_at dksX3_hint_0 4 rfl rfl)
theorem dX3_hint_7 : decode cX3_hint 7 = .ok (.iload_n 2, 1) := dk_28 (dk_at dksX3_hint_0 7 rfl rfl)
theorem dX3_hint_8 : decode cX3_hint 8 = .ok (.invokestatic 98, 3) := dk_184 0 98 (dk_at dksX3_hint_0 8 rfl rfl)
theorem dX3_hint_11 : decode cX3_hint 11 = .ok (.ifCond .eq 8, 3) := dk_153 0 8 (dk_at dksX3_hint_0 11 rfl rfl)
theorem dX3_hint_14 : decode cX3_hint 14 = .ok (.iload_n 1, 1) := dk_27 (dk_at dksX3_hint_0 14 rfl rfl)
theorem dX3_hint_15 : decode cX3_hint 15 = .ok (.iload_n 2, 1) := dk_28 (dk_at dksX3_hint_0 15 rfl rfl)
theorem dX3_hint_16 : decode cX3_hint 16 = .ok (.if_icmp .ne 5, 3) := dk_160 0 5 (dk_at dksX3_hint_0 16 rfl rfl)
theorem dX3_hint_19 : decode cX3_hint 19 = .ok (.iconst (-1), 1) := dk_2 (dk_at dksX3_hint_0 19 rfl rfl)
theorem dX3_hint_20 : decode cX3_hint 20 = .ok (.ireturn, 1) := dk_172 (dk_at dksX3_hint_0 20 rfl rfl)
theorem dX3_hint_21 : decode cX3_hint 21 = .ok (.iload_n 3, 1) := dk_29 (dk_at dksX3_hint_0 21 rfl rfl)
theorem dX3_hint_22 : decode cX3_hint 22 = .ok (.i2l, 1) := dk_133 (dk_at dksX3_hint_0 22 rfl rfl)
theorem dX3_hint_23 : decode cX3_hint 23 = .ok (.lconst 0, 1) := dk_9 (dk_at dksX3_hint_0 23 rfl rfl)
theorem dX3_hint_24 : decode cX3_hint 24 = .ok (.ldc2_w 91, 3) := dk_20 0 91 (dk_at dksX3_hint_1 0 rfl rfl)
theorem dX3_hint_27 : decode cX3_hint 27 = .ok (.invokestatic 75, 3) := dk_184 0 75 (dk_at dksX3_hint_1 3 rfl rfl)
theorem dX3_hint_30 : decode cX3_hint 30 = .ok (.ifCond .eq 14, 3) := dk_153 0 14 (dk_at dksX3_hint_1 6 rfl rfl)
theorem dX3_hint_33 : decode cX3_hint 33 = .ok (.iload 4, 2) := dk_21 4 (dk_at dksX3_hint_1 9 rfl rfl)
theorem dX3_hint_35 : decode cX3_hint 35 = .ok (.i2l, 1) := dk_133 (dk_at dksX3_hint_1 11 rfl rfl)
theorem dX3_hint_36 : decode cX3_hint 36 = .ok (.lconst 0, 1) := dk_9 (dk_at dksX3_hint_1 12 rfl rfl)
theorem dX3_hint_37 : decode cX3_hint 37 = .ok (.lconst 1, 1) := dk_10 (dk_at dksX3_hint_1 13 rfl rfl)
theorem dX3_hint_38 : decode cX3_hint 38 = .ok (.invokestatic 75, 3) := dk_184 0 75 (dk_at dksX3_hint_1 14 rfl rfl)
theorem dX3_hint_41 : decode cX3_hint 41 = .ok (.ifCond .ne 6, 3) := dk_154 0 6 (dk_at dksX3_hint_1 17 rfl rfl)
theorem dX3_hint_44 : decode cX3_hint 44 = .ok (.bipush (-2), 2) := dk_16 254 (dk_at dksX3_hint_1 20 rfl rfl)
theorem dX3_hint_46 : decode cX3_hint 46 = .ok (.ireturn, 1) := dk_172 (dk_at dksX3_hint_1 22 rfl rfl)
theorem dX3_hint_47 : decode cX3_hint 47 = .ok (.bipush (-6), 2) := dk_16 250 (dk_at dksX3_hint_2 0 rfl rfl)
theorem dX3_hint_49 : decode cX3_hint 49 = .ok (.istore 5, 2) := dk_54 5 (dk_at dksX3_hint_2 2 rfl rfl)
theorem dX3_hint_51 : decode cX3_hint 51 = .ok (.bipush (-6), 2) := dk_16 250 (dk_at dksX3_hint_2 4 rfl rfl)
theorem dX3_hint_53 : decode cX3_hint 53 = .ok (.istore 6, 2) := dk_54 6 (dk_at dksX3_hint_2 6 rfl rfl)
theorem dX3_hint_55 : decode cX3_hint 55 = .ok (.bipush 7, 2) := dk_16 7 (dk_at dksX3_hint_2 8 rfl rfl)
theorem dX3_hint_57 : decode cX3_hint 57 = .ok (.istore 7, 2) := dk_54 7 (dk_at dksX3_hint_2 10 rfl rfl)
theorem dX3_hint_59 : decode cX3_hint 59 = .ok (.iload 7, 2) := dk_21 7 (dk_at dksX3_hint_2 12 rfl rfl)
theorem dX3_hint_61 : decode cX3_hint 61 = .ok (.ifCond .lt 81, 3) := dk_155 0 81 (dk_at dksX3_hint_2 14 rfl rfl)
theorem dX3_hint_64 : decode cX3_hint 64 = .ok (.aload_n 0, 1) := dk_42 (dk_at dksX3_hint_2 17 rfl rfl)
theorem dX3_hint_65 : decode cX3_hint 65 = .ok (.getfield 7, 3) := dk_180 0 7 (dk_at dksX3_hint_2 18 rfl rfl)
theorem dX3_hint_68 : decode cX3_hint 68 = .ok (.iload_n 1, 1) := dk_27 (dk_at dksX3_hint_2 21 rfl rfl)
theorem dX3_hint_69 : decode cX3_hint 69 = .ok (.iaload, 1) := dk_46 (dk_at dksX3_hint_2 22 rfl rfl)
theorem dX3_hint_70 : decode cX3_hint 70 = .ok (.ifCond .lt 72, 3) := dk_155 0 72 (dk_at dksX3_hint_3 0 rfl rfl)
theorem dX3_hint_73 : decode cX3_hint 73 = .ok (.aload_n 0, 1) := dk_42 (dk_at dksX3_hint_3 3 rfl rfl)
theorem dX3_hint_74 : decode cX3_hint 74 = .ok (.iload_n 1, 1) := dk_27 (dk_at dksX3_hint_3 4 rfl rfl)
theorem dX3_hint_75 : decode cX3_hint 75 = .ok (.iload_n 2, 1) := dk_28 (dk_at dksX3_hint_3 5 rfl rfl)
theorem dX3_hint_76 : decode cX3_hint 76 = .ok (.iload_n 3, 1) := dk_29 (dk_at dksX3_hint_3 6 rfl rfl)
theorem dX3_hint_77 : decode cX3_hint 77 = .ok (.iload 7, 2) := dk_21 7 (dk_at dksX3_hint_3 7 rfl rfl)
theorem dX3_hint_79 : decode cX3_hint 79 = .ok (.invokevirtual 257, 3) := dk_182 1 1 (dk_at dksX3_hint_3 9 rfl rfl)
theorem dX3_hint_82 : decode cX3_hint 82 = .ok (.istore 8, 2) := dk_54 8 (dk_at dksX3_hint_3 12 rfl rfl)
theorem dX3_hint_84 : decode cX3_hint 84 = .ok (.iload 8, 2) := dk_21 8 (dk_at dksX3_hint_3 14 rfl rfl)
theorem dX3_hint_86 : decode cX3_hint 86 = .ok (.ifCond .lt 19, 3) := dk_155 0 19 (dk_at dksX3_hint_3 16 rfl rfl)
theorem dX3_hint_89 : decode cX3_hint 89 = .ok (.iload 5, 2) := dk_21 5 (dk_at dksX3_hint_3 19 rfl rfl)
theorem dX3_hint_91 : decode cX3_hint 91 = .ok (.ifCond .lt 10, 3) := dk_155 0 10 (dk_at dksX3_hint_3 21 rfl rfl)
theorem dX3_hint_94 : decode cX3_hint 94 = .ok (.iload 8, 2) := dk_21 8 (dk_at dksX3_hint_4 0 rfl rfl)
theorem dX3_hint_96 : decode cX3_hint 96 = .ok (.iload 5, 2) := dk_21 5 (dk_at dksX3_hint_4 2 rfl rfl)
theorem dX3_hint_98 : decode cX3_hint 98 = .ok (.if_icmp .gt 7, 3) := dk_163 0 7 (dk_at dksX3_hint_4 4 rfl rfl)
theorem dX3_hint_101 : decode cX3_hint 101 = .ok (.iconst 1, 1) := dk_4 (dk_at dksX3_hint_4 7 rfl rfl)
theorem dX3_hint_102 : decode cX3_hint 102 = .ok (.goto 4, 3) := dk_167 0 4 (dk_at dksX3_hint_4 8 rfl rfl)
theorem dX3_hint_105 : decode cX3_hint 105 = .ok (.iconst 0, 1) := dk_3 (dk_at dksX3_hint_4 11 rfl rfl)
theorem dX3_hint_106 : decode cX3_hint 106 = .ok (.istore 9, 2) := dk_54 9 (dk_at dksX3_hint_4 12 rfl rfl)
theorem dX3_hint_108 : decode cX3_hint 108 = .ok (.iload 9, 2) := dk_21 9 (dk_at dksX3_hint_4 14 rfl rfl)
theorem dX3_hint_110 : decode cX3_hint 110 = .ok (.ifCond .eq 8, 3) := dk_153 0 8 (dk_at dksX3_hint_4 16 rfl rfl)
theorem dX3_hint_113 : decode cX3_hint 113 = .ok (.iload 7, 2) := dk_21 7 (dk_at dksX3_hint_4 19 rfl rfl)
theorem dX3_hint_115 : decode cX3_hint 115 = .ok (.goto 5, 3) := dk_167 0 5 (dk_at dksX3_hint_4 21 rfl rfl)
theorem dX3_hint_118 : decode cX3_hint 118 = .ok (.iload 6, 2) := dk_21 6 (dk_at dksX3_hint_5 0 rfl rfl)
theorem dX3_hint_120 : decode cX3_hint 120 = .ok (.istore 6, 2) := dk_54 6 (dk_at dksX3_hint_5 2 rfl rfl)
theorem dX3_hint_122 : decode cX3_hint 122 = .ok (.iload 9, 2) := dk_21 9 (dk_at dksX3_hint_5 4 rfl rfl)
theorem dX3_hint_124 : decode cX3_hint 124 = .ok (.ifCond .eq 8, 3) := dk_153 0 8 (dk_at dksX3_hint_5 6 rfl rfl)
theorem dX3_hint_127 : decode cX3_hint 127 = .ok (.iload 8, 2) := dk_21 8 (dk_at dksX3_hint_5 9 rfl rfl)
theorem dX3_hint_129 : decode cX3_hint 129 = .ok (.goto 5, 3) := dk_167 0 5 (dk_at dksX3_hint_5 11 rfl rfl)
theorem dX3_hint_132 : decode cX3_hint 132 = .ok (.iload 5, 2) := dk_21 5 (dk_at dksX3_hint_5 14 rfl rfl)
theorem dX3_hint_134 : decode cX3_hint 134 = .ok (.istore 5, 2) := dk_54 5 (dk_at dksX3_hint_5 16 rfl rfl)
theorem dX3_hint_136 : decode cX3_hint 136 = .ok (.iinc 7 (-1), 3) := dk_132 7 255 (dk_at dksX3_hint_5 18 rfl rfl)
theorem dX3_hint_139 : decode cX3_hint 139 = .ok (.goto (-80), 3) := dk_167 255 176 (dk_at dksX3_hint_5 21 rfl rfl)
theorem dX3_hint_142 : decode cX3_hint 142 = .ok (.iload 4, 2) := dk_21 4 (dk_at dksX3_hint_6 0 rfl rfl)
theorem dX3_hint_144 : decode cX3_hint 144 = .ok (.ifCond .ne 8, 3) := dk_154 0 8 (dk_at dksX3_hint_6 2 rfl rfl)
theorem dX3_hint_147 : decode cX3_hint 147 = .ok (.iload 5, 2) := dk_21 5 (dk_at dksX3_hint_6 5 rfl rfl)
theorem dX3_hint_149 : decode cX3_hint 149 = .ok (.goto 5, 3) := dk_167 0 5 (dk_at dksX3_hint_6 7 rfl rfl)
theorem dX3_hint_152 : decode cX3_hint 152 = .ok (.iload 6, 2) := dk_21 6 (dk_at dksX3_hint_6 10 rfl rfl)
theorem dX3_hint_154 : decode cX3_hint 154 = .ok (.ireturn, 1) := dk_172 (dk_at dksX3_hint_6 12 rfl rfl)
abbrev cX3_stepsBy : ByteArray := prog_5_method_43_code
def yX3_stepsBy : MethodName := ⟨RX3, "stepsBy", "(IIII)I"⟩
def dkwX3_stepsBy_2 : List UInt8 := [167, 0, 5, 16, 250, 182, 0, 249, 172]
abbrev dktX3_stepsBy_2 : List UInt8 := dkwX3_stepsBy_2 ++ []
def dkwX3_stepsBy_1 : List UInt8 := [180, 0, 163, 29, 160, 0, 7, 4, 167, 0, 4, 3, 54, 5, 42, 21, 5, 153, 0, 10, 42, 180, 0, 169]
abbrev dktX3_stepsBy_1 : List UInt8 := dkwX3_stepsBy_1 ++ dktX3_stepsBy_2
def dkwX3_stepsBy_0 : List UInt8 := [42, 182, 0, 236, 42, 27, 21, 4, 16, 9, 182, 0, 195, 42, 180, 0, 157, 28, 160, 0, 15, 42]
abbrev dktX3_stepsBy_0 : List UInt8 := dkwX3_stepsBy_0 ++ dktX3_stepsBy_1
theorem dksX3_stepsBy_0 : cX3_stepsBy.data.toList.drop 0 = dktX3_stepsBy_0 := by decide +kernel
theorem dksX3_stepsBy_1 : cX3_stepsBy.data.toList.drop 22 = dktX3_stepsBy_1 := dk_seg dksX3_stepsBy_0 22 rfl rfl
theorem dksX3_stepsBy_2 : cX3_stepsBy.data.toList.drop 46 = dktX3_stepsBy_2 := dk_seg dksX3_stepsBy_1 24 rfl rfl
theorem dX3_stepsBy_0 : decode cX3_stepsBy 0 = .ok (.aload_n 0, 1) := dk_42 (dk_at dksX3_stepsBy_0 0 rfl rfl)
theorem dX3_stepsBy_1 : decode cX3_stepsBy 1 = .ok (.invokevirtual 236, 3) := dk_182 0 236 (dk_at dksX3_stepsBy_0 1 rfl rfl)
theorem dX3_stepsBy_4 : decode cX3_stepsBy 4 = .ok (.aload_n 0, 1) := dk_42 (dk_at dksX3_stepsBy_0 4 rfl rfl)
theorem dX3_stepsBy_5 : decode cX3_stepsBy 5 = .ok (.iload_n 1, 1) := dk_27 (dk_at dksX3_stepsBy_0 5 rfl rfl)
theorem dX3_stepsBy_6 : decode cX3_stepsBy 6 = .ok (.iload 4, 2) := dk_21 4 (dk_at dksX3_stepsBy_0 6 rfl rfl)
theorem dX3_stepsBy_8 : decode cX3_stepsBy 8 = .ok (.bipush 9, 2) := dk_16 9 (dk_at dksX3_stepsBy_0 8 rfl rfl)
theorem dX3_stepsBy_10 : decode cX3_stepsBy 10 = .ok (.invokevirtual 195, 3) := dk_182 0 195 (dk_at dksX3_stepsBy_0 10 rfl rfl)
theorem dX3_stepsBy_13 : decode cX3_stepsBy 13 = .ok (.aload_n 0, 1) := dk_42 (dk_at dksX3_stepsBy_0 13 rfl rfl)
theorem dX3_stepsBy_14 : decode cX3_stepsBy 14 = .ok (.getfield 157, 3) := dk_180 0 157 (dk_at dksX3_stepsBy_0 14 rfl rfl)
theorem dX3_stepsBy_17 : decode cX3_stepsBy 17 = .ok (.iload_n 2, 1) := dk_28 (dk_at dksX3_stepsBy_0 17 rfl rfl)
theorem dX3_stepsBy_18 : decode cX3_stepsBy 18 = .ok (.if_icmp .ne 15, 3) := dk_160 0 15 (dk_at dksX3_stepsBy_0 18 rfl rfl)
theorem dX3_stepsBy_21 : decode cX3_stepsBy 21 = .ok (.aload_n 0, 1) := dk_42 (dk_at dksX3_stepsBy_0 21 rfl rfl)
theorem dX3_stepsBy_22 : decode cX3_stepsBy 22 = .ok (.getfield 163, 3) := dk_180 0 163 (dk_at dksX3_stepsBy_1 0 rfl rfl)
theorem dX3_stepsBy_25 : decode cX3_stepsBy 25 = .ok (.iload_n 3, 1) := dk_29 (dk_at dksX3_stepsBy_1 3 rfl rfl)
theorem dX3_stepsBy_26 : decode cX3_stepsBy 26 = .ok (.if_icmp .ne 7, 3) := dk_160 0 7 (dk_at dksX3_stepsBy_1 4 rfl rfl)
theorem dX3_stepsBy_29 : decode cX3_stepsBy 29 = .ok (.iconst 1, 1) := dk_4 (dk_at dksX3_stepsBy_1 7 rfl rfl)
theorem dX3_stepsBy_30 : decode cX3_stepsBy 30 = .ok (.goto 4, 3) := dk_167 0 4 (dk_at dksX3_stepsBy_1 8 rfl rfl)
theorem dX3_stepsBy_33 : decode cX3_stepsBy 33 = .ok (.iconst 0, 1) := dk_3 (dk_at dksX3_stepsBy_1 11 rfl rfl)
theorem dX3_stepsBy_34 : decode cX3_stepsBy 34 = .ok (.istore 5, 2) := dk_54 5 (dk_at dksX3_stepsBy_1 12 rfl rfl)
theorem dX3_stepsBy_36 : decode cX3_stepsBy 36 = .ok (.aload_n 0, 1) := dk_42 (dk_at dksX3_stepsBy_1 14 rfl rfl)
theorem dX3_stepsBy_37 : decode cX3_stepsBy 37 = .ok (.iload 5, 2) := dk_21 5 (dk_at dksX3_stepsBy_1 15 rfl rfl)
theorem dX3_stepsBy_39 : decode cX3_stepsBy 39 = .ok (.ifCond .eq 10, 3) := dk_153 0 10 (dk_at dksX3_stepsBy_1 17 rfl rfl)
theorem dX3_stepsBy_42 : decode cX3_stepsBy 42 = .ok (.aload_n 0, 1) := dk_42 (dk_at dksX3_stepsBy_1 20 rfl rfl)
theorem dX3_stepsBy_43 : decode cX3_stepsBy 43 = .ok (.getfield 169, 3) := dk_180 0 169 (dk_at dksX3_stepsBy_1 21 rfl rfl)
theorem dX3_stepsBy_46 : decode cX3_stepsBy 46 = .ok (.goto 5, 3) := dk_167 0 5 (dk_at dksX3_stepsBy_2 0 rfl rfl)
theorem dX3_stepsBy_49 : decode cX3_stepsBy 49 = .ok (.bipush (-6), 2) := dk_16 250 (dk_at dksX3_stepsBy_2 3 rfl rfl)
theorem dX3_stepsBy_51 : decode cX3_stepsBy 51 = .ok (.invokevirtual 249, 3) := dk_182 0 249 (dk_at dksX3_stepsBy_2 5 rfl rfl)
theorem dX3_stepsBy_54 : decode cX3_stepsBy 54 = .ok (.ireturn, 1) := dk_172 (dk_at dksX3_stepsBy_2 8 rfl rfl)
abbrev cX3_alone : ByteArray := prog_5_method_49_code
def yX3_alone : MethodName := ⟨RX3, "alone", "(IIII)I"⟩
def dkwX3_alone_3 : List UInt8 := [167, 0, 23, 21, 4, 4, 160, 0, 11, 21, 5, 184, 1, 15, 167, 0, 9, 42, 21, 5, 182, 1, 18, 172]
abbrev dktX3_alone_3 : List UInt8 := dkwX3_alone_3 ++ []
def dkwX3_alone_2 : List UInt8 := [172, 16, 10, 27, 104, 28, 96, 54, 5, 21, 4, 154, 0, 15, 21, 5, 29, 184, 1, 12, 16, 10, 108]
abbrev dktX3_alone_2 : List UInt8 := dkwX3_alone_2 ++ dktX3_alone_3
def dkwX3_alone_1 : List UInt8 := [20, 1, 10, 184, 0, 75, 153, 0, 16, 21, 4, 133, 9, 20, 0, 73, 184, 0, 75, 154, 0, 6, 16, 254]
abbrev dktX3_alone_1 : List UInt8 := dkwX3_alone_1 ++ dktX3_alone_2
def dkwX3_alone_0 : List UInt8 := [27, 184, 0, 101, 154, 0, 5, 2, 172, 28, 133, 9, 20, 1, 8, 184, 0, 75, 153, 0, 28, 29, 133, 9]
abbrev dktX3_alone_0 : List UInt8 := dkwX3_alone_0 ++ dktX3_alone_1
theorem dksX3_alone_0 : cX3_alone.data.toList.drop 0 = dktX3_alone_0 := by decide +kernel
theorem dksX3_alone_1 : cX3_alone.data.toList.drop 24 = dktX3_alone_1 := dk_seg dksX3_alone_0 24 rfl rfl
theorem dksX3_alone_2 : cX3_alone.data.toList.drop 48 = dktX3_alone_2 := dk_seg dksX3_alone_1 24 rfl rfl
theorem dksX3_alone_3 : cX3_alone.data.toList.drop 71 = dktX3_alone_3 := dk_seg dksX3_alone_2 23 rfl rfl
theorem dX3_alone_0 : decode cX3_alone 0 = .ok (.iload_n 1, 1) := dk_27 (dk_at dksX3_alone_0 0 rfl rfl)
theorem dX3_alone_1 : decode cX3_alone 1 = .ok (.invokestatic 101, 3) := dk_184 0 101 (dk_at dksX3_alone_0 1 rfl rfl)
theorem dX3_alone_4 : decode cX3_alone 4 = .ok (.ifCond .ne 5, 3) := dk_154 0 5 (dk_at dksX3_alone_0 4 rfl rfl)
theorem dX3_alone_7 : decode cX3_alone 7 = .ok (.iconst (-1), 1) := dk_2 (dk_at dksX3_alone_0 7 rfl rfl)
theorem dX3_alone_8 : decode cX3_alone 8 = .ok (.ireturn, 1) := dk_172 (dk_at dksX3_alone_0 8 rfl rfl)
theorem dX3_alone_9 : decode cX3_alone 9 = .ok (.iload_n 2, 1) := dk_28 (dk_at dksX3_alone_0 9 rfl rfl)
theorem dX3_alone_10 : decode cX3_alone 10 = .ok (.i2l, 1) := dk_133 (dk_at dksX3_alone_0 10 rfl rfl)
theorem dX3_alone_11 : decode cX3_alone 11 = .ok (.lconst 0, 1) := dk_9 (dk_at dksX3_alone_0 11 rfl rfl)
theorem dX3_alone_12 : decode cX3_alone 12 = .ok (.ldc2_w 264, 3) := dk_20 1 8 (dk_at dksX3_alone_0 12 rfl rfl)
theorem dX3_alone_15 : decode cX3_alone 15 = .ok (.invokestatic 75, 3) := dk_184 0 75 (dk_at dksX3_alone_0 15 rfl rfl)
theorem dX3_alone_18 : decode cX3_alone 18 = .ok (.ifCond .eq 28, 3) := dk_153 0 28 (dk_at dksX3_alone_0 18 rfl rfl)
theorem dX3_alone_21 : decode cX3_alone 21 = .ok (.iload_n 3, 1) := dk_29 (dk_at dksX3_alone_0 21 rfl rfl)
theorem dX3_alone_22 : decode cX3_alone 22 = .ok (.i2l, 1) := dk_133 (dk_at dksX3_alone_0 22 rfl rfl)
theorem dX3_alone_23 : decode cX3_alone 23 = .ok (.lconst 0, 1) := dk_9 (dk_at dksX3_alone_0 23 rfl rfl)
theorem dX3_alone_24 : decode cX3_alone 24 = .ok (.ldc2_w 266, 3) := dk_20 1 10 (dk_at dksX3_alone_1 0 rfl rfl)
theorem dX3_alone_27 : decode cX3_alone 27 = .ok (.invokestatic 75, 3) := dk_184 0 75 (dk_at dksX3_alone_1 3 rfl rfl)
theorem dX3_alone_30 : decode cX3_alone 30 = .ok (.ifCond .eq 16, 3) := dk_153 0 16 (dk_at dksX3_alone_1 6 rfl rfl)
theorem dX3_alone_33 : decode cX3_alone 33 = .ok (.iload 4, 2) := dk_21 4 (dk_at dksX3_alone_1 9 rfl rfl)
theorem dX3_alone_35 : decode cX3_alone 35 = .ok (.i2l, 1) := dk_133 (dk_at dksX3_alone_1 11 rfl rfl)
theorem dX3_alone_36 : decode cX3_alone 36 = .ok (.lconst 0, 1) := dk_9 (dk_at dksX3_alone_1 12 rfl rfl)
theorem dX3_alone_37 : decode cX3_alone 37 = .ok (.ldc2_w 73, 3) := dk_20 0 73 (dk_at dksX3_alone_1 13 rfl rfl)
theorem dX3_alone_40 : decode cX3_alone 40 = .ok (.invokestatic 75, 3) := dk_184 0 75 (dk_at dksX3_alone_1 16 rfl rfl)
theorem dX3_alone_43 : decode cX3_alone 43 = .ok (.ifCond .ne 6, 3) := dk_154 0 6 (dk_at dksX3_alone_1 19 rfl rfl)
theorem dX3_alone_46 : decode cX3_alone 46 = .ok (.bipush (-2), 2) := dk_16 254 (dk_at dksX3_alone_1 22 rfl rfl)
theorem dX3_alone_48 : decode cX3_alone 48 = .ok (.ireturn, 1) := dk_172 (dk_at dksX3_alone_2 0 rfl rfl)
theorem dX3_alone_49 : decode cX3_alone 49 = .ok (.bipush 10, 2) := dk_16 10 (dk_at dksX3_alone_2 1 rfl rfl)
theorem dX3_alone_51 : decode cX3_alone 51 = .ok (.iload_n 1, 1) := dk_27 (dk_at dksX3_alone_2 3 rfl rfl)
theorem dX3_alone_52 : decode cX3_alone 52 = .ok (.imul, 1) := dk_104 (dk_at dksX3_alone_2 4 rfl rfl)
theorem dX3_alone_53 : decode cX3_alone 53 = .ok (.iload_n 2, 1) := dk_28 (dk_at dksX3_alone_2 5 rfl rfl)
theorem dX3_alone_54 : decode cX3_alone 54 = .ok (.iadd, 1) := dk_96 (dk_at dksX3_alone_2 6 rfl rfl)
theorem dX3_alone_55 : decode cX3_alone 55 = .ok (.istore 5, 2) := dk_54 5 (dk_at dksX3_alone_2 7 rfl rfl)
theorem dX3_alone_57 : decode cX3_alone 57 = .ok (.iload 4, 2) := dk_21 4 (dk_at dksX3_alone_2 9 rfl rfl)
theorem dX3_alone_59 : decode cX3_alone 59 = .ok (.ifCond .ne 15, 3) := dk_154 0 15 (dk_at dksX3_alone_2 11 rfl rfl)
theorem dX3_alone_62 : decode cX3_alone 62 = .ok (.iload 5, 2) := dk_21 5 (dk_at dksX3_alone_2 14 rfl rfl)
theorem dX3_alone_64 : decode cX3_alone 64 = .ok (.iload_n 3, 1) := dk_29 (dk_at dksX3_alone_2 16 rfl rfl)
theorem dX3_alone_65 : decode cX3_alone 65 = .ok (.invokestatic 268, 3) := dk_184 1 12 (dk_at dksX3_alone_2 17 rfl rfl)
theorem dX3_alone_68 : decode cX3_alone 68 = .ok (.bipush 10, 2) := dk_16 10 (dk_at dksX3_alone_2 20 rfl rfl)
theorem dX3_alone_70 : decode cX3_alone 70 = .ok (.idiv, 1) := dk_108 (dk_at dksX3_alone_2 22 rfl rfl)
theorem dX3_alone_71 : decode cX3_alone 71 = .ok (.goto 23, 3) := dk_167 0 23 (dk_at dksX3_alone_3 0 rfl rfl)
theorem dX3_alone_74 : decode cX3_alone 74 = .ok (.iload 4, 2) := dk_21 4 (dk_at dksX3_alone_3 3 rfl rfl)
theorem dX3_alone_76 : decode cX3_alone 76 = .ok (.iconst 1, 1) := dk_4 (dk_at dksX3_alone_3 5 rfl rfl)
theorem dX3_alone_77 : decode cX3_alone 77 = .ok (.if_icmp .ne 11, 3) := dk_160 0 11 (dk_at dksX3_alone_3 6 rfl rfl)
theorem dX3_alone_80 : decode cX3_alone 80 = .ok (.iload 5, 2) := dk_21 5 (dk_at dksX3_alone_3 9 rfl rfl)
theorem dX3_alone_82 : decode cX3_alone 82 = .ok (.invokestatic 271, 3) := dk_184 1 15 (dk_at dksX3_alone_3 11 rfl rfl)
theorem dX3_alone_85 : decode cX3_alone 85 = .ok (.goto 9, 3) := dk_167 0 9 (dk_at dksX3_alone_3 14 rfl rfl)
theorem dX3_alone_88 : decode cX3_alone 88 = .ok (.aload_n 0, 1) := dk_42 (dk_at dksX3_alone_3 17 rfl rfl)
theorem dX3_alone_89 : decode cX3_alone 89 = .ok (.iload 5, 2) := dk_21 5 (dk_at dksX3_alone_3 18 rfl rfl)
theorem dX3_alone_91 : decode cX3_alone 91 = .ok (.invokevirtual 274, 3) := dk_182 1 18 (dk_at dksX3_alone_3 20 rfl rfl)
theorem dX3_alone_94 : decode cX3_alone 94 = .ok (.ireturn, 1) := dk_172 (dk_at dksX3_alone_3 23 rfl rfl)
abbrev cX3_behindSteps : ByteArray := prog_5_method_46_code
def yX3_behindSteps : MethodName := ⟨RX3, "behindSteps", "(II)I"⟩
def dkwX3_behindSteps_0 : List UInt8 := [26, 61, 3, 62, 29, 27, 162, 0, 14, 28, 184, 1, 5, 61, 132, 3, 1, 167, 255, 243, 28, 172]
abbrev dktX3_behindSteps_0 : List UInt8 := dkwX3_behindSteps_0 ++ []
theorem dksX3_behindSteps_0 : cX3_behindSteps.data.toList.drop 0 = dktX3_behindSteps_0 := by decide +kernel
theorem dX3_behindSteps_0 : decode cX3_behindSteps 0 = .ok (.iload_n 0, 1) := dk_26 (dk_at dksX3_behindSteps_0 0 rfl rfl)
theorem dX3_behindSteps_1 : decode cX3_behindSteps 1 = .ok (.istore_n 2, 1) := dk_61 (dk_at dksX3_behindSteps_0 1 rfl rfl)
theorem dX3_behindSteps_2 : decode cX3_behindSteps 2 = .ok (.iconst 0, 1) := dk_3 (dk_at dksX3_behindSteps_0 2 rfl rfl)
theorem dX3_behindSteps_3 : decode cX3_behindSteps 3 = .ok (.istore_n 3, 1) := dk_62 (dk_at dksX3_behindSteps_0 3 rfl rfl)
theorem dX3_behindSteps_4 : decode cX3_behindSteps 4 = .ok (.iload_n 3, 1) := dk_29 (dk_at dksX3_behindSteps_0 4 rfl rfl)
theorem dX3_behindSteps_5 : decode cX3_behindSteps 5 = .ok (.iload_n 1, 1) := dk_27 (dk_at dksX3_behindSteps_0 5 rfl rfl)
theorem dX3_behindSteps_6 : decode cX3_behindSteps 6 = .ok (.if_icmp .ge 14, 3) := dk_162 0 14 (dk_at dksX3_behindSteps_0 6 rfl rfl)
theorem dX3_behindSteps_9 : decode cX3_behindSteps 9 = .ok (.iload_n 2, 1) := dk_28 (dk_at dksX3_behindSteps_0 9 rfl rfl)
theorem dX3_behindSteps_10 : decode cX3_behindSteps 10 = .ok (.invokestatic 261, 3) := dk_184 1 5 (dk_at dksX3_behindSteps_0 10 rfl rfl)
theorem dX3_behindSteps_13 : decode cX3_behindSteps 13 = .ok (.istore_n 2, 1) := dk_61 (dk_at dksX3_behindSteps_0 13 rfl rfl)
theorem dX3_behindSteps_14 : decode cX3_behindSteps 14 = .ok (.iinc 3 1, 3) := dk_132 3 1 (dk_at dksX3_behindSteps_0 14 rfl rfl)
theorem dX3_behindSteps_17 : decode cX3_behindSteps 17 = .ok (.goto (-13), 3) := dk_167 255 243 (dk_at dksX3_behindSteps_0 17 rfl rfl)
theorem dX3_behindSteps_20 : decode cX3_behindSteps 20 = .ok (.iload_n 2, 1) := dk_28 (dk_at dksX3_behindSteps_0 20 rfl rfl)
theorem dX3_behindSteps_21 : decode cX3_behindSteps 21 = .ok (.ireturn, 1) := dk_172 (dk_at dksX3_behindSteps_0 21 rfl rfl)
abbrev cX3_next : ByteArray := prog_5_method_45_code
def yX3_next : MethodName := ⟨RX3, "next", "(I)I"⟩
def dkwX3_next_1 : List UInt8 := [96, 172]
abbrev dktX3_next_1 : List UInt8 := dkwX3_next_1 ++ []
def dkwX3_next_0 : List UInt8 := [26, 16, 10, 108, 26, 16, 10, 112, 184, 0, 178, 60, 16, 10, 26, 16, 10, 108, 27, 184, 0, 181, 104, 27]
abbrev dktX3_next_0 : List UInt8 := dkwX3_next_0 ++ dktX3_next_1
theorem dksX3_next_0 : cX3_next.data.toList.drop 0 = dktX3_next_0 := by decide +kernel
theorem dksX3_next_1 : cX3_next.data.toList.drop 24 = dktX3_next_1 := dk_seg dksX3_next_0 24 rfl rfl
theorem dX3_next_0 : decode cX3_next 0 = .ok (.iload_n 0, 1) := dk_26 (dk_at dksX3_next_0 0 rfl rfl)
theorem dX3_next_1 : decode cX3_next 1 = .ok (.bipush 10, 2) := dk_16 10 (dk_at dksX3_next_0 1 rfl rfl)
theorem dX3_next_3 : decode cX3_next 3 = .ok (.idiv, 1) := dk_108 (dk_at dksX3_next_0 3 rfl rfl)
theorem dX3_next_4 : decode cX3_next 4 = .ok (.iload_n 0, 1) := dk_26 (dk_at dksX3_next_0 4 rfl rfl)
theorem dX3_next_5 : decode cX3_next 5 = .ok (.bipush 10, 2) := dk_16 10 (dk_at dksX3_next_0 5 rfl rfl)
theorem dX3_next_7 : decode cX3_next 7 = .ok (.irem, 1) := dk_112 (dk_at dksX3_next_0 7 rfl rfl)
theorem dX3_next_8 : decode cX3_next 8 = .ok (.invokestatic 178, 3) := dk_184 0 178 (dk_at dksX3_next_0 8 rfl rfl)
theorem dX3_next_11 : decode cX3_next 11 = .ok (.istore_n 1, 1) := dk_60 (dk_at dksX3_next_0 11 rfl rfl)
theorem dX3_next_12 : decode cX3_next 12 = .ok (.bipush 10, 2) := dk_16 10 (dk_at dksX3_next_0 12 rfl rfl)
theorem dX3_next_14 : decode cX3_next 14 = .ok (.iload_n 0, 1) := dk_26 (dk_at dksX3_next_0 14 rfl rfl)
theorem dX3_next_15 : decode cX3_next 15 = .ok (.bipush 10, 2) := dk_16 10 (dk_at dksX3_next_0 15 rfl rfl)
theorem dX3_next_17 : decode cX3_next 17 = .ok (.idiv, 1) := dk_108 (dk_at dksX3_next_0 17 rfl rfl)
theorem dX3_next_18 : decode cX3_next 18 = .ok (.iload_n 1, 1) := dk_27 (dk_at dksX3_next_0 18 rfl rfl)
theorem dX3_next_19 : decode cX3_next 19 = .ok (.invokestatic 181, 3) := dk_184 0 181 (dk_at dksX3_next_0 19 rfl rfl)
theorem dX3_next_22 : decode cX3_next 22 = .ok (.imul, 1) := dk_104 (dk_at dksX3_next_0 22 rfl rfl)
theorem dX3_next_23 : decode cX3_next 23 = .ok (.iload_n 1, 1) := dk_27 (dk_at dksX3_next_0 23 rfl rfl)
theorem dX3_next_24 : decode cX3_next 24 = .ok (.iadd, 1) := dk_96 (dk_at dksX3_next_1 0 rfl rfl)
theorem dX3_next_25 : decode cX3_next 25 = .ok (.ireturn, 1) := dk_172 (dk_at dksX3_next_1 1 rfl rfl)
abbrev cX3_stepsBack : ByteArray := prog_5_method_48_code
def yX3_stepsBack : MethodName := ⟨RX3, "stepsBack", "(I)I"⟩
def dkwX3_stepsBack_1 : List UInt8 := [184, 1, 5, 60, 132, 2, 1, 167, 255, 234, 16, 250, 172]
abbrev dktX3_stepsBack_1 : List UInt8 := dkwX3_stepsBack_1 ++ []
def dkwX3_stepsBack_0 : List UInt8 := [26, 184, 1, 5, 60, 4, 61, 28, 17, 1, 144, 162, 0, 21, 27, 26, 160, 0, 5, 28, 172, 27]
abbrev dktX3_stepsBack_0 : List UInt8 := dkwX3_stepsBack_0 ++ dktX3_stepsBack_1
theorem dksX3_stepsBack_0 : cX3_stepsBack.data.toList.drop 0 = dktX3_stepsBack_0 := by decide +kernel
theorem dksX3_stepsBack_1 : cX3_stepsBack.data.toList.drop 22 = dktX3_stepsBack_1 := dk_seg dksX3_stepsBack_0 22 rfl rfl
theorem dX3_stepsBack_0 : decode cX3_stepsBack 0 = .ok (.iload_n 0, 1) := dk_26 (dk_at dksX3_stepsBack_0 0 rfl rfl)
theorem dX3_stepsBack_1 : decode cX3_stepsBack 1 = .ok (.invokestatic 261, 3) := dk_184 1 5 (dk_at dksX3_stepsBack_0 1 rfl rfl)
theorem dX3_stepsBack_4 : decode cX3_stepsBack 4 = .ok (.istore_n 1, 1) := dk_60 (dk_at dksX3_stepsBack_0 4 rfl rfl)
theorem dX3_stepsBack_5 : decode cX3_stepsBack 5 = .ok (.iconst 1, 1) := dk_4 (dk_at dksX3_stepsBack_0 5 rfl rfl)
theorem dX3_stepsBack_6 : decode cX3_stepsBack 6 = .ok (.istore_n 2, 1) := dk_61 (dk_at dksX3_stepsBack_0 6 rfl rfl)
theorem dX3_stepsBack_7 : decode cX3_stepsBack 7 = .ok (.iload_n 2, 1) := dk_28 (dk_at dksX3_stepsBack_0 7 rfl rfl)
theorem dX3_stepsBack_8 : decode cX3_stepsBack 8 = .ok (.sipush 400, 3) := dk_17 1 144 (dk_at dksX3_stepsBack_0 8 rfl rfl)
theorem dX3_stepsBack_11 : decode cX3_stepsBack 11 = .ok (.if_icmp .ge 21, 3) := dk_162 0 21 (dk_at dksX3_stepsBack_0 11 rfl rfl)
theorem dX3_stepsBack_14 : decode cX3_stepsBack 14 = .ok (.iload_n 1, 1) := dk_27 (dk_at dksX3_stepsBack_0 14 rfl rfl)
theorem dX3_stepsBack_15 : decode cX3_stepsBack 15 = .ok (.iload_n 0, 1) := dk_26 (dk_at dksX3_stepsBack_0 15 rfl rfl)
theorem dX3_stepsBack_16 : decode cX3_stepsBack 16 = .ok (.if_icmp .ne 5, 3) := dk_160 0 5 (dk_at dksX3_stepsBack_0 16 rfl rfl)
theorem dX3_stepsBack_19 : decode cX3_stepsBack 19 = .ok (.iload_n 2, 1) := dk_28 (dk_at dksX3_stepsBack_0 19 rfl rfl)
theorem dX3_stepsBack_20 : decode cX3_stepsBack 20 = .ok (.ireturn, 1) := dk_172 (dk_at dksX3_stepsBack_0 20 rfl rfl)
theorem dX3_stepsBack_21 : decode cX3_stepsBack 21 = .ok (.iload_n 1, 1) := dk_27 (dk_at dksX3_stepsBack_0 21 rfl rfl)
theorem dX3_stepsBack_22 : decode cX3_stepsBack 22 = .ok (.invokestatic 261, 3) := dk_184 1 5 (dk_at dksX3_stepsBack_1 0 rfl rfl)
theorem dX3_stepsBack_25 : decode cX3_stepsBack 25 = .ok (.istore_n 1, 1) := dk_60 (dk_at dksX3_stepsBack_1 3 rfl rfl)
theorem dX3_stepsBack_26 : decode cX3_stepsBack 26 = .ok (.iinc 2 1, 3) := dk_132 2 1 (dk_at dksX3_stepsBack_1 4 rfl rfl)
theorem dX3_stepsBack_29 : decode cX3_stepsBack 29 = .ok (.goto (-22), 3) := dk_167 255 234 (dk_at dksX3_stepsBack_1 7 rfl rfl)
theorem dX3_stepsBack_32 : decode cX3_stepsBack 32 = .ok (.bipush (-6), 2) := dk_16 250 (dk_at dksX3_stepsBack_1 10 rfl rfl)
theorem dX3_stepsBack_34 : decode cX3_stepsBack 34 = .ok (.ireturn, 1) := dk_172 (dk_at dksX3_stepsBack_1 12 rfl rfl)
abbrev cX3_metMany : ByteArray := prog_5_method_47_code
def yX3_metMany : MethodName := ⟨RX3, "metMany", "(I)I"⟩
def dkwX3_metMany_3 : List UInt8 := [61, 132, 4, 1, 167, 255, 210, 29, 172]
abbrev dktX3_metMany_3 : List UInt8 := dkwX3_metMany_3 ++ []
def dkwX3_metMany_2 : List UInt8 := [153, 0, 7, 3, 167, 0, 4, 4, 96, 62, 42, 180, 0, 40, 28, 16, 10, 108, 4, 84, 28, 184, 1, 5]
abbrev dktX3_metMany_2 : List UInt8 := dkwX3_metMany_2 ++ dktX3_metMany_3
def dkwX3_metMany_1 : List UInt8 := [62, 3, 54, 4, 21, 4, 17, 1, 144, 162, 0, 44, 29, 42, 180, 0, 40, 28, 16, 10, 108, 51]
abbrev dktX3_metMany_1 : List UInt8 := dkwX3_metMany_1 ++ dktX3_metMany_2
def dkwX3_metMany_0 : List UInt8 := [3, 61, 28, 16, 45, 162, 0, 16, 42, 180, 0, 40, 28, 3, 84, 132, 2, 1, 167, 255, 240, 27, 61, 3]
abbrev dktX3_metMany_0 : List UInt8 := dkwX3_metMany_0 ++ dktX3_metMany_1
theorem dksX3_metMany_0 : cX3_metMany.data.toList.drop 0 = dktX3_metMany_0 := by decide +kernel
theorem dksX3_metMany_1 : cX3_metMany.data.toList.drop 24 = dktX3_metMany_1 := dk_seg dksX3_metMany_0 24 rfl rfl
theorem dksX3_metMany_2 : cX3_metMany.data.toList.drop 46 = dktX3_metMany_2 := dk_seg dksX3_metMany_1 22 rfl rfl
theorem dksX3_metMany_3 : cX3_metMany.data.toList.drop 70 = dktX3_metMany_3 := dk_seg dksX3_metMany_2 24 rfl rfl
theorem dX3_metMany_0 : decode cX3_metMany 0 = .ok (.iconst 0, 1) := dk_3 (dk_at dksX3_metMany_0 0 rfl rfl)
theorem dX3_metMany_1 : decode cX3_metMany 1 = .ok (.istore_n 2, 1) := dk_61 (dk_at dksX3_metMany_0 1 rfl rfl)
theorem dX3_metMany_2 : decode cX3_metMany 2 = .ok (.iload_n 2, 1) := dk_28 (dk_at dksX3_metMany_0 2 rfl rfl)
theorem dX3_metMany_3 : decode cX3_metMany 3 = .ok (.bipush 45, 2) := dk_16 45 (dk_at dksX3_metMany_0 3 rfl rfl)
theorem dX3_metMany_5 : decode cX3_metMany 5 = .ok (.if_icmp .ge 16, 3) := dk_162 0 16 (dk_at dksX3_metMany_0 5 rfl rfl)
theorem dX3_metMany_8 : decode cX3_metMany 8 = .ok (.aload_n 0, 1) := dk_42 (dk_at dksX3_metMany_0 8 rfl rfl)
theorem dX3_metMany_9 : decode cX3_metMany 9 = .ok (.getfield 40, 3) := dk_180 0 40 (dk_at dksX3_metMany_0 9 rfl rfl)
theorem dX3_metMany_12 : decode cX3_metMany 12 = .ok (.iload_n 2, 1) := dk_28 (dk_at dksX3_metMany_0 12 rfl rfl)
theorem dX3_metMany_13 : decode cX3_metMany 13 = .ok (.iconst 0, 1) := dk_3 (dk_at dksX3_metMany_0 13 rfl rfl)
theorem dX3_metMany_14 : decode cX3_metMany 14 = .ok (.bastore, 1) := dk_84 (dk_at dksX3_metMany_0 14 rfl rfl)
theorem dX3_metMany_15 : decode cX3_metMany 15 = .ok (.iinc 2 1, 3) := dk_132 2 1 (dk_at dksX3_metMany_0 15 rfl rfl)
theorem dX3_metMany_18 : decode cX3_metMany 18 = .ok (.goto (-16), 3) := dk_167 255 240 (dk_at dksX3_metMany_0 18 rfl rfl)
theorem dX3_metMany_21 : decode cX3_metMany 21 = .ok (.iload_n 1, 1) := dk_27 (dk_at dksX3_metMany_0 21 rfl rfl)
theorem dX3_metMany_22 : decode cX3_metMany 22 = .ok (.istore_n 2, 1) := dk_61 (dk_at dksX3_metMany_0 22 rfl rfl)
theorem dX3_metMany_23 : decode cX3_metMany 23 = .ok (.iconst 0, 1) := dk_3 (dk_at dksX3_metMany_0 23 rfl rfl)
theorem dX3_metMany_24 : decode cX3_metMany 24 = .ok (.istore_n 3, 1) := dk_62 (dk_at dksX3_metMany_1 0 rfl rfl)
theorem dX3_metMany_25 : decode cX3_metMany 25 = .ok (.iconst 0, 1) := dk_3 (dk_at dksX3_metMany_1 1 rfl rfl)
theorem dX3_metMany_26 : decode cX3_metMany 26 = .ok (.istore 4, 2) := dk_54 4 (dk_at dksX3_metMany_1 2 rfl rfl)
theorem dX3_metMany_28 : decode cX3_metMany 28 = .ok (.iload 4, 2) := dk_21 4 (dk_at dksX3_metMany_1 4 rfl rfl)
theorem dX3_metMany_30 : decode cX3_metMany 30 = .ok (.sipush 400, 3) := dk_17 1 144 (dk_at dksX3_metMany_1 6 rfl rfl)
theorem dX3_metMany_33 : decode cX3_metMany 33 = .ok (.if_icmp .ge 44, 3) := dk_162 0 44 (dk_at dksX3_metMany_1 9 rfl rfl)
theorem dX3_metMany_36 : decode cX3_metMany 36 = .ok (.iload_n 3, 1) := dk_29 (dk_at dksX3_metMany_1 12 rfl rfl)
theorem dX3_metMany_37 : decode cX3_metMany 37 = .ok (.aload_n 0, 1) := dk_42 (dk_at dksX3_metMany_1 13 rfl rfl)
theorem dX3_metMany_38 : decode cX3_metMany 38 = .ok (.getfield 40, 3) := dk_180 0 40 (dk_at dksX3_metMany_1 14 rfl rfl)
theorem dX3_metMany_41 : decode cX3_metMany 41 = .ok (.iload_n 2, 1) := dk_28 (dk_at dksX3_metMany_1 17 rfl rfl)
theorem dX3_metMany_42 : decode cX3_metMany 42 = .ok (.bipush 10, 2) := dk_16 10 (dk_at dksX3_metMany_1 18 rfl rfl)
theorem dX3_metMany_44 : decode cX3_metMany 44 = .ok (.idiv, 1) := dk_108 (dk_at dksX3_metMany_1 20 rfl rfl)
theorem dX3_metMany_45 : decode cX3_metMany 45 = .ok (.baload, 1) := dk_51 (dk_at dksX3_metMany_1 21 rfl rfl)
theorem dX3_metMany_46 : decode cX3_metMany 46 = .ok (.ifCond .eq 7, 3) := dk_153 0 7 (dk_at dksX3_metMany_2 0 rfl rfl)
theorem dX3_metMany_49 : decode cX3_metMany 49 = .ok (.iconst 0, 1) := dk_3 (dk_at dksX3_metMany_2 3 rfl rfl)
theorem dX3_metMany_50 : decode cX3_metMany 50 = .ok (.goto 4, 3) := dk_167 0 4 (dk_at dksX3_metMany_2 4 rfl rfl)
theorem dX3_metMany_53 : decode cX3_metMany 53 = .ok (.iconst 1, 1) := dk_4 (dk_at dksX3_metMany_2 7 rfl rfl)
theorem dX3_metMany_54 : decode cX3_metMany 54 = .ok (.iadd, 1) := dk_96 (dk_at dksX3_metMany_2 8 rfl rfl)
theorem dX3_metMany_55 : decode cX3_metMany 55 = .ok (.istore_n 3, 1) := dk_62 (dk_at dksX3_metMany_2 9 rfl rfl)
theorem dX3_metMany_56 : decode cX3_metMany 56 = .ok (.aload_n 0, 1) := dk_42 (dk_at dksX3_metMany_2 10 rfl rfl)
theorem dX3_metMany_57 : decode cX3_metMany 57 = .ok (.getfield 40, 3) := dk_180 0 40 (dk_at dksX3_metMany_2 11 rfl rfl)
theorem dX3_metMany_60 : decode cX3_metMany 60 = .ok (.iload_n 2, 1) := dk_28 (dk_at dksX3_metMany_2 14 rfl rfl)
theorem dX3_metMany_61 : decode cX3_metMany 61 = .ok (.bipush 10, 2) := dk_16 10 (dk_at dksX3_metMany_2 15 rfl rfl)
theorem dX3_metMany_63 : decode cX3_metMany 63 = .ok (.idiv, 1) := dk_108 (dk_at dksX3_metMany_2 17 rfl rfl)
theorem dX3_metMany_64 : decode cX3_metMany 64 = .ok (.iconst 1, 1) := dk_4 (dk_at dksX3_metMany_2 18 rfl rfl)
theorem dX3_metMany_65 : decode cX3_metMany 65 = .ok (.bastore, 1) := dk_84 (dk_at dksX3_metMany_2 19 rfl rfl)
theorem dX3_metMany_66 : decode cX3_metMany 66 = .ok (.iload_n 2, 1) := dk_28 (dk_at dksX3_metMany_2 20 rfl rfl)
theorem dX3_metMany_67 : decode cX3_metMany 67 = .ok (.invokestatic 261, 3) := dk_184 1 5 (dk_at dksX3_metMany_2 21 rfl rfl)
theorem dX3_metMany_70 : decode cX3_metMany 70 = .ok (.istore_n 2, 1) := dk_61 (dk_at dksX3_metMany_3 0 rfl rfl)
theorem dX3_metMany_71 : decode cX3_metMany 71 = .ok (.iinc 4 1, 3) := dk_132 4 1 (dk_at dksX3_metMany_3 1 rfl rfl)
theorem dX3_metMany_74 : decode cX3_metMany 74 = .ok (.goto (-46), 3) := dk_167 255 210 (dk_at dksX3_metMany_3 4 rfl rfl)
theorem dX3_metMany_77 : decode cX3_metMany 77 = .ok (.iload_n 3, 1) := dk_29 (dk_at dksX3_metMany_3 7 rfl rfl)
theorem dX3_metMany_78 : decode cX3_metMany 78 = .ok (.ireturn, 1) := dk_172 (dk_at dksX3_metMany_3 8 rfl rfl)
abbrev cX3_strokes : ByteArray := prog_5_method_53_code
def yX3_strokes : MethodName := ⟨RX3, "strokes", "(III)I"⟩
def dkwX3_strokes_5 : List UInt8 := [27, 42, 180, 0, 44, 27, 46, 4, 100, 182, 1, 25, 172]
abbrev dktX3_strokes_5 : List UInt8 := dkwX3_strokes_5 ++ []
def dkwX3_strokes_4 : List UInt8 := [180, 0, 44, 27, 46, 167, 0, 31, 42, 180, 0, 44, 27, 46, 4, 162, 0, 8, 16, 250, 167, 0, 16, 42]
abbrev dktX3_strokes_4 : List UInt8 := dkwX3_strokes_4 ++ dktX3_strokes_5
def dkwX3_strokes_3 : List UInt8 := [21, 4, 153, 0, 17, 42, 21, 5, 182, 1, 28, 54, 4, 132, 5, 1, 167, 255, 240, 29, 154, 0, 12, 42]
abbrev dktX3_strokes_3 : List UInt8 := dkwX3_strokes_3 ++ dktX3_strokes_4
def dkwX3_strokes_2 : List UInt8 := [28, 160, 0, 7, 3, 167, 0, 5, 16, 250, 79, 132, 4, 1, 167, 255, 227, 4, 54, 4, 4, 54, 5]
abbrev dktX3_strokes_2 : List UInt8 := dkwX3_strokes_2 ++ dktX3_strokes_3
def dkwX3_strokes_1 : List UInt8 := [154, 0, 6, 16, 254, 172, 3, 54, 4, 21, 4, 16, 45, 162, 0, 28, 42, 180, 0, 44, 21, 4, 21, 4]
abbrev dktX3_strokes_1 : List UInt8 := dkwX3_strokes_1 ++ dktX3_strokes_2
def dkwX3_strokes_0 : List UInt8 := [27, 184, 0, 101, 153, 0, 10, 28, 184, 0, 101, 154, 0, 5, 2, 172, 29, 133, 9, 10, 184, 0, 75]
abbrev dktX3_strokes_0 : List UInt8 := dkwX3_strokes_0 ++ dktX3_strokes_1
theorem dksX3_strokes_0 : cX3_strokes.data.toList.drop 0 = dktX3_strokes_0 := by decide +kernel
theorem dksX3_strokes_1 : cX3_strokes.data.toList.drop 23 = dktX3_strokes_1 := dk_seg dksX3_strokes_0 23 rfl rfl
theorem dksX3_strokes_2 : cX3_strokes.data.toList.drop 47 = dktX3_strokes_2 := dk_seg dksX3_strokes_1 24 rfl rfl
theorem dksX3_strokes_3 : cX3_strokes.data.toList.drop 70 = dktX3_strokes_3 := dk_seg dksX3_strokes_2 23 rfl rfl
theorem dksX3_strokes_4 : cX3_strokes.data.toList.drop 94 = dktX3_strokes_4 := dk_seg dksX3_strokes_3 24 rfl rfl
theorem dksX3_strokes_5 : cX3_strokes.data.toList.drop 118 = dktX3_strokes_5 := dk_seg dksX3_strokes_4 24 rfl rfl
theorem dX3_strokes_0 : decode cX3_strokes 0 = .ok (.iload_n 1, 1) := dk_27 (dk_at dksX3_strokes_0 0 rfl rfl)
theorem dX3_strokes_1 : decode cX3_strokes 1 = .ok (.invokestatic 101, 3) := dk_184 0 101 (dk_at dksX3_strokes_0 1 rfl rfl)
theorem dX3_strokes_4 : decode cX3_strokes 4 = .ok (.ifCond .eq 10, 3) := dk_153 0 10 (dk_at dksX3_strokes_0 4 rfl rfl)
theorem dX3_strokes_7 : decode cX3_strokes 7 = .ok (.iload_n 2, 1) := dk_28 (dk_at dksX3_strokes_0 7 rfl rfl)
theorem dX3_strokes_8 : decode cX3_strokes 8 = .ok (.invokestatic 101, 3) := dk_184 0 101 (dk_at dksX3_strokes_0 8 rfl rfl)
theorem dX3_strokes_11 : decode cX3_strokes 11 = .ok (.ifCond .ne 5, 3) := dk_154 0 5 (dk_at dksX3_strokes_0 11 rfl rfl)
theorem dX3_strokes_14 : decode cX3_strokes 14 = .ok (.iconst (-1), 1) := dk_2 (dk_at dksX3_strokes_0 14 rfl rfl)
theorem dX3_strokes_15 : decode cX3_strokes 15 = .ok (.ireturn, 1) := dk_172 (dk_at dksX3_strokes_0 15 rfl rfl)
theorem dX3_strokes_16 : decode cX3_strokes 16 = .ok (.iload_n 3, 1) := dk_29 (dk_at dksX3_strokes_0 16 rfl rfl)
theorem dX3_strokes_17 : decode cX3_strokes 17 = .ok (.i2l, 1) := dk_133 (dk_at dksX3_strokes_0 17 rfl rfl)
theorem dX3_strokes_18 : decode cX3_strokes 18 = .ok (.lconst 0, 1) := dk_9 (dk_at dksX3_strokes_0 18 rfl rfl)
theorem dX3_strokes_19 : decode cX3_strokes 19 = .ok (.lconst 1, 1) := dk_10 (dk_at dksX3_strokes_0 19 rfl rfl)
theorem dX3_strokes_20 : decode cX3_strokes 20 = .ok (.invokestatic 75, 3) := dk_184 0 75 (dk_at dksX3_strokes_0 20 rfl rfl)
theorem dX3_strokes_23 : decode cX3_strokes 23 = .ok (.ifCond .ne 6, 3) := dk_154 0 6 (dk_at dksX3_strokes_1 0 rfl rfl)
theorem dX3_strokes_26 : decode cX3_strokes 26 = .ok (.bipush (-2), 2) := dk_16 254 (dk_at dksX3_strokes_1 3 rfl rfl)
theorem dX3_strokes_28 : decode cX3_strokes 28 = .ok (.ireturn, 1) := dk_172 (dk_at dksX3_strokes_1 5 rfl rfl)
theorem dX3_strokes_29 : decode cX3_strokes 29 = .ok (.iconst 0, 1) := dk_3 (dk_at dksX3_strokes_1 6 rfl rfl)
theorem dX3_strokes_30 : decode cX3_strokes 30 = .ok (.istore 4, 2) := dk_54 4 (dk_at dksX3_strokes_1 7 rfl rfl)
theorem dX3_strokes_32 : decode cX3_strokes 32 = .ok (.iload 4, 2) := dk_21 4 (dk_at dksX3_strokes_1 9 rfl rfl)
theorem dX3_strokes_34 : decode cX3_strokes 34 = .ok (.bipush 45, 2) := dk_16 45 (dk_at dksX3_strokes_1 11 rfl rfl)
theorem dX3_strokes_36 : decode cX3_strokes 36 = .ok (.if_icmp .ge 28, 3) := dk_162 0 28 (dk_at dksX3_strokes_1 13 rfl rfl)
theorem dX3_strokes_39 : decode cX3_strokes 39 = .ok (.aload_n 0, 1) := dk_42 (dk_at dksX3_strokes_1 16 rfl rfl)
theorem dX3_strokes_40 : decode cX3_strokes 40 = .ok (.getfield 44, 3) := dk_180 0 44 (dk_at dksX3_strokes_1 17 rfl rfl)
theorem dX3_strokes_43 : decode cX3_strokes 43 = .ok (.iload 4, 2) := dk_21 4 (dk_at dksX3_strokes_1 20 rfl rfl)
theorem dX3_strokes_45 : decode cX3_strokes 45 = .ok (.iload 4, 2) := dk_21 4 (dk_at dksX3_strokes_1 22 rfl rfl)
theorem dX3_strokes_47 : decode cX3_strokes 47 = .ok (.iload_n 2, 1) := dk_28 (dk_at dksX3_strokes_2 0 rfl rfl)
theorem dX3_strokes_48 : decode cX3_strokes 48 = .ok (.if_icmp .ne 7, 3) := dk_160 0 7 (dk_at dksX3_strokes_2 1 rfl rfl)
theorem dX3_strokes_51 : decode cX3_strokes 51 = .ok (.iconst 0, 1) := dk_3 (dk_at dksX3_strokes_2 4 rfl rfl)
theorem dX3_strokes_52 : decode cX3_strokes 52 = .ok (.goto 5, 3) := dk_167 0 5 (dk_at dksX3_strokes_2 5 rfl rfl)
theorem dX3_strokes_55 : decode cX3_strokes 55 = .ok (.bipush (-6), 2) := dk_16 250 (dk_at dksX3_strokes_2 8 rfl rfl)
theorem dX3_strokes_57 : decode cX3_strokes 57 = .ok (.iastore, 1) := dk_79 (dk_at dksX3_strokes_2 10 rfl rfl)
theorem dX3_strokes_58 : decode cX3_strokes 58 = .ok (.iinc 4 1, 3) := dk_132 4 1 (dk_at dksX3_strokes_2 11 rfl rfl)
theorem dX3_strokes_61 : decode cX3_strokes 61 = .ok (.goto (-29), 3) := dk_167 255 227 (dk_at dksX3_strokes_2 14 rfl rfl)
theorem dX3_strokes_64 : decode cX3_strokes 64 = .ok (.iconst 1, 1) := dk_4 (dk_at dksX3_strokes_2 17 rfl rfl)
theorem dX3_strokes_65 : decode cX3_strokes 65 = .ok (.istore 4, 2) := dk_54 4 (dk_at dksX3_strokes_2 18 rfl rfl)
theorem dX3_strokes_67 : decode cX3_strokes 67 = .ok (.iconst 1, 1) := dk_4 (dk_at dksX3_strokes_2 20 rfl rfl)
theorem dX3_strokes_68 : decode cX3_strokes 68 = .ok (.istore 5, 2) := dk_54 5 (dk_at dksX3_strokes_2 21 rfl rfl)
theorem dX3_strokes_70 : decode cX3_strokes 70 = .ok (.iload 4, 2) := dk_21 4 (dk_at dksX3_strokes_3 0 rfl rfl)
theorem dX3_strokes_72 : decode cX3_strokes 72 = .ok (.ifCond .eq 17, 3) := dk_153 0 17 (dk_at dksX3_strokes_3 2 rfl rfl)
theorem dX3_strokes_75 : decode cX3_strokes 75 = .ok (.aload_n 0, 1) := dk_42 (dk_at dksX3_strokes_3 5 rfl rfl)
theorem dX3_strokes_76 : decode cX3_strokes 76 = .ok (.iload 5, 2) := dk_21 5 (dk_at dksX3_strokes_3 6 rfl rfl)
theorem dX3_strokes_78 : decode cX3_strokes 78 = .ok (.invokevirtual 284, 3) := dk_182 1 28 (dk_at dksX3_strokes_3 8 rfl rfl)
theorem dX3_strokes_81 : decode cX3_strokes 81 = .ok (.istore 4, 2) := dk_54 4 (dk_at dksX3_strokes_3 11 rfl rfl)
theorem dX3_strokes_83 : decode cX3_strokes 83 = .ok (.iinc 5 1, 3) := dk_132 5 1 (dk_at dksX3_strokes_3 13 rfl rfl)
theorem dX3_strokes_86 : decode cX3_strokes 86 = .ok (.goto (-16), 3) := dk_167 255 240 (dk_at dksX3_strokes_3 16 rfl rfl)
theorem dX3_strokes_89 : decode cX3_strokes 89 = .ok (.iload_n 3, 1) := dk_29 (dk_at dksX3_strokes_3 19 rfl rfl)
theorem dX3_strokes_90 : decode cX3_strokes 90 = .ok (.ifCond .ne 12, 3) := dk_154 0 12 (dk_at dksX3_strokes_3 20 rfl rfl)
theorem dX3_strokes_93 : decode cX3_strokes 93 = .ok (.aload_n 0, 1) := dk_42 (dk_at dksX3_strokes_3 23 rfl rfl)
theorem dX3_strokes_94 : decode cX3_strokes 94 = .ok (.getfield 44, 3) := dk_180 0 44 (dk_at dksX3_strokes_4 0 rfl rfl)
theorem dX3_strokes_97 : decode cX3_strokes 97 = .ok (.iload_n 1, 1) := dk_27 (dk_at dksX3_strokes_4 3 rfl rfl)
theorem dX3_strokes_98 : decode cX3_strokes 98 = .ok (.iaload, 1) := dk_46 (dk_at dksX3_strokes_4 4 rfl rfl)
theorem dX3_strokes_99 : decode cX3_strokes 99 = .ok (.goto 31, 3) := dk_167 0 31 (dk_at dksX3_strokes_4 5 rfl rfl)
theorem dX3_strokes_102 : decode cX3_strokes 102 = .ok (.aload_n 0, 1) := dk_42 (dk_at dksX3_strokes_4 8 rfl rfl)
theorem dX3_strokes_103 : decode cX3_strokes 103 = .ok (.getfield 44, 3) := dk_180 0 44 (dk_at dksX3_strokes_4 9 rfl rfl)
theorem dX3_strokes_106 : decode cX3_strokes 106 = .ok (.iload_n 1, 1) := dk_27 (dk_at dksX3_strokes_4 12 rfl rfl)
theorem dX3_strokes_107 : decode cX3_strokes 107 = .ok (.iaload, 1) := dk_46 (dk_at dksX3_strokes_4 13 rfl rfl)
theorem dX3_strokes_108 : decode cX3_strokes 108 = .ok (.iconst 1, 1) := dk_4 (dk_at dksX3_strokes_4 14 rfl rfl)
theorem dX3_strokes_109 : decode cX3_strokes 109 = .ok (.if_icmp .ge 8, 3) := dk_162 0 8 (dk_at dksX3_strokes_4 15 rfl rfl)
theorem dX3_strokes_112 : decode cX3_strokes 112 = .ok (.bipush (-6), 2) := dk_16 250 (dk_at dksX3_strokes_4 18 rfl rfl)
theorem dX3_strokes_114 : decode cX3_strokes 114 = .ok (.goto 16, 3) := dk_167 0 16 (dk_at dksX3_strokes_4 20 rfl rfl)
theorem dX3_strokes_117 : decode cX3_strokes 117 = .ok (.aload_n 0, 1) := dk_42 (dk_at dksX3_strokes_4 23 rfl rfl)
theorem dX3_strokes_118 : decode cX3_strokes 118 = .ok (.iload_n 1, 1) := dk_27 (dk_at dksX3_strokes_5 0 rfl rfl)
theorem dX3_strokes_119 : decode cX3_strokes 119 = .ok (.aload_n 0, 1) := dk_42 (dk_at dksX3_strokes_5 1 rfl rfl)
theorem dX3_strokes_120 : decode cX3_strokes 120 = .ok (.getfield 44, 3) := dk_180 0 44 (dk_at dksX3_strokes_5 2 rfl rfl)
theorem dX3_strokes_123 : decode cX3_strokes 123 = .ok (.iload_n 1, 1) := dk_27 (dk_at dksX3_strokes_5 5 rfl rfl)
theorem dX3_strokes_124 : decode cX3_strokes 124 = .ok (.iaload, 1) := dk_46 (dk_at dksX3_strokes_5 6 rfl rfl)
theorem dX3_strokes_125 : decode cX3_strokes 125 = .ok (.iconst 1, 1) := dk_4 (dk_at dksX3_strokes_5 7 rfl rfl)
theorem dX3_strokes_126 : decode cX3_strokes 126 = .ok (.isub, 1) := dk_100 (dk_at dksX3_strokes_5 8 rfl rfl)
theorem dX3_strokes_127 : decode cX3_strokes 127 = .ok (.invokevirtual 281, 3) := dk_182 1 25 (dk_at dksX3_strokes_5 9 rfl rfl)
theorem dX3_strokes_130 : decode cX3_strokes 130 = .ok (.ireturn, 1) := dk_172 (dk_at dksX3_strokes_5 12 rfl rfl)
abbrev cX3_findFar : ByteArray := prog_5_method_52_code
def yX3_findFar : MethodName := ⟨RX3, "findFar", "(I)Z"⟩
def dkwX3_findFar_3 : List UInt8 := [21, 4, 153, 0, 7, 4, 167, 0, 4, 3, 61, 132, 3, 1, 167, 255, 177, 28, 172]
abbrev dktX3_findFar_3 : List UInt8 := dkwX3_findFar_3 ++ []
def dkwX3_findFar_2 : List UInt8 := [180, 0, 44, 29, 21, 4, 153, 0, 7, 27, 167, 0, 9, 42, 180, 0, 44, 29, 46, 79, 28, 154, 0, 8]
abbrev dktX3_findFar_2 : List UInt8 := dkwX3_findFar_2 ++ dktX3_findFar_3
def dkwX3_findFar_1 : List UInt8 := [154, 0, 18, 42, 29, 27, 4, 100, 182, 1, 25, 155, 0, 7, 4, 167, 0, 4, 3, 54, 4, 42]
abbrev dktX3_findFar_1 : List UInt8 := dkwX3_findFar_1 ++ dktX3_findFar_2
def dkwX3_findFar_0 : List UInt8 := [3, 61, 3, 62, 29, 16, 45, 162, 0, 79, 42, 180, 0, 44, 29, 46, 156, 0, 25, 29, 184, 0, 85]
abbrev dktX3_findFar_0 : List UInt8 := dkwX3_findFar_0 ++ dktX3_findFar_1
theorem dksX3_findFar_0 : cX3_findFar.data.toList.drop 0 = dktX3_findFar_0 := by decide +kernel
theorem dksX3_findFar_1 : cX3_findFar.data.toList.drop 23 = dktX3_findFar_1 := dk_seg dksX3_findFar_0 23 rfl rfl
theorem dksX3_findFar_2 : cX3_findFar.data.toList.drop 45 = dktX3_findFar_2 := dk_seg dksX3_findFar_1 22 rfl rfl
theorem dksX3_findFar_3 : cX3_findFar.data.toList.drop 69 = dktX3_findFar_3 := dk_seg dksX3_findFar_2 24 rfl rfl
theorem dX3_findFar_0 : decode cX3_findFar 0 = .ok (.iconst 0, 1) := dk_3 (dk_at dksX3_findFar_0 0 rfl rfl)
theorem dX3_findFar_1 : decode cX3_findFar 1 = .ok (.istore_n 2, 1) := dk_61 (dk_at dksX3_findFar_0 1 rfl rfl)
theorem dX3_findFar_2 : decode cX3_findFar 2 = .ok (.iconst 0, 1) := dk_3 (dk_at dksX3_findFar_0 2 rfl rfl)
theorem dX3_findFar_3 : decode cX3_findFar 3 = .ok (.istore_n 3, 1) := dk_62 (dk_at dksX3_findFar_0 3 rfl rfl)
theorem dX3_findFar_4 : decode cX3_findFar 4 = .ok (.iload_n 3, 1) := dk_29 (dk_at dksX3_findFar_0 4 rfl rfl)
theorem dX3_findFar_5 : decode cX3_findFar 5 = .ok (.bipush 45, 2) := dk_16 45 (dk_at dksX3_findFar_0 5 rfl rfl)
theorem dX3_findFar_7 : decode cX3_findFar 7 = .ok (.if_icmp .ge 79, 3) := dk_162 0 79 (dk_at dksX3_findFar_0 7 rfl rfl)
theorem dX3_findFar_10 : decode cX3_findFar 10 = .ok (.aload_n 0, 1) := dk_42 (dk_at dksX3_findFar_0 10 rfl rfl)
theorem dX3_findFar_11 : decode cX3_findFar 11 = .ok (.getfield 44, 3) := dk_180 0 44 (dk_at dksX3_findFar_0 11 rfl rfl)
theorem dX3_findFar_14 : decode cX3_findFar 14 = .ok (.iload_n 3, 1) := dk_29 (dk_at dksX3_findFar_0 14 rfl rfl)
theorem dX3_findFar_15 : decode cX3_findFar 15 = .ok (.iaload, 1) := dk_46 (dk_at dksX3_findFar_0 15 rfl rfl)
theorem dX3_findFar_16 : decode cX3_findFar 16 = .ok (.ifCond .ge 25, 3) := dk_156 0 25 (dk_at dksX3_findFar_0 16 rfl rfl)
theorem dX3_findFar_19 : decode cX3_findFar 19 = .ok (.iload_n 3, 1) := dk_29 (dk_at dksX3_findFar_0 19 rfl rfl)
theorem dX3_findFar_20 : decode cX3_findFar 20 = .ok (.invokestatic 85, 3) := dk_184 0 85 (dk_at dksX3_findFar_0 20 rfl rfl)
theorem dX3_findFar_23 : decode cX3_findFar 23 = .ok (.ifCond .ne 18, 3) := dk_154 0 18 (dk_at dksX3_findFar_1 0 rfl rfl)
theorem dX3_findFar_26 : decode cX3_findFar 26 = .ok (.aload_n 0, 1) := dk_42 (dk_at dksX3_findFar_1 3 rfl rfl)
theorem dX3_findFar_27 : decode cX3_findFar 27 = .ok (.iload_n 3, 1) := dk_29 (dk_at dksX3_findFar_1 4 rfl rfl)
theorem dX3_findFar_28 : decode cX3_findFar 28 = .ok (.iload_n 1, 1) := dk_27 (dk_at dksX3_findFar_1 5 rfl rfl)
theorem dX3_findFar_29 : decode cX3_findFar 29 = .ok (.iconst 1, 1) := dk_4 (dk_at dksX3_findFar_1 6 rfl rfl)
theorem dX3_findFar_30 : decode cX3_findFar 30 = .ok (.isub, 1) := dk_100 (dk_at dksX3_findFar_1 7 rfl rfl)
theorem dX3_findFar_31 : decode cX3_findFar 31 = .ok (.invokevirtual 281, 3) := dk_182 1 25 (dk_at dksX3_findFar_1 8 rfl rfl)
theorem dX3_findFar_34 : decode cX3_findFar 34 = .ok (.ifCond .lt 7, 3) := dk_155 0 7 (dk_at dksX3_findFar_1 11 rfl rfl)
theorem dX3_findFar_37 : decode cX3_findFar 37 = .ok (.iconst 1, 1) := dk_4 (dk_at dksX3_findFar_1 14 rfl rfl)
theorem dX3_findFar_38 : decode cX3_findFar 38 = .ok (.goto 4, 3) := dk_167 0 4 (dk_at dksX3_findFar_1 15 rfl rfl)
theorem dX3_findFar_41 : decode cX3_findFar 41 = .ok (.iconst 0, 1) := dk_3 (dk_at dksX3_findFar_1 18 rfl rfl)
theorem dX3_findFar_42 : decode cX3_findFar 42 = .ok (.istore 4, 2) := dk_54 4 (dk_at dksX3_findFar_1 19 rfl rfl)
theorem dX3_findFar_44 : decode cX3_findFar 44 = .ok (.aload_n 0, 1) := dk_42 (dk_at dksX3_findFar_1 21 rfl rfl)
theorem dX3_findFar_45 : decode cX3_findFar 45 = .ok (.getfield 44, 3) := dk_180 0 44 (dk_at dksX3_findFar_2 0 rfl rfl)
theorem dX3_findFar_48 : decode cX3_findFar 48 = .ok (.iload_n 3, 1) := dk_29 (dk_at dksX3_findFar_2 3 rfl rfl)
theorem dX3_findFar_49 : decode cX3_findFar 49 = .ok (.iload 4, 2) := dk_21 4 (dk_at dksX3_findFar_2 4 rfl rfl)
theorem dX3_findFar_51 : decode cX3_findFar 51 = .ok (.ifCond .eq 7, 3) := dk_153 0 7 (dk_at dksX3_findFar_2 6 rfl rfl)
theorem dX3_findFar_54 : decode cX3_findFar 54 = .ok (.iload_n 1, 1) := dk_27 (dk_at dksX3_findFar_2 9 rfl rfl)
theorem dX3_findFar_55 : decode cX3_findFar 55 = .ok (.goto 9, 3) := dk_167 0 9 (dk_at dksX3_findFar_2 10 rfl rfl)
theorem dX3_findFar_58 : decode cX3_findFar 58 = .ok (.aload_n 0, 1) := dk_42 (dk_at dksX3_findFar_2 13 rfl rfl)
theorem dX3_findFar_59 : decode cX3_findFar 59 = .ok (.getfield 44, 3) := dk_180 0 44 (dk_at dksX3_findFar_2 14 rfl rfl)
theorem dX3_findFar_62 : decode cX3_findFar 62 = .ok (.iload_n 3, 1) := dk_29 (dk_at dksX3_findFar_2 17 rfl rfl)
theorem dX3_findFar_63 : decode cX3_findFar 63 = .ok (.iaload, 1) := dk_46 (dk_at dksX3_findFar_2 18 rfl rfl)
theorem dX3_findFar_64 : decode cX3_findFar 64 = .ok (.iastore, 1) := dk_79 (dk_at dksX3_findFar_2 19 rfl rfl)
theorem dX3_findFar_65 : decode cX3_findFar 65 = .ok (.iload_n 2, 1) := dk_28 (dk_at dksX3_findFar_2 20 rfl rfl)
theorem dX3_findFar_66 : decode cX3_findFar 66 = .ok (.ifCond .ne 8, 3) := dk_154 0 8 (dk_at dksX3_findFar_2 21 rfl rfl)
theorem dX3_findFar_69 : decode cX3_findFar 69 = .ok (.iload 4, 2) := dk_21 4 (dk_at dksX3_findFar_3 0 rfl rfl)
theorem dX3_findFar_71 : decode cX3_findFar 71 = .ok (.ifCond .eq 7, 3) := dk_153 0 7 (dk_at dksX3_findFar_3 2 rfl rfl)
theorem dX3_findFar_74 : decode cX3_findFar 74 = .ok (.iconst 1, 1) := dk_4 (dk_at dksX3_findFar_3 5 rfl rfl)
theorem dX3_findFar_75 : decode cX3_findFar 75 = .ok (.goto 4, 3) := dk_167 0 4 (dk_at dksX3_findFar_3 6 rfl rfl)
theorem dX3_findFar_78 : decode cX3_findFar 78 = .ok (.iconst 0, 1) := dk_3 (dk_at dksX3_findFar_3 9 rfl rfl)
theorem dX3_findFar_79 : decode cX3_findFar 79 = .ok (.istore_n 2, 1) := dk_61 (dk_at dksX3_findFar_3 10 rfl rfl)
theorem dX3_findFar_80 : decode cX3_findFar 80 = .ok (.iinc 3 1, 3) := dk_132 3 1 (dk_at dksX3_findFar_3 11 rfl rfl)
theorem dX3_findFar_83 : decode cX3_findFar 83 = .ok (.goto (-79), 3) := dk_167 255 177 (dk_at dksX3_findFar_3 14 rfl rfl)
theorem dX3_findFar_86 : decode cX3_findFar 86 = .ok (.iload_n 2, 1) := dk_28 (dk_at dksX3_findFar_3 17 rfl rfl)
theorem dX3_findFar_87 : decode cX3_findFar 87 = .ok (.ireturn, 1) := dk_172 (dk_at dksX3_findFar_3 18 rfl rfl)
abbrev cX3_wayTo : ByteArray := prog_5_method_51_code
def yX3_wayTo : MethodName := ⟨RX3, "wayTo", "(II)I"⟩
def dkwX3_wayTo_1 : List UInt8 := [21, 4, 167, 0, 4, 29, 62, 132, 4, 255, 167, 255, 230, 29, 172]
abbrev dktX3_wayTo_1 : List UInt8 := dkwX3_wayTo_1 ++ []
def dkwX3_wayTo_0 : List UInt8 := [16, 250, 62, 16, 7, 54, 4, 21, 4, 155, 0, 27, 42, 27, 21, 4, 28, 182, 1, 21, 153, 0, 8]
abbrev dktX3_wayTo_0 : List UInt8 := dkwX3_wayTo_0 ++ dktX3_wayTo_1
theorem dksX3_wayTo_0 : cX3_wayTo.data.toList.drop 0 = dktX3_wayTo_0 := by decide +kernel
theorem dksX3_wayTo_1 : cX3_wayTo.data.toList.drop 23 = dktX3_wayTo_1 := dk_seg dksX3_wayTo_0 23 rfl rfl
theorem dX3_wayTo_0 : decode cX3_wayTo 0 = .ok (.bipush (-6), 2) := dk_16 250 (dk_at dksX3_wayTo_0 0 rfl rfl)
theorem dX3_wayTo_2 : decode cX3_wayTo 2 = .ok (.istore_n 3, 1) := dk_62 (dk_at dksX3_wayTo_0 2 rfl rfl)
theorem dX3_wayTo_3 : decode cX3_wayTo 3 = .ok (.bipush 7, 2) := dk_16 7 (dk_at dksX3_wayTo_0 3 rfl rfl)
theorem dX3_wayTo_5 : decode cX3_wayTo 5 = .ok (.istore 4, 2) := dk_54 4 (dk_at dksX3_wayTo_0 5 rfl rfl)
theorem dX3_wayTo_7 : decode cX3_wayTo 7 = .ok (.iload 4, 2) := dk_21 4 (dk_at dksX3_wayTo_0 7 rfl rfl)
theorem dX3_wayTo_9 : decode cX3_wayTo 9 = .ok (.ifCond .lt 27, 3) := dk_155 0 27 (dk_at dksX3_wayTo_0 9 rfl rfl)
theorem dX3_wayTo_12 : decode cX3_wayTo 12 = .ok (.aload_n 0, 1) := dk_42 (dk_at dksX3_wayTo_0 12 rfl rfl)
theorem dX3_wayTo_13 : decode cX3_wayTo 13 = .ok (.iload_n 1, 1) := dk_27 (dk_at dksX3_wayTo_0 13 rfl rfl)
theorem dX3_wayTo_14 : decode cX3_wayTo 14 = .ok (.iload 4, 2) := dk_21 4 (dk_at dksX3_wayTo_0 14 rfl rfl)
theorem dX3_wayTo_16 : decode cX3_wayTo 16 = .ok (.iload_n 2, 1) := dk_28 (dk_at dksX3_wayTo_0 16 rfl rfl)
theorem dX3_wayTo_17 : decode cX3_wayTo 17 = .ok (.invokevirtual 277, 3) := dk_182 1 21 (dk_at dksX3_wayTo_0 17 rfl rfl)
theorem dX3_wayTo_20 : decode cX3_wayTo 20 = .ok (.ifCond .eq 8, 3) := dk_153 0 8 (dk_at dksX3_wayTo_0 20 rfl rfl)
theorem dX3_wayTo_23 : decode cX3_wayTo 23 = .ok (.iload 4, 2) := dk_21 4 (dk_at dksX3_wayTo_1 0 rfl rfl)
theorem dX3_wayTo_25 : decode cX3_wayTo 25 = .ok (.goto 4, 3) := dk_167 0 4 (dk_at dksX3_wayTo_1 2 rfl rfl)
theorem dX3_wayTo_28 : decode cX3_wayTo 28 = .ok (.iload_n 3, 1) := dk_29 (dk_at dksX3_wayTo_1 5 rfl rfl)
theorem dX3_wayTo_29 : decode cX3_wayTo 29 = .ok (.istore_n 3, 1) := dk_62 (dk_at dksX3_wayTo_1 6 rfl rfl)
theorem dX3_wayTo_30 : decode cX3_wayTo 30 = .ok (.iinc 4 (-1), 3) := dk_132 4 255 (dk_at dksX3_wayTo_1 7 rfl rfl)
theorem dX3_wayTo_33 : decode cX3_wayTo 33 = .ok (.goto (-26), 3) := dk_167 255 230 (dk_at dksX3_wayTo_1 10 rfl rfl)
theorem dX3_wayTo_36 : decode cX3_wayTo 36 = .ok (.iload_n 3, 1) := dk_29 (dk_at dksX3_wayTo_1 13 rfl rfl)
theorem dX3_wayTo_37 : decode cX3_wayTo 37 = .ok (.ireturn, 1) := dk_172 (dk_at dksX3_wayTo_1 14 rfl rfl)
abbrev cX3_leadsTo : ByteArray := prog_5_method_50_code
def yX3_leadsTo : MethodName := ⟨RX3, "leadsTo", "(III)Z"⟩
def dkwX3_leadsTo_3 : List UInt8 := [167, 0, 4, 3, 54, 5, 132, 7, 1, 167, 255, 193, 21, 5, 172]
abbrev dktX3_leadsTo_3 : List UInt8 := dkwX3_leadsTo_3 ++ []
def dkwX3_leadsTo_2 : List UInt8 := [154, 0, 22, 21, 6, 154, 0, 21, 42, 180, 0, 44, 21, 4, 16, 10, 108, 46, 29, 160, 0, 7, 4]
abbrev dktX3_leadsTo_2 : List UInt8 := dkwX3_leadsTo_2 ++ dktX3_leadsTo_3
def dkwX3_leadsTo_1 : List UInt8 := [21, 6, 154, 0, 57, 21, 4, 184, 1, 5, 54, 4, 21, 4, 16, 10, 108, 184, 0, 85, 54, 6, 21, 5]
abbrev dktX3_leadsTo_1 : List UInt8 := dkwX3_leadsTo_1 ++ dktX3_leadsTo_2
def dkwX3_leadsTo_0 : List UInt8 := [16, 10, 27, 104, 28, 96, 54, 4, 3, 54, 5, 3, 54, 6, 4, 54, 7, 21, 7, 16, 9, 163, 0, 62]
abbrev dktX3_leadsTo_0 : List UInt8 := dkwX3_leadsTo_0 ++ dktX3_leadsTo_1
theorem dksX3_leadsTo_0 : cX3_leadsTo.data.toList.drop 0 = dktX3_leadsTo_0 := by decide +kernel
theorem dksX3_leadsTo_1 : cX3_leadsTo.data.toList.drop 24 = dktX3_leadsTo_1 := dk_seg dksX3_leadsTo_0 24 rfl rfl
theorem dksX3_leadsTo_2 : cX3_leadsTo.data.toList.drop 48 = dktX3_leadsTo_2 := dk_seg dksX3_leadsTo_1 24 rfl rfl
theorem dksX3_leadsTo_3 : cX3_leadsTo.data.toList.drop 71 = dktX3_leadsTo_3 := dk_seg dksX3_leadsTo_2 23 rfl rfl
theorem dX3_leadsTo_0 : decode cX3_leadsTo 0 = .ok (.bipush 10, 2) := dk_16 10 (dk_at dksX3_leadsTo_0 0 rfl rfl)
theorem dX3_leadsTo_2 : decode cX3_leadsTo 2 = .ok (.iload_n 1, 1) := dk_27 (dk_at dksX3_leadsTo_0 2 rfl rfl)
theorem dX3_leadsTo_3 : decode cX3_leadsTo 3 = .ok (.imul, 1) := dk_104 (dk_at dksX3_leadsTo_0 3 rfl rfl)
theorem dX3_leadsTo_4 : decode cX3_leadsTo 4 = .ok (.iload_n 2, 1) := dk_28 (dk_at dksX3_leadsTo_0 4 rfl rfl)
theorem dX3_leadsTo_5 : decode cX3_leadsTo 5 = .ok (.iadd, 1) := dk_96 (dk_at dksX3_leadsTo_0 5 rfl rfl)
theorem dX3_leadsTo_6 : decode cX3_leadsTo 6 = .ok (.istore 4, 2) := dk_54 4 (dk_at dksX3_leadsTo_0 6 rfl rfl)
theorem dX3_leadsTo_8 : decode cX3_leadsTo 8 = .ok (.iconst 0, 1) := dk_3 (dk_at dksX3_leadsTo_0 8 rfl rfl)
theorem dX3_leadsTo_9 : decode cX3_leadsTo 9 = .ok (.istore 5, 2) := dk_54 5 (dk_at dksX3_leadsTo_0 9 rfl rfl)
theorem dX3_leadsTo_11 : decode cX3_leadsTo 11 = .ok (.iconst 0, 1) := dk_3 (dk_at dksX3_leadsTo_0 11 rfl rfl)
theorem dX3_leadsTo_12 : decode cX3_leadsTo 12 = .ok (.istore 6, 2) := dk_54 6 (dk_at dksX3_leadsTo_0 12 rfl rfl)
theorem dX3_leadsTo_14 : decode cX3_leadsTo 14 = .ok (.iconst 1, 1) := dk_4 (dk_at dksX3_leadsTo_0 14 rfl rfl)
theorem dX3_leadsTo_15 : decode cX3_leadsTo 15 = .ok (.istore 7, 2) := dk_54 7 (dk_at dksX3_leadsTo_0 15 rfl rfl)
theorem dX3_leadsTo_17 : decode cX3_leadsTo 17 = .ok (.iload 7, 2) := dk_21 7 (dk_at dksX3_leadsTo_0 17 rfl rfl)
theorem dX3_leadsTo_19 : decode cX3_leadsTo 19 = .ok (.bipush 9, 2) := dk_16 9 (dk_at dksX3_leadsTo_0 19 rfl rfl)
theorem dX3_leadsTo_21 : decode cX3_leadsTo 21 = .ok (.if_icmp .gt 62, 3) := dk_163 0 62 (dk_at dksX3_leadsTo_0 21 rfl rfl)
theorem dX3_leadsTo_24 : decode cX3_leadsTo 24 = .ok (.iload 6, 2) := dk_21 6 (dk_at dksX3_leadsTo_1 0 rfl rfl)
theorem dX3_leadsTo_26 : decode cX3_leadsTo 26 = .ok (.ifCond .ne 57, 3) := dk_154 0 57 (dk_at dksX3_leadsTo_1 2 rfl rfl)
theorem dX3_leadsTo_29 : decode cX3_leadsTo 29 = .ok (.iload 4, 2) := dk_21 4 (dk_at dksX3_leadsTo_1 5 rfl rfl)
theorem dX3_leadsTo_31 : decode cX3_leadsTo 31 = .ok (.invokestatic 261, 3) := dk_184 1 5 (dk_at dksX3_leadsTo_1 7 rfl rfl)
theorem dX3_leadsTo_34 : decode cX3_leadsTo 34 = .ok (.istore 4, 2) := dk_54 4 (dk_at dksX3_leadsTo_1 10 rfl rfl)
theorem dX3_leadsTo_36 : decode cX3_leadsTo 36 = .ok (.iload 4, 2) := dk_21 4 (dk_at dksX3_leadsTo_1 12 rfl rfl)
theorem dX3_leadsTo_38 : decode cX3_leadsTo 38 = .ok (.bipush 10, 2) := dk_16 10 (dk_at dksX3_leadsTo_1 14 rfl rfl)
theorem dX3_leadsTo_40 : decode cX3_leadsTo 40 = .ok (.idiv, 1) := dk_108 (dk_at dksX3_leadsTo_1 16 rfl rfl)
theorem dX3_leadsTo_41 : decode cX3_leadsTo 41 = .ok (.invokestatic 85, 3) := dk_184 0 85 (dk_at dksX3_leadsTo_1 17 rfl rfl)
theorem dX3_leadsTo_44 : decode cX3_leadsTo 44 = .ok (.istore 6, 2) := dk_54 6 (dk_at dksX3_leadsTo_1 20 rfl rfl)
theorem dX3_leadsTo_46 : decode cX3_leadsTo 46 = .ok (.iload 5, 2) := dk_21 5 (dk_at dksX3_leadsTo_1 22 rfl rfl)
theorem dX3_leadsTo_48 : decode cX3_leadsTo 48 = .ok (.ifCond .ne 22, 3) := dk_154 0 22 (dk_at dksX3_leadsTo_2 0 rfl rfl)
theorem dX3_leadsTo_51 : decode cX3_leadsTo 51 = .ok (.iload 6, 2) := dk_21 6 (dk_at dksX3_leadsTo_2 3 rfl rfl)
theorem dX3_leadsTo_53 : decode cX3_leadsTo 53 = .ok (.ifCond .ne 21, 3) := dk_154 0 21 (dk_at dksX3_leadsTo_2 5 rfl rfl)
theorem dX3_leadsTo_56 : decode cX3_leadsTo 56 = .ok (.aload_n 0, 1) := dk_42 (dk_at dksX3_leadsTo_2 8 rfl rfl)
theorem dX3_leadsTo_57 : decode cX3_leadsTo 57 = .ok (.getfield 44, 3) := dk_180 0 44 (dk_at dksX3_leadsTo_2 9 rfl rfl)
theorem dX3_leadsTo_60 : decode cX3_leadsTo 60 = .ok (.iload 4, 2) := dk_21 4 (dk_at dksX3_leadsTo_2 12 rfl rfl)
theorem dX3_leadsTo_62 : decode cX3_leadsTo 62 = .ok (.bipush 10, 2) := dk_16 10 (dk_at dksX3_leadsTo_2 14 rfl rfl)
theorem dX3_leadsTo_64 : decode cX3_leadsTo 64 = .ok (.idiv, 1) := dk_108 (dk_at dksX3_leadsTo_2 16 rfl rfl)
theorem dX3_leadsTo_65 : decode cX3_leadsTo 65 = .ok (.iaload, 1) := dk_46 (dk_at dksX3_leadsTo_2 17 rfl rfl)
theorem dX3_leadsTo_66 : decode cX3_leadsTo 66 = .ok (.iload_n 3, 1) := dk_29 (dk_at dksX3_leadsTo_2 18 rfl rfl)
theorem dX3_leadsTo_67 : decode cX3_leadsTo 67 = .ok (.if_icmp .ne 7, 3) := dk_160 0 7 (dk_at dksX3_leadsTo_2 19 rfl rfl)
theorem dX3_leadsTo_70 : decode cX3_leadsTo 70 = .ok (.iconst 1, 1) := dk_4 (dk_at dksX3_leadsTo_2 22 rfl rfl)
theorem dX3_leadsTo_71 : decode cX3_leadsTo 71 = .ok (.goto 4, 3) := dk_167 0 4 (dk_at dksX3_leadsTo_3 0 rfl rfl)
theorem dX3_leadsTo_74 : decode cX3_leadsTo 74 = .ok (.iconst 0, 1) := dk_3 (dk_at dksX3_leadsTo_3 3 rfl rfl)
theorem dX3_leadsTo_75 : decode cX3_leadsTo 75 = .ok (.istore 5, 2) := dk_54 5 (dk_at dksX3_leadsTo_3 4 rfl rfl)
theorem dX3_leadsTo_77 : decode cX3_leadsTo 77 = .ok (.iinc 7 1, 3) := dk_132 7 1 (dk_at dksX3_leadsTo_3 6 rfl rfl)
theorem dX3_leadsTo_80 : decode cX3_leadsTo 80 = .ok (.goto (-63), 3) := dk_167 255 193 (dk_at dksX3_leadsTo_3 9 rfl rfl)
theorem dX3_leadsTo_83 : decode cX3_leadsTo 83 = .ok (.iload 5, 2) := dk_21 5 (dk_at dksX3_leadsTo_3 12 rfl rfl)
theorem dX3_leadsTo_85 : decode cX3_leadsTo 85 = .ok (.ireturn, 1) := dk_172 (dk_at dksX3_leadsTo_3 14 rfl rfl)
abbrev cX3_seen : ByteArray := prog_5_method_54_code
def yX3_seen : MethodName := ⟨RX3, "seen", "(II)I"⟩
def dkwX3_seen_2 : List UInt8 := [180, 0, 16, 42, 180, 1, 33, 28, 79, 42, 89, 180, 1, 33, 4, 96, 181, 1, 33, 42, 180, 1, 33, 172]
abbrev dktX3_seen_2 : List UInt8 := dkwX3_seen_2 ++ []
def dkwX3_seen_1 : List UInt8 := [42, 180, 1, 33, 16, 8, 160, 0, 6, 16, 252, 172, 42, 180, 0, 13, 42, 180, 1, 33, 27, 79, 42]
abbrev dktX3_seen_1 : List UInt8 := dkwX3_seen_1 ++ dktX3_seen_2
def dkwX3_seen_0 : List UInt8 := [28, 184, 0, 81, 154, 0, 5, 2, 172, 27, 133, 9, 20, 1, 31, 184, 0, 75, 154, 0, 6, 16, 254, 172]
abbrev dktX3_seen_0 : List UInt8 := dkwX3_seen_0 ++ dktX3_seen_1
theorem dksX3_seen_0 : cX3_seen.data.toList.drop 0 = dktX3_seen_0 := by decide +kernel
theorem dksX3_seen_1 : cX3_seen.data.toList.drop 24 = dktX3_seen_1 := dk_seg dksX3_seen_0 24 rfl rfl
theorem dksX3_seen_2 : cX3_seen.data.toList.drop 47 = dktX3_seen_2 := dk_seg dksX3_seen_1 23 rfl rfl
theorem dX3_seen_0 : decode cX3_seen 0 = .ok (.iload_n 2, 1) := dk_28 (dk_at dksX3_seen_0 0 rfl rfl)
theorem dX3_seen_1 : decode cX3_seen 1 = .ok (.invokestatic 81, 3) := dk_184 0 81 (dk_at dksX3_seen_0 1 rfl rfl)
theorem dX3_seen_4 : decode cX3_seen 4 = .ok (.ifCond .ne 5, 3) := dk_154 0 5 (dk_at dksX3_seen_0 4 rfl rfl)
theorem dX3_seen_7 : decode cX3_seen 7 = .ok (.iconst (-1), 1) := dk_2 (dk_at dksX3_seen_0 7 rfl rfl)
theorem dX3_seen_8 : decode cX3_seen 8 = .ok (.ireturn, 1) := dk_172 (dk_at dksX3_seen_0 8 rfl rfl)
theorem dX3_seen_9 : decode cX3_seen 9 = .ok (.iload_n 1, 1) := dk_27 (dk_at dksX3_seen_0 9 rfl rfl)
theorem dX3_seen_10 : decode cX3_seen 10 = .ok (.i2l, 1) := dk_133 (dk_at dksX3_seen_0 10 rfl rfl)
theorem dX3_seen_11 : decode cX3_seen 11 = .ok (.lconst 0, 1) := dk_9 (dk_at dksX3_seen_0 11 rfl rfl)
theorem dX3_seen_12 : decode cX3_seen 12 = .ok (.ldc2_w 287, 3) := dk_20 1 31 (dk_at dksX3_seen_0 12 rfl rfl)
theorem dX3_seen_15 : decode cX3_seen 15 = .ok (.invokestatic 75, 3) := dk_184 0 75 (dk_at dksX3_seen_0 15 rfl rfl)
theorem dX3_seen_18 : decode cX3_seen 18 = .ok (.ifCond .ne 6, 3) := dk_154 0 6 (dk_at dksX3_seen_0 18 rfl rfl)
theorem dX3_seen_21 : decode cX3_seen 21 = .ok (.bipush (-2), 2) := dk_16 254 (dk_at dksX3_seen_0 21 rfl rfl)
theorem dX3_seen_23 : decode cX3_seen 23 = .ok (.ireturn, 1) := dk_172 (dk_at dksX3_seen_0 23 rfl rfl)
theorem dX3_seen_24 : decode cX3_seen 24 = .ok (.aload_n 0, 1) := dk_42 (dk_at dksX3_seen_1 0 rfl rfl)
theorem dX3_seen_25 : decode cX3_seen 25 = .ok (.getfield 289, 3) := dk_180 1 33 (dk_at dksX3_seen_1 1 rfl rfl)
theorem dX3_seen_28 : decode cX3_seen 28 = .ok (.bipush 8, 2) := dk_16 8 (dk_at dksX3_seen_1 4 rfl rfl)
theorem dX3_seen_30 : decode cX3_seen 30 = .ok (.if_icmp .ne 6, 3) := dk_160 0 6 (dk_at dksX3_seen_1 6 rfl rfl)
theorem dX3_seen_33 : decode cX3_seen 33 = .ok (.bipush (-4), 2) := dk_16 252 (dk_at dksX3_seen_1 9 rfl rfl)
theorem dX3_seen_35 : decode cX3_seen 35 = .ok (.ireturn, 1) := dk_172 (dk_at dksX3_seen_1 11 rfl rfl)
theorem dX3_seen_36 : decode cX3_seen 36 = .ok (.aload_n 0, 1) := dk_42 (dk_at dksX3_seen_1 12 rfl rfl)
theorem dX3_seen_37 : decode cX3_seen 37 = .ok (.getfield 13, 3) := dk_180 0 13 (dk_at dksX3_seen_1 13 rfl rfl)
theorem dX3_seen_40 : decode cX3_seen 40 = .ok (.aload_n 0, 1) := dk_42 (dk_at dksX3_seen_1 16 rfl rfl)
theorem dX3_seen_41 : decode cX3_seen 41 = .ok (.getfield 289, 3) := dk_180 1 33 (dk_at dksX3_seen_1 17 rfl rfl)
theorem dX3_seen_44 : decode cX3_seen 44 = .ok (.iload_n 1, 1) := dk_27 (dk_at dksX3_seen_1 20 rfl rfl)
theorem dX3_seen_45 : decode cX3_seen 45 = .ok (.iastore, 1) := dk_79 (dk_at dksX3_seen_1 21 rfl rfl)
theorem dX3_seen_46 : decode cX3_seen 46 = .ok (.aload_n 0, 1) := dk_42 (dk_at dksX3_seen_1 22 rfl rfl)
theorem dX3_seen_47 : decode cX3_seen 47 = .ok (.getfield 16, 3) := dk_180 0 16 (dk_at dksX3_seen_2 0 rfl rfl)
theorem dX3_seen_50 : decode cX3_seen 50 = .ok (.aload_n 0, 1) := dk_42 (dk_at dksX3_seen_2 3 rfl rfl)
theorem dX3_seen_51 : decode cX3_seen 51 = .ok (.getfield 289, 3) := dk_180 1 33 (dk_at dksX3_seen_2 4 rfl rfl)
theorem dX3_seen_54 : decode cX3_seen 54 = .ok (.iload_n 2, 1) := dk_28 (dk_at dksX3_seen_2 7 rfl rfl)
theorem dX3_seen_55 : decode cX3_seen 55 = .ok (.iastore, 1) := dk_79 (dk_at dksX3_seen_2 8 rfl rfl)
theorem dX3_seen_56 : decode cX3_seen 56 = .ok (.aload_n 0, 1) := dk_42 (dk_at dksX3_seen_2 9 rfl rfl)
theorem dX3_seen_57 : decode cX3_seen 57 = .ok (.dup, 1) := dk_89 (dk_at dksX3_seen_2 10 rfl rfl)
theorem dX3_seen_58 : decode cX3_seen 58 = .ok (.getfield 289, 3) := dk_180 1 33 (dk_at dksX3_seen_2 11 rfl rfl)
theorem dX3_seen_61 : decode cX3_seen 61 = .ok (.iconst 1, 1) := dk_4 (dk_at dksX3_seen_2 14 rfl rfl)
theorem dX3_seen_62 : decode cX3_seen 62 = .ok (.iadd, 1) := dk_96 (dk_at dksX3_seen_2 15 rfl rfl)
theorem dX3_seen_63 : decode cX3_seen 63 = .ok (.putfield 289, 3) := dk_181 1 33 (dk_at dksX3_seen_2 16 rfl rfl)
theorem dX3_seen_66 : decode cX3_seen 66 = .ok (.aload_n 0, 1) := dk_42 (dk_at dksX3_seen_2 19 rfl rfl)
theorem dX3_seen_67 : decode cX3_seen 67 = .ok (.getfield 289, 3) := dk_180 1 33 (dk_at dksX3_seen_2 20 rfl rfl)
theorem dX3_seen_70 : decode cX3_seen 70 = .ok (.ireturn, 1) := dk_172 (dk_at dksX3_seen_2 23 rfl rfl)
abbrev cX3_forget : ByteArray := prog_5_method_55_code
def yX3_forget : MethodName := ⟨RX3, "forget", "()I"⟩
def dkwX3_forget_0 : List UInt8 := [42, 180, 1, 33, 60, 42, 3, 181, 1, 33, 27, 172]
abbrev dktX3_forget_0 : List UInt8 := dkwX3_forget_0 ++ []
theorem dksX3_forget_0 : cX3_forget.data.toList.drop 0 = dktX3_forget_0 := by decide +kernel
theorem dX3_forget_0 : decode cX3_forget 0 = .ok (.aload_n 0, 1) := dk_42 (dk_at dksX3_forget_0 0 rfl rfl)
theorem dX3_forget_1 : decode cX3_forget 1 = .ok (.getfield 289, 3) := dk_180 1 33 (dk_at dksX3_forget_0 1 rfl rfl)
theorem dX3_forget_4 : decode cX3_forget 4 = .ok (.istore_n 1, 1) := dk_60 (dk_at dksX3_forget_0 4 rfl rfl)
theorem dX3_forget_5 : decode cX3_forget 5 = .ok (.aload_n 0, 1) := dk_42 (dk_at dksX3_forget_0 5 rfl rfl)
theorem dX3_forget_6 : decode cX3_forget 6 = .ok (.iconst 0, 1) := dk_3 (dk_at dksX3_forget_0 6 rfl rfl)
theorem dX3_forget_7 : decode cX3_forget 7 = .ok (.putfield 289, 3) := dk_181 1 33 (dk_at dksX3_forget_0 7 rfl rfl)
theorem dX3_forget_10 : decode cX3_forget 10 = .ok (.iload_n 1, 1) := dk_27 (dk_at dksX3_forget_0 10 rfl rfl)
theorem dX3_forget_11 : decode cX3_forget 11 = .ok (.ireturn, 1) := dk_172 (dk_at dksX3_forget_0 11 rfl rfl)
abbrev cX3_sent : ByteArray := prog_5_method_58_code
def yX3_sent : MethodName := ⟨RX3, "sent", "(I)I"⟩
def dkwX3_sent_1 : List UInt8 := [100, 133, 184, 0, 75, 153, 0, 12, 42, 180, 0, 47, 27, 46, 167, 0, 5, 16, 250, 172]
abbrev dktX3_sent_1 : List UInt8 := dkwX3_sent_1 ++ []
def dkwX3_sent_0 : List UInt8 := [42, 182, 1, 42, 27, 2, 160, 0, 10, 42, 180, 1, 36, 167, 0, 30, 27, 133, 9, 42, 180, 1, 36, 4]
abbrev dktX3_sent_0 : List UInt8 := dkwX3_sent_0 ++ dktX3_sent_1
theorem dksX3_sent_0 : cX3_sent.data.toList.drop 0 = dktX3_sent_0 := by decide +kernel
theorem dksX3_sent_1 : cX3_sent.data.toList.drop 24 = dktX3_sent_1 := dk_seg dksX3_sent_0 24 rfl rfl
theorem dX3_sent_0 : decode cX3_sent 0 = .ok (.aload_n 0, 1) := dk_42 (dk_at dksX3_sent_0 0 rfl rfl)
theorem dX3_sent_1 : decode cX3_sent 1 = .ok (.invokevirtual 298, 3) := dk_182 1 42 (dk_at dksX3_sent_0 1 rfl rfl)
theorem dX3_sent_4 : decode cX3_sent 4 = .ok (.iload_n 1, 1) := dk_27 (dk_at dksX3_sent_0 4 rfl rfl)
theorem dX3_sent_5 : decode cX3_sent 5 = .ok (.iconst (-1), 1) := dk_2 (dk_at dksX3_sent_0 5 rfl rfl)
theorem dX3_sent_6 : decode cX3_sent 6 = .ok (.if_icmp .ne 10, 3) := dk_160 0 10 (dk_at dksX3_sent_0 6 rfl rfl)
theorem dX3_sent_9 : decode cX3_sent 9 = .ok (.aload_n 0, 1) := dk_42 (dk_at dksX3_sent_0 9 rfl rfl)
theorem dX3_sent_10 : decode cX3_sent 10 = .ok (.getfield 292, 3) := dk_180 1 36 (dk_at dksX3_sent_0 10 rfl rfl)
theorem dX3_sent_13 : decode cX3_sent 13 = .ok (.goto 30, 3) := dk_167 0 30 (dk_at dksX3_sent_0 13 rfl rfl)
theorem dX3_sent_16 : decode cX3_sent 16 = .ok (.iload_n 1, 1) := dk_27 (dk_at dksX3_sent_0 16 rfl rfl)
theorem dX3_sent_17 : decode cX3_sent 17 = .ok (.i2l, 1) := dk_133 (dk_at dksX3_sent_0 17 rfl rfl)
theorem dX3_sent_18 : decode cX3_sent 18 = .ok (.lconst 0, 1) := dk_9 (dk_at dksX3_sent_0 18 rfl rfl)
theorem dX3_sent_19 : decode cX3_sent 19 = .ok (.aload_n 0, 1) := dk_42 (dk_at dksX3_sent_0 19 rfl rfl)
theorem dX3_sent_20 : decode cX3_sent 20 = .ok (.getfield 292, 3) := dk_180 1 36 (dk_at dksX3_sent_0 20 rfl rfl)
theorem dX3_sent_23 : decode cX3_sent 23 = .ok (.iconst 1, 1) := dk_4 (dk_at dksX3_sent_0 23 rfl rfl)
theorem dX3_sent_24 : decode cX3_sent 24 = .ok (.isub, 1) := dk_100 (dk_at dksX3_sent_1 0 rfl rfl)
theorem dX3_sent_25 : decode cX3_sent 25 = .ok (.i2l, 1) := dk_133 (dk_at dksX3_sent_1 1 rfl rfl)
theorem dX3_sent_26 : decode cX3_sent 26 = .ok (.invokestatic 75, 3) := dk_184 0 75 (dk_at dksX3_sent_1 2 rfl rfl)
theorem dX3_sent_29 : decode cX3_sent 29 = .ok (.ifCond .eq 12, 3) := dk_153 0 12 (dk_at dksX3_sent_1 5 rfl rfl)
theorem dX3_sent_32 : decode cX3_sent 32 = .ok (.aload_n 0, 1) := dk_42 (dk_at dksX3_sent_1 8 rfl rfl)
theorem dX3_sent_33 : decode cX3_sent 33 = .ok (.getfield 47, 3) := dk_180 0 47 (dk_at dksX3_sent_1 9 rfl rfl)
theorem dX3_sent_36 : decode cX3_sent 36 = .ok (.iload_n 1, 1) := dk_27 (dk_at dksX3_sent_1 12 rfl rfl)
theorem dX3_sent_37 : decode cX3_sent 37 = .ok (.iaload, 1) := dk_46 (dk_at dksX3_sent_1 13 rfl rfl)
theorem dX3_sent_38 : decode cX3_sent 38 = .ok (.goto 5, 3) := dk_167 0 5 (dk_at dksX3_sent_1 14 rfl rfl)
theorem dX3_sent_41 : decode cX3_sent 41 = .ok (.bipush (-6), 2) := dk_16 250 (dk_at dksX3_sent_1 17 rfl rfl)
theorem dX3_sent_43 : decode cX3_sent 43 = .ok (.ireturn, 1) := dk_172 (dk_at dksX3_sent_1 19 rfl rfl)
abbrev cX3_findFits : ByteArray := prog_5_method_57_code
def yX3_findFits : MethodName := ⟨RX3, "findFits", "()V"⟩
def dkwX3_findFits_2 : List UInt8 := [4, 96, 181, 1, 36, 132, 1, 1, 167, 255, 208, 177]
abbrev dktX3_findFits_2 : List UInt8 := dkwX3_findFits_2 ++ []
def dkwX3_findFits_1 : List UInt8 := [180, 0, 47, 42, 180, 1, 36, 27, 79, 42, 180, 0, 50, 42, 180, 1, 36, 27, 79, 42, 89, 180, 1, 36]
abbrev dktX3_findFits_1 : List UInt8 := dkwX3_findFits_1 ++ dktX3_findFits_2
def dkwX3_findFits_0 : List UInt8 := [42, 3, 181, 1, 36, 3, 60, 27, 17, 1, 194, 162, 0, 47, 42, 27, 182, 1, 39, 153, 0, 33, 42]
abbrev dktX3_findFits_0 : List UInt8 := dkwX3_findFits_0 ++ dktX3_findFits_1
theorem dksX3_findFits_0 : cX3_findFits.data.toList.drop 0 = dktX3_findFits_0 := by decide +kernel
theorem dksX3_findFits_1 : cX3_findFits.data.toList.drop 23 = dktX3_findFits_1 := dk_seg dksX3_findFits_0 23 rfl rfl
theorem dksX3_findFits_2 : cX3_findFits.data.toList.drop 47 = dktX3_findFits_2 := dk_seg dksX3_findFits_1 24 rfl rfl
theorem dX3_findFits_0 : decode cX3_findFits 0 = .ok (.aload_n 0, 1) := dk_42 (dk_at dksX3_findFits_0 0 rfl rfl)
theorem dX3_findFits_1 : decode cX3_findFits 1 = .ok (.iconst 0, 1) := dk_3 (dk_at dksX3_findFits_0 1 rfl rfl)
theorem dX3_findFits_2 : decode cX3_findFits 2 = .ok (.putfield 292, 3) := dk_181 1 36 (dk_at dksX3_findFits_0 2 rfl rfl)
theorem dX3_findFits_5 : decode cX3_findFits 5 = .ok (.iconst 0, 1) := dk_3 (dk_at dksX3_findFits_0 5 rfl rfl)
theorem dX3_findFits_6 : decode cX3_findFits 6 = .ok (.istore_n 1, 1) := dk_60 (dk_at dksX3_findFits_0 6 rfl rfl)
theorem dX3_findFits_7 : decode cX3_findFits 7 = .ok (.iload_n 1, 1) := dk_27 (dk_at dksX3_findFits_0 7 rfl rfl)
theorem dX3_findFits_8 : decode cX3_findFits 8 = .ok (.sipush 450, 3) := dk_17 1 194 (dk_at dksX3_findFits_0 8 rfl rfl)
theorem dX3_findFits_11 : decode cX3_findFits 11 = .ok (.if_icmp .ge 47, 3) := dk_162 0 47 (dk_at dksX3_findFits_0 11 rfl rfl)
theorem dX3_findFits_14 : decode cX3_findFits 14 = .ok (.aload_n 0, 1) := dk_42 (dk_at dksX3_findFits_0 14 rfl rfl)
theorem dX3_findFits_15 : decode cX3_findFits 15 = .ok (.iload_n 1, 1) := dk_27 (dk_at dksX3_findFits_0 15 rfl rfl)
theorem dX3_findFits_16 : decode cX3_findFits 16 = .ok (.invokevirtual 295, 3) := dk_182 1 39 (dk_at dksX3_findFits_0 16 rfl rfl)
theorem dX3_findFits_19 : decode cX3_findFits 19 = .ok (.ifCond .eq 33, 3) := dk_153 0 33 (dk_at dksX3_findFits_0 19 rfl rfl)
theorem dX3_findFits_22 : decode cX3_findFits 22 = .ok (.aload_n 0, 1) := dk_42 (dk_at dksX3_findFits_0 22 rfl rfl)
theorem dX3_findFits_23 : decode cX3_findFits 23 = .ok (.getfield 47, 3) := dk_180 0 47 (dk_at dksX3_findFits_1 0 rfl rfl)
theorem dX3_findFits_26 : decode cX3_findFits 26 = .ok (.aload_n 0, 1) := dk_42 (dk_at dksX3_findFits_1 3 rfl rfl)
theorem dX3_findFits_27 : decode cX3_findFits 27 = .ok (.getfield 292, 3) := dk_180 1 36 (dk_at dksX3_findFits_1 4 rfl rfl)
theorem dX3_findFits_30 : decode cX3_findFits 30 = .ok (.iload_n 1, 1) := dk_27 (dk_at dksX3_findFits_1 7 rfl rfl)
theorem dX3_findFits_31 : decode cX3_findFits 31 = .ok (.iastore, 1) := dk_79 (dk_at dksX3_findFits_1 8 rfl rfl)
theorem dX3_findFits_32 : decode cX3_findFits 32 = .ok (.aload_n 0, 1) := dk_42 (dk_at dksX3_findFits_1 9 rfl rfl)
theorem dX3_findFits_33 : decode cX3_findFits 33 = .ok (.getfield 50, 3) := dk_180 0 50 (dk_at dksX3_findFits_1 10 rfl rfl)
theorem dX3_findFits_36 : decode cX3_findFits 36 = .ok (.aload_n 0, 1) := dk_42 (dk_at dksX3_findFits_1 13 rfl rfl)
theorem dX3_findFits_37 : decode cX3_findFits 37 = .ok (.getfield 292, 3) := dk_180 1 36 (dk_at dksX3_findFits_1 14 rfl rfl)
theorem dX3_findFits_40 : decode cX3_findFits 40 = .ok (.iload_n 1, 1) := dk_27 (dk_at dksX3_findFits_1 17 rfl rfl)
theorem dX3_findFits_41 : decode cX3_findFits 41 = .ok (.iastore, 1) := dk_79 (dk_at dksX3_findFits_1 18 rfl rfl)
theorem dX3_findFits_42 : decode cX3_findFits 42 = .ok (.aload_n 0, 1) := dk_42 (dk_at dksX3_findFits_1 19 rfl rfl)
theorem dX3_findFits_43 : decode cX3_findFits 43 = .ok (.dup, 1) := dk_89 (dk_at dksX3_findFits_1 20 rfl rfl)
theorem dX3_findFits_44 : decode cX3_findFits 44 = .ok (.getfield 292, 3) := dk_180 1 36 (dk_at dksX3_findFits_1 21 rfl rfl)
theorem dX3_findFits_47 : decode cX3_findFits 47 = .ok (.iconst 1, 1) := dk_4 (dk_at dksX3_findFits_2 0 rfl rfl)
theorem dX3_findFits_48 : decode cX3_findFits 48 = .ok (.iadd, 1) := dk_96 (dk_at dksX3_findFits_2 1 rfl rfl)
theorem dX3_findFits_49 : decode cX3_findFits 49 = .ok (.putfield 292, 3) := dk_181 1 36 (dk_at dksX3_findFits_2 2 rfl rfl)
theorem dX3_findFits_52 : decode cX3_findFits 52 = .ok (.iinc 1 1, 3) := dk_132 1 1 (dk_at dksX3_findFits_2 5 rfl rfl)
theorem dX3_findFits_55 : decode cX3_findFits 55 = .ok (.goto (-48), 3) := dk_167 255 208 (dk_at dksX3_findFits_2 8 rfl rfl)
theorem dX3_findFits_58 : decode cX3_findFits 58 = .ok (.return_, 1) := dk_177 (dk_at dksX3_findFits_2 11 rfl rfl)
abbrev cX3_isFit : ByteArray := prog_5_method_56_code
def yX3_isFit : MethodName := ⟨RX3, "isFit", "(I)Z"⟩
def dkwX3_isFit_3 : List UInt8 := [167, 255, 213, 28, 172]
abbrev dktX3_isFit_3 : List UInt8 := dkwX3_isFit_3 ++ []
def dkwX3_isFit_2 : List UInt8 := [184, 1, 12, 16, 10, 108, 42, 180, 0, 16, 29, 46, 160, 0, 7, 4, 167, 0, 4, 3, 61, 132, 3, 1]
abbrev dktX3_isFit_2 : List UInt8 := dkwX3_isFit_2 ++ dktX3_isFit_3
def dkwX3_isFit_1 : List UInt8 := [61, 3, 62, 29, 42, 180, 1, 33, 162, 0, 41, 28, 153, 0, 37, 27, 42, 180, 0, 13, 29, 46]
abbrev dktX3_isFit_1 : List UInt8 := dkwX3_isFit_1 ++ dktX3_isFit_2
def dkwX3_isFit_0 : List UInt8 := [27, 16, 10, 112, 16, 8, 162, 0, 17, 27, 16, 10, 108, 184, 0, 85, 154, 0, 7, 4, 167, 0, 4, 3]
abbrev dktX3_isFit_0 : List UInt8 := dkwX3_isFit_0 ++ dktX3_isFit_1
theorem dksX3_isFit_0 : cX3_isFit.data.toList.drop 0 = dktX3_isFit_0 := by decide +kernel
theorem dksX3_isFit_1 : cX3_isFit.data.toList.drop 24 = dktX3_isFit_1 := dk_seg dksX3_isFit_0 24 rfl rfl
theorem dksX3_isFit_2 : cX3_isFit.data.toList.drop 46 = dktX3_isFit_2 := dk_seg dksX3_isFit_1 22 rfl rfl
theorem dksX3_isFit_3 : cX3_isFit.data.toList.drop 70 = dktX3_isFit_3 := dk_seg dksX3_isFit_2 24 rfl rfl
theorem dX3_isFit_0 : decode cX3_isFit 0 = .ok (.iload_n 1, 1) := dk_27 (dk_at dksX3_isFit_0 0 rfl rfl)
theorem dX3_isFit_1 : decode cX3_isFit 1 = .ok (.bipush 10, 2) := dk_16 10 (dk_at dksX3_isFit_0 1 rfl rfl)
theorem dX3_isFit_3 : decode cX3_isFit 3 = .ok (.irem, 1) := dk_112 (dk_at dksX3_isFit_0 3 rfl rfl)
theorem dX3_isFit_4 : decode cX3_isFit 4 = .ok (.bipush 8, 2) := dk_16 8 (dk_at dksX3_isFit_0 4 rfl rfl)
theorem dX3_isFit_6 : decode cX3_isFit 6 = .ok (.if_icmp .ge 17, 3) := dk_162 0 17 (dk_at dksX3_isFit_0 6 rfl rfl)
theorem dX3_isFit_9 : decode cX3_isFit 9 = .ok (.iload_n 1, 1) := dk_27 (dk_at dksX3_isFit_0 9 rfl rfl)
theorem dX3_isFit_10 : decode cX3_isFit 10 = .ok (.bipush 10, 2) := dk_16 10 (dk_at dksX3_isFit_0 10 rfl rfl)
theorem dX3_isFit_12 : decode cX3_isFit 12 = .ok (.idiv, 1) := dk_108 (dk_at dksX3_isFit_0 12 rfl rfl)
theorem dX3_isFit_13 : decode cX3_isFit 13 = .ok (.invokestatic 85, 3) := dk_184 0 85 (dk_at dksX3_isFit_0 13 rfl rfl)
theorem dX3_isFit_16 : decode cX3_isFit 16 = .ok (.ifCond .ne 7, 3) := dk_154 0 7 (dk_at dksX3_isFit_0 16 rfl rfl)
theorem dX3_isFit_19 : decode cX3_isFit 19 = .ok (.iconst 1, 1) := dk_4 (dk_at dksX3_isFit_0 19 rfl rfl)
theorem dX3_isFit_20 : decode cX3_isFit 20 = .ok (.goto 4, 3) := dk_167 0 4 (dk_at dksX3_isFit_0 20 rfl rfl)
theorem dX3_isFit_23 : decode cX3_isFit 23 = .ok (.iconst 0, 1) := dk_3 (dk_at dksX3_isFit_0 23 rfl rfl)
theorem dX3_isFit_24 : decode cX3_isFit 24 = .ok (.istore_n 2, 1) := dk_61 (dk_at dksX3_isFit_1 0 rfl rfl)
theorem dX3_isFit_25 : decode cX3_isFit 25 = .ok (.iconst 0, 1) := dk_3 (dk_at dksX3_isFit_1 1 rfl rfl)
theorem dX3_isFit_26 : decode cX3_isFit 26 = .ok (.istore_n 3, 1) := dk_62 (dk_at dksX3_isFit_1 2 rfl rfl)
theorem dX3_isFit_27 : decode cX3_isFit 27 = .ok (.iload_n 3, 1) := dk_29 (dk_at dksX3_isFit_1 3 rfl rfl)
theorem dX3_isFit_28 : decode cX3_isFit 28 = .ok (.aload_n 0, 1) := dk_42 (dk_at dksX3_isFit_1 4 rfl rfl)
theorem dX3_isFit_29 : decode cX3_isFit 29 = .ok (.getfield 289, 3) := dk_180 1 33 (dk_at dksX3_isFit_1 5 rfl rfl)
theorem dX3_isFit_32 : decode cX3_isFit 32 = .ok (.if_icmp .ge 41, 3) := dk_162 0 41 (dk_at dksX3_isFit_1 8 rfl rfl)
theorem dX3_isFit_35 : decode cX3_isFit 35 = .ok (.iload_n 2, 1) := dk_28 (dk_at dksX3_isFit_1 11 rfl rfl)
theorem dX3_isFit_36 : decode cX3_isFit 36 = .ok (.ifCond .eq 37, 3) := dk_153 0 37 (dk_at dksX3_isFit_1 12 rfl rfl)
theorem dX3_isFit_39 : decode cX3_isFit 39 = .ok (.iload_n 1, 1) := dk_27 (dk_at dksX3_isFit_1 15 rfl rfl)
theorem dX3_isFit_40 : decode cX3_isFit 40 = .ok (.aload_n 0, 1) := dk_42 (dk_at dksX3_isFit_1 16 rfl rfl)
theorem dX3_isFit_41 : decode cX3_isFit 41 = .ok (.getfield 13, 3) := dk_180 0 13 (dk_at dksX3_isFit_1 17 rfl rfl)
theorem dX3_isFit_44 : decode cX3_isFit 44 = .ok (.iload_n 3, 1) := dk_29 (dk_at dksX3_isFit_1 20 rfl rfl)
theorem dX3_isFit_45 : decode cX3_isFit 45 = .ok (.iaload, 1) := dk_46 (dk_at dksX3_isFit_1 21 rfl rfl)
theorem dX3_isFit_46 : decode cX3_isFit 46 = .ok (.invokestatic 268, 3) := dk_184 1 12 (dk_at dksX3_isFit_2 0 rfl rfl)
theorem dX3_isFit_49 : decode cX3_isFit 49 = .ok (.bipush 10, 2) := dk_16 10 (dk_at dksX3_isFit_2 3 rfl rfl)
theorem dX3_isFit_51 : decode cX3_isFit 51 = .ok (.idiv, 1) := dk_108 (dk_at dksX3_isFit_2 5 rfl rfl)
theorem dX3_isFit_52 : decode cX3_isFit 52 = .ok (.aload_n 0, 1) := dk_42 (dk_at dksX3_isFit_2 6 rfl rfl)
theorem dX3_isFit_53 : decode cX3_isFit 53 = .ok (.getfield 16, 3) := dk_180 0 16 (dk_at dksX3_isFit_2 7 rfl rfl)
theorem dX3_isFit_56 : decode cX3_isFit 56 = .ok (.iload_n 3, 1) := dk_29 (dk_at dksX3_isFit_2 10 rfl rfl)
theorem dX3_isFit_57 : decode cX3_isFit 57 = .ok (.iaload, 1) := dk_46 (dk_at dksX3_isFit_2 11 rfl rfl)
theorem dX3_isFit_58 : decode cX3_isFit 58 = .ok (.if_icmp .ne 7, 3) := dk_160 0 7 (dk_at dksX3_isFit_2 12 rfl rfl)
theorem dX3_isFit_61 : decode cX3_isFit 61 = .ok (.iconst 1, 1) := dk_4 (dk_at dksX3_isFit_2 15 rfl rfl)
theorem dX3_isFit_62 : decode cX3_isFit 62 = .ok (.goto 4, 3) := dk_167 0 4 (dk_at dksX3_isFit_2 16 rfl rfl)
theorem dX3_isFit_65 : decode cX3_isFit 65 = .ok (.iconst 0, 1) := dk_3 (dk_at dksX3_isFit_2 19 rfl rfl)
theorem dX3_isFit_66 : decode cX3_isFit 66 = .ok (.istore_n 2, 1) := dk_61 (dk_at dksX3_isFit_2 20 rfl rfl)
theorem dX3_isFit_67 : decode cX3_isFit 67 = .ok (.iinc 3 1, 3) := dk_132 3 1 (dk_at dksX3_isFit_2 21 rfl rfl)
theorem dX3_isFit_70 : decode cX3_isFit 70 = .ok (.goto (-43), 3) := dk_167 255 213 (dk_at dksX3_isFit_3 0 rfl rfl)
theorem dX3_isFit_73 : decode cX3_isFit 73 = .ok (.iload_n 2, 1) := dk_28 (dk_at dksX3_isFit_3 3 rfl rfl)
theorem dX3_isFit_74 : decode cX3_isFit 74 = .ok (.ireturn, 1) := dk_172 (dk_at dksX3_isFit_3 4 rfl rfl)
abbrev cX3_ask : ByteArray := prog_5_method_60_code
def yX3_ask : MethodName := ⟨RX3, "ask", "(I)I"⟩
def dkwX3_ask_4 : List UInt8 := [172]
abbrev dktX3_ask_4 : List UInt8 := dkwX3_ask_4 ++ []
def dkwX3_ask_3 : List UInt8 := [167, 0, 4, 29, 62, 132, 4, 1, 167, 255, 207, 28, 155, 0, 7, 27, 154, 0, 7, 28, 167, 0, 4, 29]
abbrev dktX3_ask_3 : List UInt8 := dkwX3_ask_3 ++ dktX3_ask_4
def dkwX3_ask_2 : List UInt8 := [54, 5, 21, 5, 29, 162, 0, 8, 21, 4, 167, 0, 4, 28, 61, 21, 5, 29, 162, 0, 8, 21, 5]
abbrev dktX3_ask_2 : List UInt8 := dkwX3_ask_2 ++ dktX3_ask_3
def dkwX3_ask_1 : List UInt8 := [4, 96, 62, 3, 54, 4, 21, 4, 16, 60, 163, 0, 48, 42, 180, 1, 36, 158, 0, 41, 42, 182, 1, 45]
abbrev dktX3_ask_1 : List UInt8 := dkwX3_ask_1 ++ dktX3_ask_2
def dkwX3_ask_0 : List UInt8 := [27, 133, 9, 10, 184, 0, 75, 154, 0, 6, 16, 254, 172, 42, 182, 1, 42, 16, 250, 61, 42, 180, 1, 36]
abbrev dktX3_ask_0 : List UInt8 := dkwX3_ask_0 ++ dktX3_ask_1
theorem dksX3_ask_0 : cX3_ask.data.toList.drop 0 = dktX3_ask_0 := by decide +kernel
theorem dksX3_ask_1 : cX3_ask.data.toList.drop 24 = dktX3_ask_1 := dk_seg dksX3_ask_0 24 rfl rfl
theorem dksX3_ask_2 : cX3_ask.data.toList.drop 48 = dktX3_ask_2 := dk_seg dksX3_ask_1 24 rfl rfl
theorem dksX3_ask_3 : cX3_ask.data.toList.drop 71 = dktX3_ask_3 := dk_seg dksX3_ask_2 23 rfl rfl
theorem dksX3_ask_4 : cX3_ask.data.toList.drop 95 = dktX3_ask_4 := dk_seg dksX3_ask_3 24 rfl rfl
theorem dX3_ask_0 : decode cX3_ask 0 = .ok (.iload_n 1, 1) := dk_27 (dk_at dksX3_ask_0 0 rfl rfl)
theorem dX3_ask_1 : decode cX3_ask 1 = .ok (.i2l, 1) := dk_133 (dk_at dksX3_ask_0 1 rfl rfl)
theorem dX3_ask_2 : decode cX3_ask 2 = .ok (.lconst 0, 1) := dk_9 (dk_at dksX3_ask_0 2 rfl rfl)
theorem dX3_ask_3 : decode cX3_ask 3 = .ok (.lconst 1, 1) := dk_10 (dk_at dksX3_ask_0 3 rfl rfl)
theorem dX3_ask_4 : decode cX3_ask 4 = .ok (.invokestatic 75, 3) := dk_184 0 75 (dk_at dksX3_ask_0 4 rfl rfl)
theorem dX3_ask_7 : decode cX3_ask 7 = .ok (.ifCond .ne 6, 3) := dk_154 0 6 (dk_at dksX3_ask_0 7 rfl rfl)
theorem dX3_ask_10 : decode cX3_ask 10 = .ok (.bipush (-2), 2) := dk_16 254 (dk_at dksX3_ask_0 10 rfl rfl)
theorem dX3_ask_12 : decode cX3_ask 12 = .ok (.ireturn, 1) := dk_172 (dk_at dksX3_ask_0 12 rfl rfl)
theorem dX3_ask_13 : decode cX3_ask 13 = .ok (.aload_n 0, 1) := dk_42 (dk_at dksX3_ask_0 13 rfl rfl)
theorem dX3_ask_14 : decode cX3_ask 14 = .ok (.invokevirtual 298, 3) := dk_182 1 42 (dk_at dksX3_ask_0 14 rfl rfl)
theorem dX3_ask_17 : decode cX3_ask 17 = .ok (.bipush (-6), 2) := dk_16 250 (dk_at dksX3_ask_0 17 rfl rfl)
theorem dX3_ask_19 : decode cX3_ask 19 = .ok (.istore_n 2, 1) := dk_61 (dk_at dksX3_ask_0 19 rfl rfl)
theorem dX3_ask_20 : decode cX3_ask 20 = .ok (.aload_n 0, 1) := dk_42 (dk_at dksX3_ask_0 20 rfl rfl)
theorem dX3_ask_21 : decode cX3_ask 21 = .ok (.getfield 292, 3) := dk_180 1 36 (dk_at dksX3_ask_0 21 rfl rfl)
theorem dX3_ask_24 : decode cX3_ask 24 = .ok (.iconst 1, 1) := dk_4 (dk_at dksX3_ask_1 0 rfl rfl)
theorem dX3_ask_25 : decode cX3_ask 25 = .ok (.iadd, 1) := dk_96 (dk_at dksX3_ask_1 1 rfl rfl)
theorem dX3_ask_26 : decode cX3_ask 26 = .ok (.istore_n 3, 1) := dk_62 (dk_at dksX3_ask_1 2 rfl rfl)
theorem dX3_ask_27 : decode cX3_ask 27 = .ok (.iconst 0, 1) := dk_3 (dk_at dksX3_ask_1 3 rfl rfl)
theorem dX3_ask_28 : decode cX3_ask 28 = .ok (.istore 4, 2) := dk_54 4 (dk_at dksX3_ask_1 4 rfl rfl)
theorem dX3_ask_30 : decode cX3_ask 30 = .ok (.iload 4, 2) := dk_21 4 (dk_at dksX3_ask_1 6 rfl rfl)
theorem dX3_ask_32 : decode cX3_ask 32 = .ok (.bipush 60, 2) := dk_16 60 (dk_at dksX3_ask_1 8 rfl rfl)
theorem dX3_ask_34 : decode cX3_ask 34 = .ok (.if_icmp .gt 48, 3) := dk_163 0 48 (dk_at dksX3_ask_1 10 rfl rfl)
theorem dX3_ask_37 : decode cX3_ask 37 = .ok (.aload_n 0, 1) := dk_42 (dk_at dksX3_ask_1 13 rfl rfl)
theorem dX3_ask_38 : decode cX3_ask 38 = .ok (.getfield 292, 3) := dk_180 1 36 (dk_at dksX3_ask_1 14 rfl rfl)
theorem dX3_ask_41 : decode cX3_ask 41 = .ok (.ifCond .le 41, 3) := dk_158 0 41 (dk_at dksX3_ask_1 17 rfl rfl)
theorem dX3_ask_44 : decode cX3_ask 44 = .ok (.aload_n 0, 1) := dk_42 (dk_at dksX3_ask_1 20 rfl rfl)
theorem dX3_ask_45 : decode cX3_ask 45 = .ok (.invokevirtual 301, 3) := dk_182 1 45 (dk_at dksX3_ask_1 21 rfl rfl)
theorem dX3_ask_48 : decode cX3_ask 48 = .ok (.istore 5, 2) := dk_54 5 (dk_at dksX3_ask_2 0 rfl rfl)
theorem dX3_ask_50 : decode cX3_ask 50 = .ok (.iload 5, 2) := dk_21 5 (dk_at dksX3_ask_2 2 rfl rfl)
theorem dX3_ask_52 : decode cX3_ask 52 = .ok (.iload_n 3, 1) := dk_29 (dk_at dksX3_ask_2 4 rfl rfl)
theorem dX3_ask_53 : decode cX3_ask 53 = .ok (.if_icmp .ge 8, 3) := dk_162 0 8 (dk_at dksX3_ask_2 5 rfl rfl)
theorem dX3_ask_56 : decode cX3_ask 56 = .ok (.iload 4, 2) := dk_21 4 (dk_at dksX3_ask_2 8 rfl rfl)
theorem dX3_ask_58 : decode cX3_ask 58 = .ok (.goto 4, 3) := dk_167 0 4 (dk_at dksX3_ask_2 10 rfl rfl)
theorem dX3_ask_61 : decode cX3_ask 61 = .ok (.iload_n 2, 1) := dk_28 (dk_at dksX3_ask_2 13 rfl rfl)
theorem dX3_ask_62 : decode cX3_ask 62 = .ok (.istore_n 2, 1) := dk_61 (dk_at dksX3_ask_2 14 rfl rfl)
theorem dX3_ask_63 : decode cX3_ask 63 = .ok (.iload 5, 2) := dk_21 5 (dk_at dksX3_ask_2 15 rfl rfl)
theorem dX3_ask_65 : decode cX3_ask 65 = .ok (.iload_n 3, 1) := dk_29 (dk_at dksX3_ask_2 17 rfl rfl)
theorem dX3_ask_66 : decode cX3_ask 66 = .ok (.if_icmp .ge 8, 3) := dk_162 0 8 (dk_at dksX3_ask_2 18 rfl rfl)
theorem dX3_ask_69 : decode cX3_ask 69 = .ok (.iload 5, 2) := dk_21 5 (dk_at dksX3_ask_2 21 rfl rfl)
theorem dX3_ask_71 : decode cX3_ask 71 = .ok (.goto 4, 3) := dk_167 0 4 (dk_at dksX3_ask_3 0 rfl rfl)
theorem dX3_ask_74 : decode cX3_ask 74 = .ok (.iload_n 3, 1) := dk_29 (dk_at dksX3_ask_3 3 rfl rfl)
theorem dX3_ask_75 : decode cX3_ask 75 = .ok (.istore_n 3, 1) := dk_62 (dk_at dksX3_ask_3 4 rfl rfl)
theorem dX3_ask_76 : decode cX3_ask 76 = .ok (.iinc 4 1, 3) := dk_132 4 1 (dk_at dksX3_ask_3 5 rfl rfl)
theorem dX3_ask_79 : decode cX3_ask 79 = .ok (.goto (-49), 3) := dk_167 255 207 (dk_at dksX3_ask_3 8 rfl rfl)
theorem dX3_ask_82 : decode cX3_ask 82 = .ok (.iload_n 2, 1) := dk_28 (dk_at dksX3_ask_3 11 rfl rfl)
theorem dX3_ask_83 : decode cX3_ask 83 = .ok (.ifCond .lt 7, 3) := dk_155 0 7 (dk_at dksX3_ask_3 12 rfl rfl)
theorem dX3_ask_86 : decode cX3_ask 86 = .ok (.iload_n 1, 1) := dk_27 (dk_at dksX3_ask_3 15 rfl rfl)
theorem dX3_ask_87 : decode cX3_ask 87 = .ok (.ifCond .ne 7, 3) := dk_154 0 7 (dk_at dksX3_ask_3 16 rfl rfl)
theorem dX3_ask_90 : decode cX3_ask 90 = .ok (.iload_n 2, 1) := dk_28 (dk_at dksX3_ask_3 19 rfl rfl)
theorem dX3_ask_91 : decode cX3_ask 91 = .ok (.goto 4, 3) := dk_167 0 4 (dk_at dksX3_ask_3 20 rfl rfl)
theorem dX3_ask_94 : decode cX3_ask 94 = .ok (.iload_n 3, 1) := dk_29 (dk_at dksX3_ask_3 23 rfl rfl)
theorem dX3_ask_95 : decode cX3_ask 95 = .ok (.ireturn, 1) := dk_172 (dk_at dksX3_ask_4 0 rfl rfl)
abbrev cX3_mostNow : ByteArray := prog_5_method_59_code
def yX3_mostNow : MethodName := ⟨RX3, "mostNow", "()I"⟩
def dkwX3_mostNow_4 : List UInt8 := [172]
abbrev dktX3_mostNow_4 : List UInt8 := dkwX3_mostNow_4 ++ []
def dkwX3_mostNow_3 : List UInt8 := [27, 60, 42, 180, 0, 50, 28, 42, 180, 0, 50, 28, 46, 184, 1, 5, 79, 132, 2, 1, 167, 255, 189, 27]
abbrev dktX3_mostNow_3 : List UInt8 := dkwX3_mostNow_3 ++ dktX3_mostNow_4
def dkwX3_mostNow_2 : List UInt8 := [92, 46, 4, 96, 79, 42, 180, 0, 53, 29, 46, 27, 164, 0, 12, 42, 180, 0, 53, 29, 46, 167, 0, 4]
abbrev dktX3_mostNow_2 : List UInt8 := dkwX3_mostNow_2 ++ dktX3_mostNow_3
def dkwX3_mostNow_1 : List UInt8 := [61, 28, 42, 180, 1, 36, 162, 0, 65, 42, 180, 0, 50, 28, 46, 16, 10, 108, 62, 42, 180, 0, 53, 29]
abbrev dktX3_mostNow_1 : List UInt8 := dkwX3_mostNow_1 ++ dktX3_mostNow_2
def dkwX3_mostNow_0 : List UInt8 := [3, 60, 3, 61, 28, 16, 45, 162, 0, 16, 42, 180, 0, 53, 28, 3, 79, 132, 2, 1, 167, 255, 240, 3]
abbrev dktX3_mostNow_0 : List UInt8 := dkwX3_mostNow_0 ++ dktX3_mostNow_1
theorem dksX3_mostNow_0 : cX3_mostNow.data.toList.drop 0 = dktX3_mostNow_0 := by decide +kernel
theorem dksX3_mostNow_1 : cX3_mostNow.data.toList.drop 24 = dktX3_mostNow_1 := dk_seg dksX3_mostNow_0 24 rfl rfl
theorem dksX3_mostNow_2 : cX3_mostNow.data.toList.drop 48 = dktX3_mostNow_2 := dk_seg dksX3_mostNow_1 24 rfl rfl
theorem dksX3_mostNow_3 : cX3_mostNow.data.toList.drop 72 = dktX3_mostNow_3 := dk_seg dksX3_mostNow_2 24 rfl rfl
theorem dksX3_mostNow_4 : cX3_mostNow.data.toList.drop 96 = dktX3_mostNow_4 := dk_seg dksX3_mostNow_3 24 rfl rfl
theorem dX3_mostNow_0 : decode cX3_mostNow 0 = .ok (.iconst 0, 1) := dk_3 (dk_at dksX3_mostNow_0 0 rfl rfl)
theorem dX3_mostNow_1 : decode cX3_mostNow 1 = .ok (.istore_n 1, 1) := dk_60 (dk_at dksX3_mostNow_0 1 rfl rfl)
theorem dX3_mostNow_2 : decode cX3_mostNow 2 = .ok (.iconst 0, 1) := dk_3 (dk_at dksX3_mostNow_0 2 rfl rfl)
theorem dX3_mostNow_3 : decode cX3_mostNow 3 = .ok (.istore_n 2, 1) := dk_61 (dk_at dksX3_mostNow_0 3 rfl rfl)
theorem dX3_mostNow_4 : decode cX3_mostNow 4 = .ok (.iload_n 2, 1) := dk_28 (dk_at dksX3_mostNow_0 4 rfl rfl)
theorem dX3_mostNow_5 : decode cX3_mostNow 5 = .ok (.bipush 45, 2) := dk_16 45 (dk_at dksX3_mostNow_0 5 rfl rfl)
theorem dX3_mostNow_7 : decode cX3_mostNow 7 = .ok (.if_icmp .ge 16, 3) := dk_162 0 16 (dk_at dksX3_mostNow_0 7 rfl rfl)
theorem dX3_mostNow_10 : decode cX3_mostNow 10 = .ok (.aload_n 0, 1) := dk_42 (dk_at dksX3_mostNow_0 10 rfl rfl)
theorem dX3_mostNow_11 : decode cX3_mostNow 11 = .ok (.getfield 53, 3) := dk_180 0 53 (dk_at dksX3_mostNow_0 11 rfl rfl)
theorem dX3_mostNow_14 : decode cX3_mostNow 14 = .ok (.iload_n 2, 1) := dk_28 (dk_at dksX3_mostNow_0 14 rfl rfl)
theorem dX3_mostNow_15 : decode cX3_mostNow 15 = .ok (.iconst 0, 1) := dk_3 (dk_at dksX3_mostNow_0 15 rfl rfl)
theorem dX3_mostNow_16 : decode cX3_mostNow 16 = .ok (.iastore, 1) := dk_79 (dk_at dksX3_mostNow_0 16 rfl rfl)
theorem dX3_mostNow_17 : decode cX3_mostNow 17 = .ok (.iinc 2 1, 3) := dk_132 2 1 (dk_at dksX3_mostNow_0 17 rfl rfl)
theorem dX3_mostNow_20 : decode cX3_mostNow 20 = .ok (.goto (-16), 3) := dk_167 255 240 (dk_at dksX3_mostNow_0 20 rfl rfl)
theorem dX3_mostNow_23 : decode cX3_mostNow 23 = .ok (.iconst 0, 1) := dk_3 (dk_at dksX3_mostNow_0 23 rfl rfl)
theorem dX3_mostNow_24 : decode cX3_mostNow 24 = .ok (.istore_n 2, 1) := dk_61 (dk_at dksX3_mostNow_1 0 rfl rfl)
theorem dX3_mostNow_25 : decode cX3_mostNow 25 = .ok (.iload_n 2, 1) := dk_28 (dk_at dksX3_mostNow_1 1 rfl rfl)
theorem dX3_mostNow_26 : decode cX3_mostNow 26 = .ok (.aload_n 0, 1) := dk_42 (dk_at dksX3_mostNow_1 2 rfl rfl)
theorem dX3_mostNow_27 : decode cX3_mostNow 27 = .ok (.getfield 292, 3) := dk_180 1 36 (dk_at dksX3_mostNow_1 3 rfl rfl)
theorem dX3_mostNow_30 : decode cX3_mostNow 30 = .ok (.if_icmp .ge 65, 3) := dk_162 0 65 (dk_at dksX3_mostNow_1 6 rfl rfl)
theorem dX3_mostNow_33 : decode cX3_mostNow 33 = .ok (.aload_n 0, 1) := dk_42 (dk_at dksX3_mostNow_1 9 rfl rfl)
theorem dX3_mostNow_34 : decode cX3_mostNow 34 = .ok (.getfield 50, 3) := dk_180 0 50 (dk_at dksX3_mostNow_1 10 rfl rfl)
theorem dX3_mostNow_37 : decode cX3_mostNow 37 = .ok (.iload_n 2, 1) := dk_28 (dk_at dksX3_mostNow_1 13 rfl rfl)
theorem dX3_mostNow_38 : decode cX3_mostNow 38 = .ok (.iaload, 1) := dk_46 (dk_at dksX3_mostNow_1 14 rfl rfl)
theorem dX3_mostNow_39 : decode cX3_mostNow 39 = .ok (.bipush 10, 2) := dk_16 10 (dk_at dksX3_mostNow_1 15 rfl rfl)
theorem dX3_mostNow_41 : decode cX3_mostNow 41 = .ok (.idiv, 1) := dk_108 (dk_at dksX3_mostNow_1 17 rfl rfl)
theorem dX3_mostNow_42 : decode cX3_mostNow 42 = .ok (.istore_n 3, 1) := dk_62 (dk_at dksX3_mostNow_1 18 rfl rfl)
theorem dX3_mostNow_43 : decode cX3_mostNow 43 = .ok (.aload_n 0, 1) := dk_42 (dk_at dksX3_mostNow_1 19 rfl rfl)
theorem dX3_mostNow_44 : decode cX3_mostNow 44 = .ok (.getfield 53, 3) := dk_180 0 53 (dk_at dksX3_mostNow_1 20 rfl rfl)
theorem dX3_mostNow_47 : decode cX3_mostNow 47 = .ok (.iload_n 3, 1) := dk_29 (dk_at dksX3_mostNow_1 23 rfl rfl)
theorem dX3_mostNow_48 : decode cX3_mostNow 48 = .ok (.dup2, 1) := dk_92 (dk_at dksX3_mostNow_2 0 rfl rfl)
theorem dX3_mostNow_49 : decode cX3_mostNow 49 = .ok (.iaload, 1) := dk_46 (dk_at dksX3_mostNow_2 1 rfl rfl)
theorem dX3_mostNow_50 : decode cX3_mostNow 50 = .ok (.iconst 1, 1) := dk_4 (dk_at dksX3_mostNow_2 2 rfl rfl)
theorem dX3_mostNow_51 : decode cX3_mostNow 51 = .ok (.iadd, 1) := dk_96 (dk_at dksX3_mostNow_2 3 rfl rfl)
theorem dX3_mostNow_52 : decode cX3_mostNow 52 = .ok (.iastore, 1) := dk_79 (dk_at dksX3_mostNow_2 4 rfl rfl)
theorem dX3_mostNow_53 : decode cX3_mostNow 53 = .ok (.aload_n 0, 1) := dk_42 (dk_at dksX3_mostNow_2 5 rfl rfl)
theorem dX3_mostNow_54 : decode cX3_mostNow 54 = .ok (.getfield 53, 3) := dk_180 0 53 (dk_at dksX3_mostNow_2 6 rfl rfl)
theorem dX3_mostNow_57 : decode cX3_mostNow 57 = .ok (.iload_n 3, 1) := dk_29 (dk_at dksX3_mostNow_2 9 rfl rfl)
theorem dX3_mostNow_58 : decode cX3_mostNow 58 = .ok (.iaload, 1) := dk_46 (dk_at dksX3_mostNow_2 10 rfl rfl)
theorem dX3_mostNow_59 : decode cX3_mostNow 59 = .ok (.iload_n 1, 1) := dk_27 (dk_at dksX3_mostNow_2 11 rfl rfl)
theorem dX3_mostNow_60 : decode cX3_mostNow 60 = .ok (.if_icmp .le 12, 3) := dk_164 0 12 (dk_at dksX3_mostNow_2 12 rfl rfl)
theorem dX3_mostNow_63 : decode cX3_mostNow 63 = .ok (.aload_n 0, 1) := dk_42 (dk_at dksX3_mostNow_2 15 rfl rfl)
theorem dX3_mostNow_64 : decode cX3_mostNow 64 = .ok (.getfield 53, 3) := dk_180 0 53 (dk_at dksX3_mostNow_2 16 rfl rfl)
theorem dX3_mostNow_67 : decode cX3_mostNow 67 = .ok (.iload_n 3, 1) := dk_29 (dk_at dksX3_mostNow_2 19 rfl rfl)
theorem dX3_mostNow_68 : decode cX3_mostNow 68 = .ok (.iaload, 1) := dk_46 (dk_at dksX3_mostNow_2 20 rfl rfl)
theorem dX3_mostNow_69 : decode cX3_mostNow 69 = .ok (.goto 4, 3) := dk_167 0 4 (dk_at dksX3_mostNow_2 21 rfl rfl)
theorem dX3_mostNow_72 : decode cX3_mostNow 72 = .ok (.iload_n 1, 1) := dk_27 (dk_at dksX3_mostNow_3 0 rfl rfl)
theorem dX3_mostNow_73 : decode cX3_mostNow 73 = .ok (.istore_n 1, 1) := dk_60 (dk_at dksX3_mostNow_3 1 rfl rfl)
theorem dX3_mostNow_74 : decode cX3_mostNow 74 = .ok (.aload_n 0, 1) := dk_42 (dk_at dksX3_mostNow_3 2 rfl rfl)
theorem dX3_mostNow_75 : decode cX3_mostNow 75 = .ok (.getfield 50, 3) := dk_180 0 50 (dk_at dksX3_mostNow_3 3 rfl rfl)
theorem dX3_mostNow_78 : decode cX3_mostNow 78 = .ok (.iload_n 2, 1) := dk_28 (dk_at dksX3_mostNow_3 6 rfl rfl)
theorem dX3_mostNow_79 : decode cX3_mostNow 79 = .ok (.aload_n 0, 1) := dk_42 (dk_at dksX3_mostNow_3 7 rfl rfl)
theorem dX3_mostNow_80 : decode cX3_mostNow 80 = .ok (.getfield 50, 3) := dk_180 0 50 (dk_at dksX3_mostNow_3 8 rfl rfl)
theorem dX3_mostNow_83 : decode cX3_mostNow 83 = .ok (.iload_n 2, 1) := dk_28 (dk_at dksX3_mostNow_3 11 rfl rfl)
theorem dX3_mostNow_84 : decode cX3_mostNow 84 = .ok (.iaload, 1) := dk_46 (dk_at dksX3_mostNow_3 12 rfl rfl)
theorem dX3_mostNow_85 : decode cX3_mostNow 85 = .ok (.invokestatic 261, 3) := dk_184 1 5 (dk_at dksX3_mostNow_3 13 rfl rfl)
theorem dX3_mostNow_88 : decode cX3_mostNow 88 = .ok (.iastore, 1) := dk_79 (dk_at dksX3_mostNow_3 16 rfl rfl)
theorem dX3_mostNow_89 : decode cX3_mostNow 89 = .ok (.iinc 2 1, 3) := dk_132 2 1 (dk_at dksX3_mostNow_3 17 rfl rfl)
theorem dX3_mostNow_92 : decode cX3_mostNow 92 = .ok (.goto (-67), 3) := dk_167 255 189 (dk_at dksX3_mostNow_3 20 rfl rfl)
theorem dX3_mostNow_95 : decode cX3_mostNow 95 = .ok (.iload_n 1, 1) := dk_27 (dk_at dksX3_mostNow_3 23 rfl rfl)
theorem dX3_mostNow_96 : decode cX3_mostNow 96 = .ok (.ireturn, 1) := dk_172 (dk_at dksX3_mostNow_4 0 rfl rfl)
abbrev cX3_chalk : ByteArray := prog_5_method_64_code
def yX3_chalk : MethodName := ⟨RX3, "chalk", "(III)I"⟩
def dkwX3_chalk_5 : List UInt8 := [21, 4, 156, 0, 7, 3, 167, 0, 4, 4, 172]
abbrev dktX3_chalk_5 : List UInt8 := dkwX3_chalk_5 ++ []
def dkwX3_chalk_4 : List UInt8 := [132, 4, 1, 167, 255, 197, 42, 27, 28, 182, 1, 56, 54, 4, 29, 4, 160, 0, 8, 21, 4, 167, 0, 13]
abbrev dktX3_chalk_4 : List UInt8 := dkwX3_chalk_4 ++ dktX3_chalk_5
def dkwX3_chalk_3 : List UInt8 := [5, 21, 4, 104, 4, 96, 42, 21, 4, 4, 182, 1, 56, 155, 0, 7, 4, 167, 0, 4, 3, 84]
abbrev dktX3_chalk_3 : List UInt8 := dkwX3_chalk_3 ++ dktX3_chalk_4
def dkwX3_chalk_2 : List UInt8 := [5, 21, 4, 104, 42, 21, 4, 3, 182, 1, 56, 155, 0, 7, 4, 167, 0, 4, 3, 84, 42, 180, 0, 56]
abbrev dktX3_chalk_2 : List UInt8 := dkwX3_chalk_2 ++ dktX3_chalk_3
def dkwX3_chalk_1 : List UInt8 := [9, 10, 184, 0, 75, 154, 0, 6, 16, 254, 172, 3, 54, 4, 21, 4, 27, 163, 0, 59, 42, 180, 0, 56]
abbrev dktX3_chalk_1 : List UInt8 := dkwX3_chalk_1 ++ dktX3_chalk_2
def dkwX3_chalk_0 : List UInt8 := [27, 133, 9, 20, 1, 54, 184, 0, 75, 153, 0, 23, 28, 133, 9, 10, 184, 0, 75, 153, 0, 13, 29, 133]
abbrev dktX3_chalk_0 : List UInt8 := dkwX3_chalk_0 ++ dktX3_chalk_1
theorem dksX3_chalk_0 : cX3_chalk.data.toList.drop 0 = dktX3_chalk_0 := by decide +kernel
theorem dksX3_chalk_1 : cX3_chalk.data.toList.drop 24 = dktX3_chalk_1 := dk_seg dksX3_chalk_0 24 rfl rfl
theorem dksX3_chalk_2 : cX3_chalk.data.toList.drop 48 = dktX3_chalk_2 := dk_seg dksX3_chalk_1 24 rfl rfl
theorem dksX3_chalk_3 : cX3_chalk.data.toList.drop 72 = dktX3_chalk_3 := dk_seg dksX3_chalk_2 24 rfl rfl
theorem dksX3_chalk_4 : cX3_chalk.data.toList.drop 94 = dktX3_chalk_4 := dk_seg dksX3_chalk_3 22 rfl rfl
theorem dksX3_chalk_5 : cX3_chalk.data.toList.drop 118 = dktX3_chalk_5 := dk_seg dksX3_chalk_4 24 rfl rfl
theorem dX3_chalk_0 : decode cX3_chalk 0 = .ok (.iload_n 1, 1) := dk_27 (dk_at dksX3_chalk_0 0 rfl rfl)
theorem dX3_chalk_1 : decode cX3_chalk 1 = .ok (.i2l, 1) := dk_133 (dk_at dksX3_chalk_0 1 rfl rfl)
theorem dX3_chalk_2 : decode cX3_chalk 2 = .ok (.lconst 0, 1) := dk_9 (dk_at dksX3_chalk_0 2 rfl rfl)
theorem dX3_chalk_3 : decode cX3_chalk 3 = .ok (.ldc2_w 310, 3) := dk_20 1 54 (dk_at dksX3_chalk_0 3 rfl rfl)
theorem dX3_chalk_6 : decode cX3_chalk 6 = .ok (.invokestatic 75, 3) := dk_184 0 75 (dk_at dksX3_chalk_0 6 rfl rfl)
theorem dX3_chalk_9 : decode cX3_chalk 9 = .ok (.ifCond .eq 23, 3) := dk_153 0 23 (dk_at dksX3_chalk_0 9 rfl rfl)
theorem dX3_chalk_12 : decode cX3_chalk 12 = .ok (.iload_n 2, 1) := dk_28 (dk_at dksX3_chalk_0 12 rfl rfl)
theorem dX3_chalk_13 : decode cX3_chalk 13 = .ok (.i2l, 1) := dk_133 (dk_at dksX3_chalk_0 13 rfl rfl)
theorem dX3_chalk_14 : decode cX3_chalk 14 = .ok (.lconst 0, 1) := dk_9 (dk_at dksX3_chalk_0 14 rfl rfl)
theorem dX3_chalk_15 : decode cX3_chalk 15 = .ok (.lconst 1, 1) := dk_10 (dk_at dksX3_chalk_0 15 rfl rfl)
theorem dX3_chalk_16 : decode cX3_chalk 16 = .ok (.invokestatic 75, 3) := dk_184 0 75 (dk_at dksX3_chalk_0 16 rfl rfl)
theorem dX3_chalk_19 : decode cX3_chalk 19 = .ok (.ifCond .eq 13, 3) := dk_153 0 13 (dk_at dksX3_chalk_0 19 rfl rfl)
theorem dX3_chalk_22 : decode cX3_chalk 22 = .ok (.iload_n 3, 1) := dk_29 (dk_at dksX3_chalk_0 22 rfl rfl)
theorem dX3_chalk_23 : decode cX3_chalk 23 = .ok (.i2l, 1) := dk_133 (dk_at dksX3_chalk_0 23 rfl rfl)
theorem dX3_chalk_24 : decode cX3_chalk 24 = .ok (.lconst 0, 1) := dk_9 (dk_at dksX3_chalk_1 0 rfl rfl)
theorem dX3_chalk_25 : decode cX3_chalk 25 = .ok (.lconst 1, 1) := dk_10 (dk_at dksX3_chalk_1 1 rfl rfl)
theorem dX3_chalk_26 : decode cX3_chalk 26 = .ok (.invokestatic 75, 3) := dk_184 0 75 (dk_at dksX3_chalk_1 2 rfl rfl)
theorem dX3_chalk_29 : decode cX3_chalk 29 = .ok (.ifCond .ne 6, 3) := dk_154 0 6 (dk_at dksX3_chalk_1 5 rfl rfl)
theorem dX3_chalk_32 : decode cX3_chalk 32 = .ok (.bipush (-2), 2) := dk_16 254 (dk_at dksX3_chalk_1 8 rfl rfl)
theorem dX3_chalk_34 : decode cX3_chalk 34 = .ok (.ireturn, 1) := dk_172 (dk_at dksX3_chalk_1 10 rfl rfl)
theorem dX3_chalk_35 : decode cX3_chalk 35 = .ok (.iconst 0, 1) := dk_3 (dk_at dksX3_chalk_1 11 rfl rfl)
theorem dX3_chalk_36 : decode cX3_chalk 36 = .ok (.istore 4, 2) := dk_54 4 (dk_at dksX3_chalk_1 12 rfl rfl)
theorem dX3_chalk_38 : decode cX3_chalk 38 = .ok (.iload 4, 2) := dk_21 4 (dk_at dksX3_chalk_1 14 rfl rfl)
theorem dX3_chalk_40 : decode cX3_chalk 40 = .ok (.iload_n 1, 1) := dk_27 (dk_at dksX3_chalk_1 16 rfl rfl)
theorem dX3_chalk_41 : decode cX3_chalk 41 = .ok (.if_icmp .gt 59, 3) := dk_163 0 59 (dk_at dksX3_chalk_1 17 rfl rfl)
theorem dX3_chalk_44 : decode cX3_chalk 44 = .ok (.aload_n 0, 1) := dk_42 (dk_at dksX3_chalk_1 20 rfl rfl)
theorem dX3_chalk_45 : decode cX3_chalk 45 = .ok (.getfield 56, 3) := dk_180 0 56 (dk_at dksX3_chalk_1 21 rfl rfl)
theorem dX3_chalk_48 : decode cX3_chalk 48 = .ok (.iconst 2, 1) := dk_5 (dk_at dksX3_chalk_2 0 rfl rfl)
theorem dX3_chalk_49 : decode cX3_chalk 49 = .ok (.iload 4, 2) := dk_21 4 (dk_at dksX3_chalk_2 1 rfl rfl)
theorem dX3_chalk_51 : decode cX3_chalk 51 = .ok (.imul, 1) := dk_104 (dk_at dksX3_chalk_2 3 rfl rfl)
theorem dX3_chalk_52 : decode cX3_chalk 52 = .ok (.aload_n 0, 1) := dk_42 (dk_at dksX3_chalk_2 4 rfl rfl)
theorem dX3_chalk_53 : decode cX3_chalk 53 = .ok (.iload 4, 2) := dk_21 4 (dk_at dksX3_chalk_2 5 rfl rfl)
theorem dX3_chalk_55 : decode cX3_chalk 55 = .ok (.iconst 0, 1) := dk_3 (dk_at dksX3_chalk_2 7 rfl rfl)
theorem dX3_chalk_56 : decode cX3_chalk 56 = .ok (.invokevirtual 312, 3) := dk_182 1 56 (dk_at dksX3_chalk_2 8 rfl rfl)
theorem dX3_chalk_59 : decode cX3_chalk 59 = .ok (.ifCond .lt 7, 3) := dk_155 0 7 (dk_at dksX3_chalk_2 11 rfl rfl)
theorem dX3_chalk_62 : decode cX3_chalk 62 = .ok (.iconst 1, 1) := dk_4 (dk_at dksX3_chalk_2 14 rfl rfl)
theorem dX3_chalk_63 : decode cX3_chalk 63 = .ok (.goto 4, 3) := dk_167 0 4 (dk_at dksX3_chalk_2 15 rfl rfl)
theorem dX3_chalk_66 : decode cX3_chalk 66 = .ok (.iconst 0, 1) := dk_3 (dk_at dksX3_chalk_2 18 rfl rfl)
theorem dX3_chalk_67 : decode cX3_chalk 67 = .ok (.bastore, 1) := dk_84 (dk_at dksX3_chalk_2 19 rfl rfl)
theorem dX3_chalk_68 : decode cX3_chalk 68 = .ok (.aload_n 0, 1) := dk_42 (dk_at dksX3_chalk_2 20 rfl rfl)
theorem dX3_chalk_69 : decode cX3_chalk 69 = .ok (.getfield 56, 3) := dk_180 0 56 (dk_at dksX3_chalk_2 21 rfl rfl)
theorem dX3_chalk_72 : decode cX3_chalk 72 = .ok (.iconst 2, 1) := dk_5 (dk_at dksX3_chalk_3 0 rfl rfl)
theorem dX3_chalk_73 : decode cX3_chalk 73 = .ok (.iload 4, 2) := dk_21 4 (dk_at dksX3_chalk_3 1 rfl rfl)
theorem dX3_chalk_75 : decode cX3_chalk 75 = .ok (.imul, 1) := dk_104 (dk_at dksX3_chalk_3 3 rfl rfl)
theorem dX3_chalk_76 : decode cX3_chalk 76 = .ok (.iconst 1, 1) := dk_4 (dk_at dksX3_chalk_3 4 rfl rfl)
theorem dX3_chalk_77 : decode cX3_chalk 77 = .ok (.iadd, 1) := dk_96 (dk_at dksX3_chalk_3 5 rfl rfl)
theorem dX3_chalk_78 : decode cX3_chalk 78 = .ok (.aload_n 0, 1) := dk_42 (dk_at dksX3_chalk_3 6 rfl rfl)
theorem dX3_chalk_79 : decode cX3_chalk 79 = .ok (.iload 4, 2) := dk_21 4 (dk_at dksX3_chalk_3 7 rfl rfl)
theorem dX3_chalk_81 : decode cX3_chalk 81 = .ok (.iconst 1, 1) := dk_4 (dk_at dksX3_chalk_3 9 rfl rfl)
theorem dX3_chalk_82 : decode cX3_chalk 82 = .ok (.invokevirtual 312, 3) := dk_182 1 56 (dk_at dksX3_chalk_3 10 rfl rfl)
theorem dX3_chalk_85 : decode cX3_chalk 85 = .ok (.ifCond .lt 7, 3) := dk_155 0 7 (dk_at dksX3_chalk_3 13 rfl rfl)
theorem dX3_chalk_88 : decode cX3_chalk 88 = .ok (.iconst 1, 1) := dk_4 (dk_at dksX3_chalk_3 16 rfl rfl)
theorem dX3_chalk_89 : decode cX3_chalk 89 = .ok (.goto 4, 3) := dk_167 0 4 (dk_at dksX3_chalk_3 17 rfl rfl)
theorem dX3_chalk_92 : decode cX3_chalk 92 = .ok (.iconst 0, 1) := dk_3 (dk_at dksX3_chalk_3 20 rfl rfl)
theorem dX3_chalk_93 : decode cX3_chalk 93 = .ok (.bastore, 1) := dk_84 (dk_at dksX3_chalk_3 21 rfl rfl)
theorem dX3_chalk_94 : decode cX3_chalk 94 = .ok (.iinc 4 1, 3) := dk_132 4 1 (dk_at dksX3_chalk_4 0 rfl rfl)
theorem dX3_chalk_97 : decode cX3_chalk 97 = .ok (.goto (-59), 3) := dk_167 255 197 (dk_at dksX3_chalk_4 3 rfl rfl)
theorem dX3_chalk_100 : decode cX3_chalk 100 = .ok (.aload_n 0, 1) := dk_42 (dk_at dksX3_chalk_4 6 rfl rfl)
theorem dX3_chalk_101 : decode cX3_chalk 101 = .ok (.iload_n 1, 1) := dk_27 (dk_at dksX3_chalk_4 7 rfl rfl)
theorem dX3_chalk_102 : decode cX3_chalk 102 = .ok (.iload_n 2, 1) := dk_28 (dk_at dksX3_chalk_4 8 rfl rfl)
theorem dX3_chalk_103 : decode cX3_chalk 103 = .ok (.invokevirtual 312, 3) := dk_182 1 56 (dk_at dksX3_chalk_4 9 rfl rfl)
theorem dX3_chalk_106 : decode cX3_chalk 106 = .ok (.istore 4, 2) := dk_54 4 (dk_at dksX3_chalk_4 12 rfl rfl)
theorem dX3_chalk_108 : decode cX3_chalk 108 = .ok (.iload_n 3, 1) := dk_29 (dk_at dksX3_chalk_4 14 rfl rfl)
theorem dX3_chalk_109 : decode cX3_chalk 109 = .ok (.iconst 1, 1) := dk_4 (dk_at dksX3_chalk_4 15 rfl rfl)
theorem dX3_chalk_110 : decode cX3_chalk 110 = .ok (.if_icmp .ne 8, 3) := dk_160 0 8 (dk_at dksX3_chalk_4 16 rfl rfl)
theorem dX3_chalk_113 : decode cX3_chalk 113 = .ok (.iload 4, 2) := dk_21 4 (dk_at dksX3_chalk_4 19 rfl rfl)
theorem dX3_chalk_115 : decode cX3_chalk 115 = .ok (.goto 13, 3) := dk_167 0 13 (dk_at dksX3_chalk_4 21 rfl rfl)
theorem dX3_chalk_118 : decode cX3_chalk 118 = .ok (.iload 4, 2) := dk_21 4 (dk_at dksX3_chalk_5 0 rfl rfl)
theorem dX3_chalk_120 : decode cX3_chalk 120 = .ok (.ifCond .ge 7, 3) := dk_156 0 7 (dk_at dksX3_chalk_5 2 rfl rfl)
theorem dX3_chalk_123 : decode cX3_chalk 123 = .ok (.iconst 0, 1) := dk_3 (dk_at dksX3_chalk_5 5 rfl rfl)
theorem dX3_chalk_124 : decode cX3_chalk 124 = .ok (.goto 4, 3) := dk_167 0 4 (dk_at dksX3_chalk_5 6 rfl rfl)
theorem dX3_chalk_127 : decode cX3_chalk 127 = .ok (.iconst 1, 1) := dk_4 (dk_at dksX3_chalk_5 9 rfl rfl)
theorem dX3_chalk_128 : decode cX3_chalk 128 = .ok (.ireturn, 1) := dk_172 (dk_at dksX3_chalk_5 10 rfl rfl)
abbrev cX3_leastTake : ByteArray := prog_5_method_63_code
def yX3_leastTake : MethodName := ⟨RX3, "leastTake", "(II)I"⟩
def dkwX3_leastTake_4 : List UInt8 := [132, 4, 255, 167, 255, 190, 29, 172]
abbrev dktX3_leastTake_4 : List UInt8 := dkwX3_leastTake_4 ++ []
def dkwX3_leastTake_3 : List UInt8 := [96, 51, 153, 0, 7, 29, 167, 0, 11, 16, 10, 21, 4, 104, 21, 5, 96, 62, 132, 5, 255, 167, 255, 209]
abbrev dktX3_leastTake_3 : List UInt8 := dkwX3_leastTake_3 ++ dktX3_leastTake_4
def dkwX3_leastTake_2 : List UInt8 := [158, 0, 48, 27, 21, 5, 21, 4, 184, 1, 51, 104, 100, 54, 6, 42, 180, 0, 56, 5, 21, 6, 104, 28]
abbrev dktX3_leastTake_2 : List UInt8 := dkwX3_leastTake_2 ++ dktX3_leastTake_3
def dkwX3_leastTake_1 : List UInt8 := [167, 0, 5, 16, 250, 62, 5, 54, 4, 21, 4, 155, 0, 67, 27, 21, 4, 184, 1, 48, 54, 5, 21, 5]
abbrev dktX3_leastTake_1 : List UInt8 := dkwX3_leastTake_1 ++ dktX3_leastTake_2
def dkwX3_leastTake_0 : List UInt8 := [28, 4, 160, 0, 23, 27, 158, 0, 19, 42, 180, 0, 56, 5, 27, 104, 51, 154, 0, 8, 16, 99]
abbrev dktX3_leastTake_0 : List UInt8 := dkwX3_leastTake_0 ++ dktX3_leastTake_1
theorem dksX3_leastTake_0 : cX3_leastTake.data.toList.drop 0 = dktX3_leastTake_0 := by decide +kernel
theorem dksX3_leastTake_1 : cX3_leastTake.data.toList.drop 22 = dktX3_leastTake_1 := dk_seg dksX3_leastTake_0 22 rfl rfl
theorem dksX3_leastTake_2 : cX3_leastTake.data.toList.drop 46 = dktX3_leastTake_2 := dk_seg dksX3_leastTake_1 24 rfl rfl
theorem dksX3_leastTake_3 : cX3_leastTake.data.toList.drop 70 = dktX3_leastTake_3 := dk_seg dksX3_leastTake_2 24 rfl rfl
theorem dksX3_leastTake_4 : cX3_leastTake.data.toList.drop 94 = dktX3_leastTake_4 := dk_seg dksX3_leastTake_3 24 rfl rfl
theorem dX3_leastTake_0 : decode cX3_leastTake 0 = .ok (.iload_n 2, 1) := dk_28 (dk_at dksX3_leastTake_0 0 rfl rfl)
theorem dX3_leastTake_1 : decode cX3_leastTake 1 = .ok (.iconst 1, 1) := dk_4 (dk_at dksX3_leastTake_0 1 rfl rfl)
theorem dX3_leastTake_2 : decode cX3_leastTake 2 = .ok (.if_icmp .ne 23, 3) := dk_160 0 23 (dk_at dksX3_leastTake_0 2 rfl rfl)
theorem dX3_leastTake_5 : decode cX3_leastTake 5 = .ok (.iload_n 1, 1) := dk_27 (dk_at dksX3_leastTake_0 5 rfl rfl)
theorem dX3_leastTake_6 : decode cX3_leastTake 6 = .ok (.ifCond .le 19, 3) := dk_158 0 19 (dk_at dksX3_leastTake_0 6 rfl rfl)
theorem dX3_leastTake_9 : decode cX3_leastTake 9 = .ok (.aload_n 0, 1) := dk_42 (dk_at dksX3_leastTake_0 9 rfl rfl)
theorem dX3_leastTake_10 : decode cX3_leastTake 10 = .ok (.getfield 56, 3) := dk_180 0 56 (dk_at dksX3_leastTake_0 10 rfl rfl)
theorem dX3_leastTake_13 : decode cX3_leastTake 13 = .ok (.iconst 2, 1) := dk_5 (dk_at dksX3_leastTake_0 13 rfl rfl)
theorem dX3_leastTake_14 : decode cX3_leastTake 14 = .ok (.iload_n 1, 1) := dk_27 (dk_at dksX3_leastTake_0 14 rfl rfl)
theorem dX3_leastTake_15 : decode cX3_leastTake 15 = .ok (.imul, 1) := dk_104 (dk_at dksX3_leastTake_0 15 rfl rfl)
theorem dX3_leastTake_16 : decode cX3_leastTake 16 = .ok (.baload, 1) := dk_51 (dk_at dksX3_leastTake_0 16 rfl rfl)
theorem dX3_leastTake_17 : decode cX3_leastTake 17 = .ok (.ifCond .ne 8, 3) := dk_154 0 8 (dk_at dksX3_leastTake_0 17 rfl rfl)
theorem dX3_leastTake_20 : decode cX3_leastTake 20 = .ok (.bipush 99, 2) := dk_16 99 (dk_at dksX3_leastTake_0 20 rfl rfl)
theorem dX3_leastTake_22 : decode cX3_leastTake 22 = .ok (.goto 5, 3) := dk_167 0 5 (dk_at dksX3_leastTake_1 0 rfl rfl)
theorem dX3_leastTake_25 : decode cX3_leastTake 25 = .ok (.bipush (-6), 2) := dk_16 250 (dk_at dksX3_leastTake_1 3 rfl rfl)
theorem dX3_leastTake_27 : decode cX3_leastTake 27 = .ok (.istore_n 3, 1) := dk_62 (dk_at dksX3_leastTake_1 5 rfl rfl)
theorem dX3_leastTake_28 : decode cX3_leastTake 28 = .ok (.iconst 2, 1) := dk_5 (dk_at dksX3_leastTake_1 6 rfl rfl)
theorem dX3_leastTake_29 : decode cX3_leastTake 29 = .ok (.istore 4, 2) := dk_54 4 (dk_at dksX3_leastTake_1 7 rfl rfl)
theorem dX3_leastTake_31 : decode cX3_leastTake 31 = .ok (.iload 4, 2) := dk_21 4 (dk_at dksX3_leastTake_1 9 rfl rfl)
theorem dX3_leastTake_33 : decode cX3_leastTake 33 = .ok (.ifCond .lt 67, 3) := dk_155 0 67 (dk_at dksX3_leastTake_1 11 rfl rfl)
theorem dX3_leastTake_36 : decode cX3_leastTake 36 = .ok (.iload_n 1, 1) := dk_27 (dk_at dksX3_leastTake_1 14 rfl rfl)
theorem dX3_leastTake_37 : decode cX3_leastTake 37 = .ok (.iload 4, 2) := dk_21 4 (dk_at dksX3_leastTake_1 15 rfl rfl)
theorem dX3_leastTake_39 : decode cX3_leastTake 39 = .ok (.invokestatic 304, 3) := dk_184 1 48 (dk_at dksX3_leastTake_1 17 rfl rfl)
theorem dX3_leastTake_42 : decode cX3_leastTake 42 = .ok (.istore 5, 2) := dk_54 5 (dk_at dksX3_leastTake_1 20 rfl rfl)
theorem dX3_leastTake_44 : decode cX3_leastTake 44 = .ok (.iload 5, 2) := dk_21 5 (dk_at dksX3_leastTake_1 22 rfl rfl)
theorem dX3_leastTake_46 : decode cX3_leastTake 46 = .ok (.ifCond .le 48, 3) := dk_158 0 48 (dk_at dksX3_leastTake_2 0 rfl rfl)
theorem dX3_leastTake_49 : decode cX3_leastTake 49 = .ok (.iload_n 1, 1) := dk_27 (dk_at dksX3_leastTake_2 3 rfl rfl)
theorem dX3_leastTake_50 : decode cX3_leastTake 50 = .ok (.iload 5, 2) := dk_21 5 (dk_at dksX3_leastTake_2 4 rfl rfl)
theorem dX3_leastTake_52 : decode cX3_leastTake 52 = .ok (.iload 4, 2) := dk_21 4 (dk_at dksX3_leastTake_2 6 rfl rfl)
theorem dX3_leastTake_54 : decode cX3_leastTake 54 = .ok (.invokestatic 307, 3) := dk_184 1 51 (dk_at dksX3_leastTake_2 8 rfl rfl)
theorem dX3_leastTake_57 : decode cX3_leastTake 57 = .ok (.imul, 1) := dk_104 (dk_at dksX3_leastTake_2 11 rfl rfl)
theorem dX3_leastTake_58 : decode cX3_leastTake 58 = .ok (.isub, 1) := dk_100 (dk_at dksX3_leastTake_2 12 rfl rfl)
theorem dX3_leastTake_59 : decode cX3_leastTake 59 = .ok (.istore 6, 2) := dk_54 6 (dk_at dksX3_leastTake_2 13 rfl rfl)
theorem dX3_leastTake_61 : decode cX3_leastTake 61 = .ok (.aload_n 0, 1) := dk_42 (dk_at dksX3_leastTake_2 15 rfl rfl)
theorem dX3_leastTake_62 : decode cX3_leastTake 62 = .ok (.getfield 56, 3) := dk_180 0 56 (dk_at dksX3_leastTake_2 16 rfl rfl)
theorem dX3_leastTake_65 : decode cX3_leastTake 65 = .ok (.iconst 2, 1) := dk_5 (dk_at dksX3_leastTake_2 19 rfl rfl)
theorem dX3_leastTake_66 : decode cX3_leastTake 66 = .ok (.iload 6, 2) := dk_21 6 (dk_at dksX3_leastTake_2 20 rfl rfl)
theorem dX3_leastTake_68 : decode cX3_leastTake 68 = .ok (.imul, 1) := dk_104 (dk_at dksX3_leastTake_2 22 rfl rfl)
theorem dX3_leastTake_69 : decode cX3_leastTake 69 = .ok (.iload_n 2, 1) := dk_28 (dk_at dksX3_leastTake_2 23 rfl rfl)
theorem dX3_leastTake_70 : decode cX3_leastTake 70 = .ok (.iadd, 1) := dk_96 (dk_at dksX3_leastTake_3 0 rfl rfl)
theorem dX3_leastTake_71 : decode cX3_leastTake 71 = .ok (.baload, 1) := dk_51 (dk_at dksX3_leastTake_3 1 rfl rfl)
theorem dX3_leastTake_72 : decode cX3_leastTake 72 = .ok (.ifCond .eq 7, 3) := dk_153 0 7 (dk_at dksX3_leastTake_3 2 rfl rfl)
theorem dX3_leastTake_75 : decode cX3_leastTake 75 = .ok (.iload_n 3, 1) := dk_29 (dk_at dksX3_leastTake_3 5 rfl rfl)
theorem dX3_leastTake_76 : decode cX3_leastTake 76 = .ok (.goto 11, 3) := dk_167 0 11 (dk_at dksX3_leastTake_3 6 rfl rfl)
theorem dX3_leastTake_79 : decode cX3_leastTake 79 = .ok (.bipush 10, 2) := dk_16 10 (dk_at dksX3_leastTake_3 9 rfl rfl)
theorem dX3_leastTake_81 : decode cX3_leastTake 81 = .ok (.iload 4, 2) := dk_21 4 (dk_at dksX3_leastTake_3 11 rfl rfl)
theorem dX3_leastTake_83 : decode cX3_leastTake 83 = .ok (.imul, 1) := dk_104 (dk_at dksX3_leastTake_3 13 rfl rfl)
theorem dX3_leastTake_84 : decode cX3_leastTake 84 = .ok (.iload 5, 2) := dk_21 5 (dk_at dksX3_leastTake_3 14 rfl rfl)
theorem dX3_leastTake_86 : decode cX3_leastTake 86 = .ok (.iadd, 1) := dk_96 (dk_at dksX3_leastTake_3 16 rfl rfl)
theorem dX3_leastTake_87 : decode cX3_leastTake 87 = .ok (.istore_n 3, 1) := dk_62 (dk_at dksX3_leastTake_3 17 rfl rfl)
theorem dX3_leastTake_88 : decode cX3_leastTake 88 = .ok (.iinc 5 (-1), 3) := dk_132 5 255 (dk_at dksX3_leastTake_3 18 rfl rfl)
theorem dX3_leastTake_91 : decode cX3_leastTake 91 = .ok (.goto (-47), 3) := dk_167 255 209 (dk_at dksX3_leastTake_3 21 rfl rfl)
theorem dX3_leastTake_94 : decode cX3_leastTake 94 = .ok (.iinc 4 (-1), 3) := dk_132 4 255 (dk_at dksX3_leastTake_4 0 rfl rfl)
theorem dX3_leastTake_97 : decode cX3_leastTake 97 = .ok (.goto (-66), 3) := dk_167 255 190 (dk_at dksX3_leastTake_4 3 rfl rfl)
theorem dX3_leastTake_100 : decode cX3_leastTake 100 = .ok (.iload_n 3, 1) := dk_29 (dk_at dksX3_leastTake_4 6 rfl rfl)
theorem dX3_leastTake_101 : decode cX3_leastTake 101 = .ok (.ireturn, 1) := dk_172 (dk_at dksX3_leastTake_4 7 rfl rfl)
abbrev cX3_digit : ByteArray := prog_5_method_61_code
def yX3_digit : MethodName := ⟨RX3, "digit", "(II)I"⟩
def dkwX3_digit_1 : List UInt8 := [167, 0, 7, 26, 16, 10, 112, 172]
abbrev dktX3_digit_1 : List UInt8 := dkwX3_digit_1 ++ []
def dkwX3_digit_0 : List UInt8 := [27, 154, 0, 10, 26, 16, 100, 108, 167, 0, 22, 27, 4, 160, 0, 13, 26, 16, 10, 108, 16, 10, 112]
abbrev dktX3_digit_0 : List UInt8 := dkwX3_digit_0 ++ dktX3_digit_1
theorem dksX3_digit_0 : cX3_digit.data.toList.drop 0 = dktX3_digit_0 := by decide +kernel
theorem dksX3_digit_1 : cX3_digit.data.toList.drop 23 = dktX3_digit_1 := dk_seg dksX3_digit_0 23 rfl rfl
theorem dX3_digit_0 : decode cX3_digit 0 = .ok (.iload_n 1, 1) := dk_27 (dk_at dksX3_digit_0 0 rfl rfl)
theorem dX3_digit_1 : decode cX3_digit 1 = .ok (.ifCond .ne 10, 3) := dk_154 0 10 (dk_at dksX3_digit_0 1 rfl rfl)
theorem dX3_digit_4 : decode cX3_digit 4 = .ok (.iload_n 0, 1) := dk_26 (dk_at dksX3_digit_0 4 rfl rfl)
theorem dX3_digit_5 : decode cX3_digit 5 = .ok (.bipush 100, 2) := dk_16 100 (dk_at dksX3_digit_0 5 rfl rfl)
theorem dX3_digit_7 : decode cX3_digit 7 = .ok (.idiv, 1) := dk_108 (dk_at dksX3_digit_0 7 rfl rfl)
theorem dX3_digit_8 : decode cX3_digit 8 = .ok (.goto 22, 3) := dk_167 0 22 (dk_at dksX3_digit_0 8 rfl rfl)
theorem dX3_digit_11 : decode cX3_digit 11 = .ok (.iload_n 1, 1) := dk_27 (dk_at dksX3_digit_0 11 rfl rfl)
theorem dX3_digit_12 : decode cX3_digit 12 = .ok (.iconst 1, 1) := dk_4 (dk_at dksX3_digit_0 12 rfl rfl)
theorem dX3_digit_13 : decode cX3_digit 13 = .ok (.if_icmp .ne 13, 3) := dk_160 0 13 (dk_at dksX3_digit_0 13 rfl rfl)
theorem dX3_digit_16 : decode cX3_digit 16 = .ok (.iload_n 0, 1) := dk_26 (dk_at dksX3_digit_0 16 rfl rfl)
theorem dX3_digit_17 : decode cX3_digit 17 = .ok (.bipush 10, 2) := dk_16 10 (dk_at dksX3_digit_0 17 rfl rfl)
theorem dX3_digit_19 : decode cX3_digit 19 = .ok (.idiv, 1) := dk_108 (dk_at dksX3_digit_0 19 rfl rfl)
theorem dX3_digit_20 : decode cX3_digit 20 = .ok (.bipush 10, 2) := dk_16 10 (dk_at dksX3_digit_0 20 rfl rfl)
theorem dX3_digit_22 : decode cX3_digit 22 = .ok (.irem, 1) := dk_112 (dk_at dksX3_digit_0 22 rfl rfl)
theorem dX3_digit_23 : decode cX3_digit 23 = .ok (.goto 7, 3) := dk_167 0 7 (dk_at dksX3_digit_1 0 rfl rfl)
theorem dX3_digit_26 : decode cX3_digit 26 = .ok (.iload_n 0, 1) := dk_26 (dk_at dksX3_digit_1 3 rfl rfl)
theorem dX3_digit_27 : decode cX3_digit 27 = .ok (.bipush 10, 2) := dk_16 10 (dk_at dksX3_digit_1 4 rfl rfl)
theorem dX3_digit_29 : decode cX3_digit 29 = .ok (.irem, 1) := dk_112 (dk_at dksX3_digit_1 6 rfl rfl)
theorem dX3_digit_30 : decode cX3_digit 30 = .ok (.ireturn, 1) := dk_172 (dk_at dksX3_digit_1 7 rfl rfl)
abbrev cX3_tenTo : ByteArray := prog_5_method_62_code
def yX3_tenTo : MethodName := ⟨RX3, "tenTo", "(I)I"⟩
def dkwX3_tenTo_0 : List UInt8 := [26, 154, 0, 8, 16, 100, 167, 0, 14, 26, 4, 160, 0, 8, 16, 10, 167, 0, 4, 4, 172]
abbrev dktX3_tenTo_0 : List UInt8 := dkwX3_tenTo_0 ++ []
theorem dksX3_tenTo_0 : cX3_tenTo.data.toList.drop 0 = dktX3_tenTo_0 := by decide +kernel
theorem dX3_tenTo_0 : decode cX3_tenTo 0 = .ok (.iload_n 0, 1) := dk_26 (dk_at dksX3_tenTo_0 0 rfl rfl)
theorem dX3_tenTo_1 : decode cX3_tenTo 1 = .ok (.ifCond .ne 8, 3) := dk_154 0 8 (dk_at dksX3_tenTo_0 1 rfl rfl)
theorem dX3_tenTo_4 : decode cX3_tenTo 4 = .ok (.bipush 100, 2) := dk_16 100 (dk_at dksX3_tenTo_0 4 rfl rfl)
theorem dX3_tenTo_6 : decode cX3_tenTo 6 = .ok (.goto 14, 3) := dk_167 0 14 (dk_at dksX3_tenTo_0 6 rfl rfl)
theorem dX3_tenTo_9 : decode cX3_tenTo 9 = .ok (.iload_n 0, 1) := dk_26 (dk_at dksX3_tenTo_0 9 rfl rfl)
theorem dX3_tenTo_10 : decode cX3_tenTo 10 = .ok (.iconst 1, 1) := dk_4 (dk_at dksX3_tenTo_0 10 rfl rfl)
theorem dX3_tenTo_11 : decode cX3_tenTo 11 = .ok (.if_icmp .ne 8, 3) := dk_160 0 8 (dk_at dksX3_tenTo_0 11 rfl rfl)
theorem dX3_tenTo_14 : decode cX3_tenTo 14 = .ok (.bipush 10, 2) := dk_16 10 (dk_at dksX3_tenTo_0 14 rfl rfl)
theorem dX3_tenTo_16 : decode cX3_tenTo 16 = .ok (.goto 4, 3) := dk_167 0 4 (dk_at dksX3_tenTo_0 16 rfl rfl)
theorem dX3_tenTo_19 : decode cX3_tenTo 19 = .ok (.iconst 1, 1) := dk_4 (dk_at dksX3_tenTo_0 19 rfl rfl)
theorem dX3_tenTo_20 : decode cX3_tenTo 20 = .ok (.ireturn, 1) := dk_172 (dk_at dksX3_tenTo_0 20 rfl rfl)
abbrev cX3_match : ByteArray := prog_5_method_68_code
def yX3_match : MethodName := ⟨RX3, "match", "(IIIIII)J"⟩
def dkwX3_match_11 : List UInt8 := [22, 8, 167, 0, 5, 22, 10, 20, 1, 59, 21, 7, 184, 1, 66, 21, 6, 184, 1, 70, 173]
abbrev dktX3_match_11 : List UInt8 := dkwX3_match_11 ++ []
def dkwX3_match_10 : List UInt8 := [21, 7, 21, 13, 100, 184, 1, 66, 105, 97, 55, 10, 132, 12, 1, 167, 255, 203, 21, 5, 154, 0, 8]
abbrev dktX3_match_10 : List UInt8 := dkwX3_match_10 ++ dktX3_match_11
def dkwX3_match_9 : List UInt8 := [54, 13, 22, 10, 21, 13, 133, 42, 180, 0, 59, 16, 9, 21, 12, 104, 27, 96, 47, 105, 20, 1, 59]
abbrev dktX3_match_9 : List UInt8 := dkwX3_match_9 ++ dktX3_match_10
def dkwX3_match_8 : List UInt8 := [132, 12, 1, 167, 255, 174, 29, 54, 12, 21, 12, 27, 162, 0, 53, 21, 12, 29, 100, 27, 96, 21, 4, 100]
abbrev dktX3_match_8 : List UInt8 := dkwX3_match_8 ++ dktX3_match_9
def dkwX3_match_7 : List UInt8 := [16, 9, 27, 104, 21, 12, 96, 47, 105, 20, 1, 59, 21, 7, 21, 13, 100, 184, 1, 66, 105, 97, 55, 10]
abbrev dktX3_match_7 : List UInt8 := dkwX3_match_7 ++ dktX3_match_8
def dkwX3_match_6 : List UInt8 := [20, 1, 59, 21, 7, 21, 13, 100, 184, 1, 66, 105, 97, 55, 8, 22, 10, 21, 13, 133, 42, 180, 0, 59]
abbrev dktX3_match_6 : List UInt8 := dkwX3_match_6 ++ dktX3_match_7
def dkwX3_match_5 : List UInt8 := [21, 12, 96, 21, 4, 100, 54, 13, 22, 8, 42, 180, 0, 59, 16, 9, 27, 104, 21, 12, 96, 47]
abbrev dktX3_match_5 : List UInt8 := dkwX3_match_5 ++ dktX3_match_6
def dkwX3_match_4 : List UInt8 := [4, 100, 54, 7, 9, 55, 8, 9, 55, 10, 21, 4, 54, 12, 21, 12, 27, 162, 0, 82, 27, 29, 100]
abbrev dktX3_match_4 : List UInt8 := dkwX3_match_4 ++ dktX3_match_5
def dkwX3_match_3 : List UInt8 := [154, 0, 7, 20, 1, 61, 173, 42, 27, 28, 29, 21, 4, 182, 1, 63, 27, 29, 100, 27, 96, 21, 4, 100]
abbrev dktX3_match_3 : List UInt8 := dkwX3_match_3 ++ dktX3_match_4
def dkwX3_match_2 : List UInt8 := [153, 0, 25, 21, 5, 133, 9, 10, 184, 0, 75, 153, 0, 14, 21, 6, 133, 9, 10, 184, 0, 75]
abbrev dktX3_match_2 : List UInt8 := dkwX3_match_2 ++ dktX3_match_3
def dkwX3_match_1 : List UInt8 := [29, 133, 9, 27, 4, 100, 133, 184, 0, 75, 153, 0, 39, 21, 4, 133, 9, 27, 4, 100, 133, 184, 0, 75]
abbrev dktX3_match_1 : List UInt8 := dkwX3_match_1 ++ dktX3_match_2
def dkwX3_match_0 : List UInt8 := [27, 133, 10, 20, 0, 96, 184, 0, 75, 153, 0, 64, 28, 133, 9, 20, 1, 59, 184, 0, 75, 153, 0, 52]
abbrev dktX3_match_0 : List UInt8 := dkwX3_match_0 ++ dktX3_match_1
theorem dksX3_match_0 : cX3_match.data.toList.drop 0 = dktX3_match_0 := by decide +kernel
theorem dksX3_match_1 : cX3_match.data.toList.drop 24 = dktX3_match_1 := dk_seg dksX3_match_0 24 rfl rfl
theorem dksX3_match_2 : cX3_match.data.toList.drop 48 = dktX3_match_2 := dk_seg dksX3_match_1 24 rfl rfl
theorem dksX3_match_3 : cX3_match.data.toList.drop 70 = dktX3_match_3 := dk_seg dksX3_match_2 22 rfl rfl
theorem dksX3_match_4 : cX3_match.data.toList.drop 94 = dktX3_match_4 := dk_seg dksX3_match_3 24 rfl rfl
theorem dksX3_match_5 : cX3_match.data.toList.drop 117 = dktX3_match_5 := dk_seg dksX3_match_4 23 rfl rfl
theorem dksX3_match_6 : cX3_match.data.toList.drop 139 = dktX3_match_6 := dk_seg dksX3_match_5 22 rfl rfl
theorem dksX3_match_7 : cX3_match.data.toList.drop 163 = dktX3_match_7 := dk_seg dksX3_match_6 24 rfl rfl
theorem dksX3_match_8 : cX3_match.data.toList.drop 187 = dktX3_match_8 := dk_seg dksX3_match_7 24 rfl rfl
theorem dksX3_match_9 : cX3_match.data.toList.drop 211 = dktX3_match_9 := dk_seg dksX3_match_8 24 rfl rfl
theorem dksX3_match_10 : cX3_match.data.toList.drop 234 = dktX3_match_10 := dk_seg dksX3_match_9 23 rfl rfl
theorem dksX3_match_11 : cX3_match.data.toList.drop 257 = dktX3_match_11 := dk_seg dksX3_match_10 23 rfl rfl
theorem dX3_match_0 : decode cX3_match 0 = .ok (.iload_n 1, 1) := dk_27 (dk_at dksX3_match_0 0 rfl rfl)
theorem dX3_match_1 : decode cX3_match 1 = .ok (.i2l, 1) := dk_133 (dk_at dksX3_match_0 1 rfl rfl)
theorem dX3_match_2 : decode cX3_match 2 = .ok (.lconst 1, 1) := dk_10 (dk_at dksX3_match_0 2 rfl rfl)
theorem dX3_match_3 : decode cX3_match 3 = .ok (.ldc2_w 96, 3) := dk_20 0 96 (dk_at dksX3_match_0 3 rfl rfl)
theorem dX3_match_6 : decode cX3_match 6 = .ok (.invokestatic 75, 3) := dk_184 0 75 (dk_at dksX3_match_0 6 rfl rfl)
theorem dX3_match_9 : decode cX3_match 9 = .ok (.ifCond .eq 64, 3) := dk_153 0 64 (dk_at dksX3_match_0 9 rfl rfl)
theorem dX3_match_12 : decode cX3_match 12 = .ok (.iload_n 2, 1) := dk_28 (dk_at dksX3_match_0 12 rfl rfl)
theorem dX3_match_13 : decode cX3_match 13 = .ok (.i2l, 1) := dk_133 (dk_at dksX3_match_0 13 rfl rfl)
theorem dX3_match_14 : decode cX3_match 14 = .ok (.lconst 0, 1) := dk_9 (dk_at dksX3_match_0 14 rfl rfl)
theorem dX3_match_15 : decode cX3_match 15 = .ok (.ldc2_w 315, 3) := dk_20 1 59 (dk_at dksX3_match_0 15 rfl rfl)
theorem dX3_match_18 : decode cX3_match 18 = .ok (.invokestatic 75, 3) := dk_184 0 75 (dk_at dksX3_match_0 18 rfl rfl)
theorem dX3_match_21 : decode cX3_match 21 = .ok (.ifCond .eq 52, 3) := dk_153 0 52 (dk_at dksX3_match_0 21 rfl rfl)
theorem dX3_match_24 : decode cX3_match 24 = .ok (.iload_n 3, 1) := dk_29 (dk_at dksX3_match_1 0 rfl rfl)
theorem dX3_match_25 : decode cX3_match 25 = .ok (.i2l, 1) := dk_133 (dk_at dksX3_match_1 1 rfl rfl)
theorem dX3_match_26 : decode cX3_match 26 = .ok (.lconst 0, 1) := dk_9 (dk_at dksX3_match_1 2 rfl rfl)
theorem dX3_match_27 : decode cX3_match 27 = .ok (.iload_n 1, 1) := dk_27 (dk_at dksX3_match_1 3 rfl rfl)
theorem dX3_match_28 : decode cX3_match 28 = .ok (.iconst 1, 1) := dk_4 (dk_at dksX3_match_1 4 rfl rfl)
theorem dX3_match_29 : decode cX3_match 29 = .ok (.isub, 1) := dk_100 (dk_at dksX3_match_1 5 rfl rfl)
theorem dX3_match_30 : decode cX3_match 30 = .ok (.i2l, 1) := dk_133 (dk_at dksX3_match_1 6 rfl rfl)
theorem dX3_match_31 : decode cX3_match 31 = .ok (.invokestatic 75, 3) := dk_184 0 75 (dk_at dksX3_match_1 7 rfl rfl)
theorem dX3_match_34 : decode cX3_match 34 = .ok (.ifCond .eq 39, 3) := dk_153 0 39 (dk_at dksX3_match_1 10 rfl rfl)
theorem dX3_match_37 : decode cX3_match 37 = .ok (.iload 4, 2) := dk_21 4 (dk_at dksX3_match_1 13 rfl rfl)
theorem dX3_match_39 : decode cX3_match 39 = .ok (.i2l, 1) := dk_133 (dk_at dksX3_match_1 15 rfl rfl)
theorem dX3_match_40 : decode cX3_match 40 = .ok (.lconst 0, 1) := dk_9 (dk_at dksX3_match_1 16 rfl rfl)
theorem dX3_match_41 : decode cX3_match 41 = .ok (.iload_n 1, 1) := dk_27 (dk_at dksX3_match_1 17 rfl rfl)
theorem dX3_match_42 : decode cX3_match 42 = .ok (.iconst 1, 1) := dk_4 (dk_at dksX3_match_1 18 rfl rfl)
theorem dX3_match_43 : decode cX3_match 43 = .ok (.isub, 1) := dk_100 (dk_at dksX3_match_1 19 rfl rfl)
theorem dX3_match_44 : decode cX3_match 44 = .ok (.i2l, 1) := dk_133 (dk_at dksX3_match_1 20 rfl rfl)
theorem dX3_match_45 : decode cX3_match 45 = .ok (.invokestatic 75, 3) := dk_184 0 75 (dk_at dksX3_match_1 21 rfl rfl)
theorem dX3_match_48 : decode cX3_match 48 = .ok (.ifCond .eq 25, 3) := dk_153 0 25 (dk_at dksX3_match_2 0 rfl rfl)
theorem dX3_match_51 : decode cX3_match 51 = .ok (.iload 5, 2) := dk_21 5 (dk_at dksX3_match_2 3 rfl rfl)
theorem dX3_match_53 : decode cX3_match 53 = .ok (.i2l, 1) := dk_133 (dk_at dksX3_match_2 5 rfl rfl)
theorem dX3_match_54 : decode cX3_match 54 = .ok (.lconst 0, 1) := dk_9 (dk_at dksX3_match_2 6 rfl rfl)
theorem dX3_match_55 : decode cX3_match 55 = .ok (.lconst 1, 1) := dk_10 (dk_at dksX3_match_2 7 rfl rfl)
theorem dX3_match_56 : decode cX3_match 56 = .ok (.invokestatic 75, 3) := dk_184 0 75 (dk_at dksX3_match_2 8 rfl rfl)
theorem dX3_match_59 : decode cX3_match 59 = .ok (.ifCond .eq 14, 3) := dk_153 0 14 (dk_at dksX3_match_2 11 rfl rfl)
theorem dX3_match_62 : decode cX3_match 62 = .ok (.iload 6, 2) := dk_21 6 (dk_at dksX3_match_2 14 rfl rfl)
theorem dX3_match_64 : decode cX3_match 64 = .ok (.i2l, 1) := dk_133 (dk_at dksX3_match_2 16 rfl rfl)
theorem dX3_match_65 : decode cX3_match 65 = .ok (.lconst 0, 1) := dk_9 (dk_at dksX3_match_2 17 rfl rfl)
theorem dX3_match_66 : decode cX3_match 66 = .ok (.lconst 1, 1) := dk_10 (dk_at dksX3_match_2 18 rfl rfl)
theorem dX3_match_67 : decode cX3_match 67 = .ok (.invokestatic 75, 3) := dk_184 0 75 (dk_at dksX3_match_2 19 rfl rfl)
theorem dX3_match_70 : decode cX3_match 70 = .ok (.ifCond .ne 7, 3) := dk_154 0 7 (dk_at dksX3_match_3 0 rfl rfl)
theorem dX3_match_73 : decode cX3_match 73 = .ok (.ldc2_w 317, 3) := dk_20 1 61 (dk_at dksX3_match_3 3 rfl rfl)
theorem dX3_match_76 : decode cX3_match 76 = .ok (.lreturn, 1) := dk_173 (dk_at dksX3_match_3 6 rfl rfl)
theorem dX3_match_77 : decode cX3_match 77 = .ok (.aload_n 0, 1) := dk_42 (dk_at dksX3_match_3 7 rfl rfl)
theorem dX3_match_78 : decode cX3_match 78 = .ok (.iload_n 1, 1) := dk_27 (dk_at dksX3_match_3 8 rfl rfl)
theorem dX3_match_79 : decode cX3_match 79 = .ok (.iload_n 2, 1) := dk_28 (dk_at dksX3_match_3 9 rfl rfl)
theorem dX3_match_80 : decode cX3_match 80 = .ok (.iload_n 3, 1) := dk_29 (dk_at dksX3_match_3 10 rfl rfl)
theorem dX3_match_81 : decode cX3_match 81 = .ok (.iload 4, 2) := dk_21 4 (dk_at dksX3_match_3 11 rfl rfl)
theorem dX3_match_83 : decode cX3_match 83 = .ok (.invokevirtual 319, 3) := dk_182 1 63 (dk_at dksX3_match_3 13 rfl rfl)
theorem dX3_match_86 : decode cX3_match 86 = .ok (.iload_n 1, 1) := dk_27 (dk_at dksX3_match_3 16 rfl rfl)
theorem dX3_match_87 : decode cX3_match 87 = .ok (.iload_n 3, 1) := dk_29 (dk_at dksX3_match_3 17 rfl rfl)
theorem dX3_match_88 : decode cX3_match 88 = .ok (.isub, 1) := dk_100 (dk_at dksX3_match_3 18 rfl rfl)
theorem dX3_match_89 : decode cX3_match 89 = .ok (.iload_n 1, 1) := dk_27 (dk_at dksX3_match_3 19 rfl rfl)
theorem dX3_match_90 : decode cX3_match 90 = .ok (.iadd, 1) := dk_96 (dk_at dksX3_match_3 20 rfl rfl)
theorem dX3_match_91 : decode cX3_match 91 = .ok (.iload 4, 2) := dk_21 4 (dk_at dksX3_match_3 21 rfl rfl)
theorem dX3_match_93 : decode cX3_match 93 = .ok (.isub, 1) := dk_100 (dk_at dksX3_match_3 23 rfl rfl)
theorem dX3_match_94 : decode cX3_match 94 = .ok (.iconst 1, 1) := dk_4 (dk_at dksX3_match_4 0 rfl rfl)
theorem dX3_match_95 : decode cX3_match 95 = .ok (.isub, 1) := dk_100 (dk_at dksX3_match_4 1 rfl rfl)
theorem dX3_match_96 : decode cX3_match 96 = .ok (.istore 7, 2) := dk_54 7 (dk_at dksX3_match_4 2 rfl rfl)
theorem dX3_match_98 : decode cX3_match 98 = .ok (.lconst 0, 1) := dk_9 (dk_at dksX3_match_4 4 rfl rfl)
theorem dX3_match_99 : decode cX3_match 99 = .ok (.lstore 8, 2) := dk_55 8 (dk_at dksX3_match_4 5 rfl rfl)
theorem dX3_match_101 : decode cX3_match 101 = .ok (.lconst 0, 1) := dk_9 (dk_at dksX3_match_4 7 rfl rfl)
theorem dX3_match_102 : decode cX3_match 102 = .ok (.lstore 10, 2) := dk_55 10 (dk_at dksX3_match_4 8 rfl rfl)
theorem dX3_match_104 : decode cX3_match 104 = .ok (.iload 4, 2) := dk_21 4 (dk_at dksX3_match_4 10 rfl rfl)
theorem dX3_match_106 : decode cX3_match 106 = .ok (.istore 12, 2) := dk_54 12 (dk_at dksX3_match_4 12 rfl rfl)
theorem dX3_match_108 : decode cX3_match 108 = .ok (.iload 12, 2) := dk_21 12 (dk_at dksX3_match_4 14 rfl rfl)
theorem dX3_match_110 : decode cX3_match 110 = .ok (.iload_n 1, 1) := dk_27 (dk_at dksX3_match_4 16 rfl rfl)
theorem dX3_match_111 : decode cX3_match 111 = .ok (.if_icmp .ge 82, 3) := dk_162 0 82 (dk_at dksX3_match_4 17 rfl rfl)
theorem dX3_match_114 : decode cX3_match 114 = .ok (.iload_n 1, 1) := dk_27 (dk_at dksX3_match_4 20 rfl rfl)
theorem dX3_match_115 : decode cX3_match 115 = .ok (.iload_n 3, 1) := dk_29 (dk_at dksX3_match_4 21 rfl rfl)
theorem dX3_match_116 : decode cX3_match 116 = .ok (.isub, 1) := dk_100 (dk_at dksX3_match_4 22 rfl rfl)
theorem dX3_match_117 : decode cX3_match 117 = .ok (.iload 12, 2) := dk_21 12 (dk_at dksX3_match_5 0 rfl rfl)
theorem dX3_match_119 : decode cX3_match 119 = .ok (.iadd, 1) := dk_96 (dk_at dksX3_match_5 2 rfl rfl)
theorem dX3_match_120 : decode cX3_match 120 = .ok (.iload 4, 2) := dk_21 4 (dk_at dksX3_match_5 3 rfl rfl)
theorem dX3_match_122 : decode cX3_match 122 = .ok (.isub, 1) := dk_100 (dk_at dksX3_match_5 5 rfl rfl)
theorem dX3_match_123 : decode cX3_match 123 = .ok (.istore 13, 2) := dk_54 13 (dk_at dksX3_match_5 6 rfl rfl)
theorem dX3_match_125 : decode cX3_match 125 = .ok (.lload 8, 2) := dk_22 8 (dk_at dksX3_match_5 8 rfl rfl)
theorem dX3_match_127 : decode cX3_match 127 = .ok (.aload_n 0, 1) := dk_42 (dk_at dksX3_match_5 10 rfl rfl)
theorem dX3_match_128 : decode cX3_match 128 = .ok (.getfield 59, 3) := dk_180 0 59 (dk_at dksX3_match_5 11 rfl rfl)
theorem dX3_match_131 : decode cX3_match 131 = .ok (.bipush 9, 2) := dk_16 9 (dk_at dksX3_match_5 14 rfl rfl)
theorem dX3_match_133 : decode cX3_match 133 = .ok (.iload_n 1, 1) := dk_27 (dk_at dksX3_match_5 16 rfl rfl)
theorem dX3_match_134 : decode cX3_match 134 = .ok (.imul, 1) := dk_104 (dk_at dksX3_match_5 17 rfl rfl)
theorem dX3_match_135 : decode cX3_match 135 = .ok (.iload 12, 2) := dk_21 12 (dk_at dksX3_match_5 18 rfl rfl)
theorem dX3_match_137 : decode cX3_match 137 = .ok (.iadd, 1) := dk_96 (dk_at dksX3_match_5 20 rfl rfl)
theorem dX3_match_138 : decode cX3_match 138 = .ok (.laload, 1) := dk_47 (dk_at dksX3_match_5 21 rfl rfl)
theorem dX3_match_139 : decode cX3_match 139 = .ok (.ldc2_w 315, 3) := dk_20 1 59 (dk_at dksX3_match_6 0 rfl rfl)
theorem dX3_match_142 : decode cX3_match 142 = .ok (.iload 7, 2) := dk_21 7 (dk_at dksX3_match_6 3 rfl rfl)
theorem dX3_match_144 : decode cX3_match 144 = .ok (.iload 13, 2) := dk_21 13 (dk_at dksX3_match_6 5 rfl rfl)
theorem dX3_match_146 : decode cX3_match 146 = .ok (.isub, 1) := dk_100 (dk_at dksX3_match_6 7 rfl rfl)
theorem dX3_match_147 : decode cX3_match 147 = .ok (.invokestatic 322, 3) := dk_184 1 66 (dk_at dksX3_match_6 8 rfl rfl)
theorem dX3_match_150 : decode cX3_match 150 = .ok (.lmul, 1) := dk_105 (dk_at dksX3_match_6 11 rfl rfl)
theorem dX3_match_151 : decode cX3_match 151 = .ok (.ladd, 1) := dk_97 (dk_at dksX3_match_6 12 rfl rfl)
theorem dX3_match_152 : decode cX3_match 152 = .ok (.lstore 8, 2) := dk_55 8 (dk_at dksX3_match_6 13 rfl rfl)
theorem dX3_match_154 : decode cX3_match 154 = .ok (.lload 10, 2) := dk_22 10 (dk_at dksX3_match_6 15 rfl rfl)
theorem dX3_match_156 : decode cX3_match 156 = .ok (.iload 13, 2) := dk_21 13 (dk_at dksX3_match_6 17 rfl rfl)
theorem dX3_match_158 : decode cX3_match 158 = .ok (.i2l, 1) := dk_133 (dk_at dksX3_match_6 19 rfl rfl)
theorem dX3_match_159 : decode cX3_match 159 = .ok (.aload_n 0, 1) := dk_42 (dk_at dksX3_match_6 20 rfl rfl)
theorem dX3_match_160 : decode cX3_match 160 = .ok (.getfield 59, 3) := dk_180 0 59 (dk_at dksX3_match_6 21 rfl rfl)
theorem dX3_match_163 : decode cX3_match 163 = .ok (.bipush 9, 2) := dk_16 9 (dk_at dksX3_match_7 0 rfl rfl)
theorem dX3_match_165 : decode cX3_match 165 = .ok (.iload_n 1, 1) := dk_27 (dk_at dksX3_match_7 2 rfl rfl)
theorem dX3_match_166 : decode cX3_match 166 = .ok (.imul, 1) := dk_104 (dk_at dksX3_match_7 3 rfl rfl)
theorem dX3_match_167 : decode cX3_match 167 = .ok (.iload 12, 2) := dk_21 12 (dk_at dksX3_match_7 4 rfl rfl)
theorem dX3_match_169 : decode cX3_match 169 = .ok (.iadd, 1) := dk_96 (dk_at dksX3_match_7 6 rfl rfl)
theorem dX3_match_170 : decode cX3_match 170 = .ok (.laload, 1) := dk_47 (dk_at dksX3_match_7 7 rfl rfl)
theorem dX3_match_171 : decode cX3_match 171 = .ok (.lmul, 1) := dk_105 (dk_at dksX3_match_7 8 rfl rfl)
theorem dX3_match_172 : decode cX3_match 172 = .ok (.ldc2_w 315, 3) := dk_20 1 59 (dk_at dksX3_match_7 9 rfl rfl)
theorem dX3_match_175 : decode cX3_match 175 = .ok (.iload 7, 2) := dk_21 7 (dk_at dksX3_match_7 12 rfl rfl)
theorem dX3_match_177 : decode cX3_match 177 = .ok (.iload 13, 2) := dk_21 13 (dk_at dksX3_match_7 14 rfl rfl)
theorem dX3_match_179 : decode cX3_match 179 = .ok (.isub, 1) := dk_100 (dk_at dksX3_match_7 16 rfl rfl)
theorem dX3_match_180 : decode cX3_match 180 = .ok (.invokestatic 322, 3) := dk_184 1 66 (dk_at dksX3_match_7 17 rfl rfl)
theorem dX3_match_183 : decode cX3_match 183 = .ok (.lmul, 1) := dk_105 (dk_at dksX3_match_7 20 rfl rfl)
theorem dX3_match_184 : decode cX3_match 184 = .ok (.ladd, 1) := dk_97 (dk_at dksX3_match_7 21 rfl rfl)
theorem dX3_match_185 : decode cX3_match 185 = .ok (.lstore 10, 2) := dk_55 10 (dk_at dksX3_match_7 22 rfl rfl)
theorem dX3_match_187 : decode cX3_match 187 = .ok (.iinc 12 1, 3) := dk_132 12 1 (dk_at dksX3_match_8 0 rfl rfl)
theorem dX3_match_190 : decode cX3_match 190 = .ok (.goto (-82), 3) := dk_167 255 174 (dk_at dksX3_match_8 3 rfl rfl)
theorem dX3_match_193 : decode cX3_match 193 = .ok (.iload_n 3, 1) := dk_29 (dk_at dksX3_match_8 6 rfl rfl)
theorem dX3_match_194 : decode cX3_match 194 = .ok (.istore 12, 2) := dk_54 12 (dk_at dksX3_match_8 7 rfl rfl)
theorem dX3_match_196 : decode cX3_match 196 = .ok (.iload 12, 2) := dk_21 12 (dk_at dksX3_match_8 9 rfl rfl)
theorem dX3_match_198 : decode cX3_match 198 = .ok (.iload_n 1, 1) := dk_27 (dk_at dksX3_match_8 11 rfl rfl)
theorem dX3_match_199 : decode cX3_match 199 = .ok (.if_icmp .ge 53, 3) := dk_162 0 53 (dk_at dksX3_match_8 12 rfl rfl)
theorem dX3_match_202 : decode cX3_match 202 = .ok (.iload 12, 2) := dk_21 12 (dk_at dksX3_match_8 15 rfl rfl)
theorem dX3_match_204 : decode cX3_match 204 = .ok (.iload_n 3, 1) := dk_29 (dk_at dksX3_match_8 17 rfl rfl)
theorem dX3_match_205 : decode cX3_match 205 = .ok (.isub, 1) := dk_100 (dk_at dksX3_match_8 18 rfl rfl)
theorem dX3_match_206 : decode cX3_match 206 = .ok (.iload_n 1, 1) := dk_27 (dk_at dksX3_match_8 19 rfl rfl)
theorem dX3_match_207 : decode cX3_match 207 = .ok (.iadd, 1) := dk_96 (dk_at dksX3_match_8 20 rfl rfl)
theorem dX3_match_208 : decode cX3_match 208 = .ok (.iload 4, 2) := dk_21 4 (dk_at dksX3_match_8 21 rfl rfl)
theorem dX3_match_210 : decode cX3_match 210 = .ok (.isub, 1) := dk_100 (dk_at dksX3_match_8 23 rfl rfl)
theorem dX3_match_211 : decode cX3_match 211 = .ok (.istore 13, 2) := dk_54 13 (dk_at dksX3_match_9 0 rfl rfl)
theorem dX3_match_213 : decode cX3_match 213 = .ok (.lload 10, 2) := dk_22 10 (dk_at dksX3_match_9 2 rfl rfl)
theorem dX3_match_215 : decode cX3_match 215 = .ok (.iload 13, 2) := dk_21 13 (dk_at dksX3_match_9 4 rfl rfl)
theorem dX3_match_217 : decode cX3_match 217 = .ok (.i2l, 1) := dk_133 (dk_at dksX3_match_9 6 rfl rfl)
theorem dX3_match_218 : decode cX3_match 218 = .ok (.aload_n 0, 1) := dk_42 (dk_at dksX3_match_9 7 rfl rfl)
theorem dX3_match_219 : decode cX3_match 219 = .ok (.getfield 59, 3) := dk_180 0 59 (dk_at dksX3_match_9 8 rfl rfl)
theorem dX3_match_222 : decode cX3_match 222 = .ok (.bipush 9, 2) := dk_16 9 (dk_at dksX3_match_9 11 rfl rfl)
theorem dX3_match_224 : decode cX3_match 224 = .ok (.iload 12, 2) := dk_21 12 (dk_at dksX3_match_9 13 rfl rfl)
theorem dX3_match_226 : decode cX3_match 226 = .ok (.imul, 1) := dk_104 (dk_at dksX3_match_9 15 rfl rfl)
theorem dX3_match_227 : decode cX3_match 227 = .ok (.iload_n 1, 1) := dk_27 (dk_at dksX3_match_9 16 rfl rfl)
theorem dX3_match_228 : decode cX3_match 228 = .ok (.iadd, 1) := dk_96 (dk_at dksX3_match_9 17 rfl rfl)
theorem dX3_match_229 : decode cX3_match 229 = .ok (.laload, 1) := dk_47 (dk_at dksX3_match_9 18 rfl rfl)
theorem dX3_match_230 : decode cX3_match 230 = .ok (.lmul, 1) := dk_105 (dk_at dksX3_match_9 19 rfl rfl)
theorem dX3_match_231 : decode cX3_match 231 = .ok (.ldc2_w 315, 3) := dk_20 1 59 (dk_at dksX3_match_9 20 rfl rfl)
theorem dX3_match_234 : decode cX3_match 234 = .ok (.iload 7, 2) := dk_21 7 (dk_at dksX3_match_10 0 rfl rfl)
theorem dX3_match_236 : decode cX3_match 236 = .ok (.iload 13, 2) := dk_21 13 (dk_at dksX3_match_10 2 rfl rfl)
theorem dX3_match_238 : decode cX3_match 238 = .ok (.isub, 1) := dk_100 (dk_at dksX3_match_10 4 rfl rfl)
theorem dX3_match_239 : decode cX3_match 239 = .ok (.invokestatic 322, 3) := dk_184 1 66 (dk_at dksX3_match_10 5 rfl rfl)
theorem dX3_match_242 : decode cX3_match 242 = .ok (.lmul, 1) := dk_105 (dk_at dksX3_match_10 8 rfl rfl)
theorem dX3_match_243 : decode cX3_match 243 = .ok (.ladd, 1) := dk_97 (dk_at dksX3_match_10 9 rfl rfl)
theorem dX3_match_244 : decode cX3_match 244 = .ok (.lstore 10, 2) := dk_55 10 (dk_at dksX3_match_10 10 rfl rfl)
theorem dX3_match_246 : decode cX3_match 246 = .ok (.iinc 12 1, 3) := dk_132 12 1 (dk_at dksX3_match_10 12 rfl rfl)
theorem dX3_match_249 : decode cX3_match 249 = .ok (.goto (-53), 3) := dk_167 255 203 (dk_at dksX3_match_10 15 rfl rfl)
theorem dX3_match_252 : decode cX3_match 252 = .ok (.iload 5, 2) := dk_21 5 (dk_at dksX3_match_10 18 rfl rfl)
theorem dX3_match_254 : decode cX3_match 254 = .ok (.ifCond .ne 8, 3) := dk_154 0 8 (dk_at dksX3_match_10 20 rfl rfl)
theorem dX3_match_257 : decode cX3_match 257 = .ok (.lload 8, 2) := dk_22 8 (dk_at dksX3_match_11 0 rfl rfl)
theorem dX3_match_259 : decode cX3_match 259 = .ok (.goto 5, 3) := dk_167 0 5 (dk_at dksX3_match_11 2 rfl rfl)
theorem dX3_match_262 : decode cX3_match 262 = .ok (.lload 10, 2) := dk_22 10 (dk_at dksX3_match_11 5 rfl rfl)
theorem dX3_match_264 : decode cX3_match 264 = .ok (.ldc2_w 315, 3) := dk_20 1 59 (dk_at dksX3_match_11 7 rfl rfl)
theorem dX3_match_267 : decode cX3_match 267 = .ok (.iload 7, 2) := dk_21 7 (dk_at dksX3_match_11 10 rfl rfl)
theorem dX3_match_269 : decode cX3_match 269 = .ok (.invokestatic 322, 3) := dk_184 1 66 (dk_at dksX3_match_11 12 rfl rfl)
theorem dX3_match_272 : decode cX3_match 272 = .ok (.iload 6, 2) := dk_21 6 (dk_at dksX3_match_11 15 rfl rfl)
theorem dX3_match_274 : decode cX3_match 274 = .ok (.invokestatic 326, 3) := dk_184 1 70 (dk_at dksX3_match_11 17 rfl rfl)
theorem dX3_match_277 : decode cX3_match 277 = .ok (.lreturn, 1) := dk_173 (dk_at dksX3_match_11 20 rfl rfl)
abbrev cX3_findChance : ByteArray := prog_5_method_67_code
def yX3_findChance : MethodName := ⟨RX3, "findChance", "(IIII)V"⟩
def dkwX3_findChance_6 : List UInt8 := [167, 255, 159, 177]
abbrev dktX3_findChance_6 : List UInt8 := dkwX3_findChance_6 ++ []
def dkwX3_findChance_5 : List UInt8 := [180, 0, 59, 16, 9, 21, 5, 104, 21, 6, 96, 47, 105, 97, 80, 132, 6, 1, 167, 255, 175, 132, 5, 1]
abbrev dktX3_findChance_5 : List UInt8 := dkwX3_findChance_5 ++ dktX3_findChance_6
def dkwX3_findChance_4 : List UInt8 := [180, 0, 59, 16, 9, 21, 5, 104, 21, 6, 96, 4, 96, 92, 47, 20, 1, 59, 28, 133, 101, 42]
abbrev dktX3_findChance_4 : List UInt8 := dkwX3_findChance_4 ++ dktX3_findChance_5
def dkwX3_findChance_3 : List UInt8 := [21, 6, 96, 92, 47, 28, 133, 42, 180, 0, 59, 16, 9, 21, 5, 104, 21, 6, 96, 47, 105, 97, 80, 42]
abbrev dktX3_findChance_3 : List UInt8 := dkwX3_findChance_3 ++ dktX3_findChance_4
def dkwX3_findChance_2 : List UInt8 := [162, 0, 97, 21, 4, 54, 6, 21, 6, 27, 162, 0, 81, 42, 180, 0, 59, 16, 9, 21, 5, 4, 96, 104]
abbrev dktX3_findChance_2 : List UInt8 := dkwX3_findChance_2 ++ dktX3_findChance_3
def dkwX3_findChance_1 : List UInt8 := [96, 160, 0, 7, 10, 167, 0, 4, 9, 80, 132, 5, 1, 167, 255, 222, 29, 54, 5, 21, 5, 27]
abbrev dktX3_findChance_1 : List UInt8 := dkwX3_findChance_1 ++ dktX3_findChance_2
def dkwX3_findChance_0 : List UInt8 := [3, 54, 5, 21, 5, 16, 81, 162, 0, 33, 42, 180, 0, 59, 21, 5, 21, 5, 16, 9, 29, 104, 21, 4]
abbrev dktX3_findChance_0 : List UInt8 := dkwX3_findChance_0 ++ dktX3_findChance_1
theorem dksX3_findChance_0 : cX3_findChance.data.toList.drop 0 = dktX3_findChance_0 := by decide +kernel
theorem dksX3_findChance_1 : cX3_findChance.data.toList.drop 24 = dktX3_findChance_1 := dk_seg dksX3_findChance_0 24 rfl rfl
theorem dksX3_findChance_2 : cX3_findChance.data.toList.drop 46 = dktX3_findChance_2 := dk_seg dksX3_findChance_1 22 rfl rfl
theorem dksX3_findChance_3 : cX3_findChance.data.toList.drop 70 = dktX3_findChance_3 := dk_seg dksX3_findChance_2 24 rfl rfl
theorem dksX3_findChance_4 : cX3_findChance.data.toList.drop 94 = dktX3_findChance_4 := dk_seg dksX3_findChance_3 24 rfl rfl
theorem dksX3_findChance_5 : cX3_findChance.data.toList.drop 116 = dktX3_findChance_5 := dk_seg dksX3_findChance_4 22 rfl rfl
theorem dksX3_findChance_6 : cX3_findChance.data.toList.drop 140 = dktX3_findChance_6 := dk_seg dksX3_findChance_5 24 rfl rfl
theorem dX3_findChance_0 : decode cX3_findChance 0 = .ok (.iconst 0, 1) := dk_3 (dk_at dksX3_findChance_0 0 rfl rfl)
theorem dX3_findChance_1 : decode cX3_findChance 1 = .ok (.istore 5, 2) := dk_54 5 (dk_at dksX3_findChance_0 1 rfl rfl)
theorem dX3_findChance_3 : decode cX3_findChance 3 = .ok (.iload 5, 2) := dk_21 5 (dk_at dksX3_findChance_0 3 rfl rfl)
theorem dX3_findChance_5 : decode cX3_findChance 5 = .ok (.bipush 81, 2) := dk_16 81 (dk_at dksX3_findChance_0 5 rfl rfl)
theorem dX3_findChance_7 : decode cX3_findChance 7 = .ok (.if_icmp .ge 33, 3) := dk_162 0 33 (dk_at dksX3_findChance_0 7 rfl rfl)
theorem dX3_findChance_10 : decode cX3_findChance 10 = .ok (.aload_n 0, 1) := dk_42 (dk_at dksX3_findChance_0 10 rfl rfl)
theorem dX3_findChance_11 : decode cX3_findChance 11 = .ok (.getfield 59, 3) := dk_180 0 59 (dk_at dksX3_findChance_0 11 rfl rfl)
theorem dX3_findChance_14 : decode cX3_findChance 14 = .ok (.iload 5, 2) := dk_21 5 (dk_at dksX3_findChance_0 14 rfl rfl)
theorem dX3_findChance_16 : decode cX3_findChance 16 = .ok (.iload 5, 2) := dk_21 5 (dk_at dksX3_findChance_0 16 rfl rfl)
theorem dX3_findChance_18 : decode cX3_findChance 18 = .ok (.bipush 9, 2) := dk_16 9 (dk_at dksX3_findChance_0 18 rfl rfl)
theorem dX3_findChance_20 : decode cX3_findChance 20 = .ok (.iload_n 3, 1) := dk_29 (dk_at dksX3_findChance_0 20 rfl rfl)
theorem dX3_findChance_21 : decode cX3_findChance 21 = .ok (.imul, 1) := dk_104 (dk_at dksX3_findChance_0 21 rfl rfl)
theorem dX3_findChance_22 : decode cX3_findChance 22 = .ok (.iload 4, 2) := dk_21 4 (dk_at dksX3_findChance_0 22 rfl rfl)
theorem dX3_findChance_24 : decode cX3_findChance 24 = .ok (.iadd, 1) := dk_96 (dk_at dksX3_findChance_1 0 rfl rfl)
theorem dX3_findChance_25 : decode cX3_findChance 25 = .ok (.if_icmp .ne 7, 3) := dk_160 0 7 (dk_at dksX3_findChance_1 1 rfl rfl)
theorem dX3_findChance_28 : decode cX3_findChance 28 = .ok (.lconst 1, 1) := dk_10 (dk_at dksX3_findChance_1 4 rfl rfl)
theorem dX3_findChance_29 : decode cX3_findChance 29 = .ok (.goto 4, 3) := dk_167 0 4 (dk_at dksX3_findChance_1 5 rfl rfl)
theorem dX3_findChance_32 : decode cX3_findChance 32 = .ok (.lconst 0, 1) := dk_9 (dk_at dksX3_findChance_1 8 rfl rfl)
theorem dX3_findChance_33 : decode cX3_findChance 33 = .ok (.lastore, 1) := dk_80 (dk_at dksX3_findChance_1 9 rfl rfl)
theorem dX3_findChance_34 : decode cX3_findChance 34 = .ok (.iinc 5 1, 3) := dk_132 5 1 (dk_at dksX3_findChance_1 10 rfl rfl)
theorem dX3_findChance_37 : decode cX3_findChance 37 = .ok (.goto (-34), 3) := dk_167 255 222 (dk_at dksX3_findChance_1 13 rfl rfl)
theorem dX3_findChance_40 : decode cX3_findChance 40 = .ok (.iload_n 3, 1) := dk_29 (dk_at dksX3_findChance_1 16 rfl rfl)
theorem dX3_findChance_41 : decode cX3_findChance 41 = .ok (.istore 5, 2) := dk_54 5 (dk_at dksX3_findChance_1 17 rfl rfl)
theorem dX3_findChance_43 : decode cX3_findChance 43 = .ok (.iload 5, 2) := dk_21 5 (dk_at dksX3_findChance_1 19 rfl rfl)
theorem dX3_findChance_45 : decode cX3_findChance 45 = .ok (.iload_n 1, 1) := dk_27 (dk_at dksX3_findChance_1 21 rfl rfl)
theorem dX3_findChance_46 : decode cX3_findChance 46 = .ok (.if_icmp .ge 97, 3) := dk_162 0 97 (dk_at dksX3_findChance_2 0 rfl rfl)
theorem dX3_findChance_49 : decode cX3_findChance 49 = .ok (.iload 4, 2) := dk_21 4 (dk_at dksX3_findChance_2 3 rfl rfl)
theorem dX3_findChance_51 : decode cX3_findChance 51 = .ok (.istore 6, 2) := dk_54 6 (dk_at dksX3_findChance_2 5 rfl rfl)
theorem dX3_findChance_53 : decode cX3_findChance 53 = .ok (.iload 6, 2) := dk_21 6 (dk_at dksX3_findChance_2 7 rfl rfl)
theorem dX3_findChance_55 : decode cX3_findChance 55 = .ok (.iload_n 1, 1) := dk_27 (dk_at dksX3_findChance_2 9 rfl rfl)
theorem dX3_findChance_56 : decode cX3_findChance 56 = .ok (.if_icmp .ge 81, 3) := dk_162 0 81 (dk_at dksX3_findChance_2 10 rfl rfl)
theorem dX3_findChance_59 : decode cX3_findChance 59 = .ok (.aload_n 0, 1) := dk_42 (dk_at dksX3_findChance_2 13 rfl rfl)
theorem dX3_findChance_60 : decode cX3_findChance 60 = .ok (.getfield 59, 3) := dk_180 0 59 (dk_at dksX3_findChance_2 14 rfl rfl)
theorem dX3_findChance_63 : decode cX3_findChance 63 = .ok (.bipush 9, 2) := dk_16 9 (dk_at dksX3_findChance_2 17 rfl rfl)
theorem dX3_findChance_65 : decode cX3_findChance 65 = .ok (.iload 5, 2) := dk_21 5 (dk_at dksX3_findChance_2 19 rfl rfl)
theorem dX3_findChance_67 : decode cX3_findChance 67 = .ok (.iconst 1, 1) := dk_4 (dk_at dksX3_findChance_2 21 rfl rfl)
theorem dX3_findChance_68 : decode cX3_findChance 68 = .ok (.iadd, 1) := dk_96 (dk_at dksX3_findChance_2 22 rfl rfl)
theorem dX3_findChance_69 : decode cX3_findChance 69 = .ok (.imul, 1) := dk_104 (dk_at dksX3_findChance_2 23 rfl rfl)
theorem dX3_findChance_70 : decode cX3_findChance 70 = .ok (.iload 6, 2) := dk_21 6 (dk_at dksX3_findChance_3 0 rfl rfl)
theorem dX3_findChance_72 : decode cX3_findChance 72 = .ok (.iadd, 1) := dk_96 (dk_at dksX3_findChance_3 2 rfl rfl)
theorem dX3_findChance_73 : decode cX3_findChance 73 = .ok (.dup2, 1) := dk_92 (dk_at dksX3_findChance_3 3 rfl rfl)
theorem dX3_findChance_74 : decode cX3_findChance 74 = .ok (.laload, 1) := dk_47 (dk_at dksX3_findChance_3 4 rfl rfl)
theorem dX3_findChance_75 : decode cX3_findChance 75 = .ok (.iload_n 2, 1) := dk_28 (dk_at dksX3_findChance_3 5 rfl rfl)
theorem dX3_findChance_76 : decode cX3_findChance 76 = .ok (.i2l, 1) := dk_133 (dk_at dksX3_findChance_3 6 rfl rfl)
theorem dX3_findChance_77 : decode cX3_findChance 77 = .ok (.aload_n 0, 1) := dk_42 (dk_at dksX3_findChance_3 7 rfl rfl)
theorem dX3_findChance_78 : decode cX3_findChance 78 = .ok (.getfield 59, 3) := dk_180 0 59 (dk_at dksX3_findChance_3 8 rfl rfl)
theorem dX3_findChance_81 : decode cX3_findChance 81 = .ok (.bipush 9, 2) := dk_16 9 (dk_at dksX3_findChance_3 11 rfl rfl)
theorem dX3_findChance_83 : decode cX3_findChance 83 = .ok (.iload 5, 2) := dk_21 5 (dk_at dksX3_findChance_3 13 rfl rfl)
theorem dX3_findChance_85 : decode cX3_findChance 85 = .ok (.imul, 1) := dk_104 (dk_at dksX3_findChance_3 15 rfl rfl)
theorem dX3_findChance_86 : decode cX3_findChance 86 = .ok (.iload 6, 2) := dk_21 6 (dk_at dksX3_findChance_3 16 rfl rfl)
theorem dX3_findChance_88 : decode cX3_findChance 88 = .ok (.iadd, 1) := dk_96 (dk_at dksX3_findChance_3 18 rfl rfl)
theorem dX3_findChance_89 : decode cX3_findChance 89 = .ok (.laload, 1) := dk_47 (dk_at dksX3_findChance_3 19 rfl rfl)
theorem dX3_findChance_90 : decode cX3_findChance 90 = .ok (.lmul, 1) := dk_105 (dk_at dksX3_findChance_3 20 rfl rfl)
theorem dX3_findChance_91 : decode cX3_findChance 91 = .ok (.ladd, 1) := dk_97 (dk_at dksX3_findChance_3 21 rfl rfl)
theorem dX3_findChance_92 : decode cX3_findChance 92 = .ok (.lastore, 1) := dk_80 (dk_at dksX3_findChance_3 22 rfl rfl)
theorem dX3_findChance_93 : decode cX3_findChance 93 = .ok (.aload_n 0, 1) := dk_42 (dk_at dksX3_findChance_3 23 rfl rfl)
theorem dX3_findChance_94 : decode cX3_findChance 94 = .ok (.getfield 59, 3) := dk_180 0 59 (dk_at dksX3_findChance_4 0 rfl rfl)
theorem dX3_findChance_97 : decode cX3_findChance 97 = .ok (.bipush 9, 2) := dk_16 9 (dk_at dksX3_findChance_4 3 rfl rfl)
theorem dX3_findChance_99 : decode cX3_findChance 99 = .ok (.iload 5, 2) := dk_21 5 (dk_at dksX3_findChance_4 5 rfl rfl)
theorem dX3_findChance_101 : decode cX3_findChance 101 = .ok (.imul, 1) := dk_104 (dk_at dksX3_findChance_4 7 rfl rfl)
theorem dX3_findChance_102 : decode cX3_findChance 102 = .ok (.iload 6, 2) := dk_21 6 (dk_at dksX3_findChance_4 8 rfl rfl)
theorem dX3_findChance_104 : decode cX3_findChance 104 = .ok (.iadd, 1) := dk_96 (dk_at dksX3_findChance_4 10 rfl rfl)
theorem dX3_findChance_105 : decode cX3_findChance 105 = .ok (.iconst 1, 1) := dk_4 (dk_at dksX3_findChance_4 11 rfl rfl)
theorem dX3_findChance_106 : decode cX3_findChance 106 = .ok (.iadd, 1) := dk_96 (dk_at dksX3_findChance_4 12 rfl rfl)
theorem dX3_findChance_107 : decode cX3_findChance 107 = .ok (.dup2, 1) := dk_92 (dk_at dksX3_findChance_4 13 rfl rfl)
theorem dX3_findChance_108 : decode cX3_findChance 108 = .ok (.laload, 1) := dk_47 (dk_at dksX3_findChance_4 14 rfl rfl)
theorem dX3_findChance_109 : decode cX3_findChance 109 = .ok (.ldc2_w 315, 3) := dk_20 1 59 (dk_at dksX3_findChance_4 15 rfl rfl)
theorem dX3_findChance_112 : decode cX3_findChance 112 = .ok (.iload_n 2, 1) := dk_28 (dk_at dksX3_findChance_4 18 rfl rfl)
theorem dX3_findChance_113 : decode cX3_findChance 113 = .ok (.i2l, 1) := dk_133 (dk_at dksX3_findChance_4 19 rfl rfl)
theorem dX3_findChance_114 : decode cX3_findChance 114 = .ok (.lsub, 1) := dk_101 (dk_at dksX3_findChance_4 20 rfl rfl)
theorem dX3_findChance_115 : decode cX3_findChance 115 = .ok (.aload_n 0, 1) := dk_42 (dk_at dksX3_findChance_4 21 rfl rfl)
theorem dX3_findChance_116 : decode cX3_findChance 116 = .ok (.getfield 59, 3) := dk_180 0 59 (dk_at dksX3_findChance_5 0 rfl rfl)
theorem dX3_findChance_119 : decode cX3_findChance 119 = .ok (.bipush 9, 2) := dk_16 9 (dk_at dksX3_findChance_5 3 rfl rfl)
theorem dX3_findChance_121 : decode cX3_findChance 121 = .ok (.iload 5, 2) := dk_21 5 (dk_at dksX3_findChance_5 5 rfl rfl)
theorem dX3_findChance_123 : decode cX3_findChance 123 = .ok (.imul, 1) := dk_104 (dk_at dksX3_findChance_5 7 rfl rfl)
theorem dX3_findChance_124 : decode cX3_findChance 124 = .ok (.iload 6, 2) := dk_21 6 (dk_at dksX3_findChance_5 8 rfl rfl)
theorem dX3_findChance_126 : decode cX3_findChance 126 = .ok (.iadd, 1) := dk_96 (dk_at dksX3_findChance_5 10 rfl rfl)
theorem dX3_findChance_127 : decode cX3_findChance 127 = .ok (.laload, 1) := dk_47 (dk_at dksX3_findChance_5 11 rfl rfl)
theorem dX3_findChance_128 : decode cX3_findChance 128 = .ok (.lmul, 1) := dk_105 (dk_at dksX3_findChance_5 12 rfl rfl)
theorem dX3_findChance_129 : decode cX3_findChance 129 = .ok (.ladd, 1) := dk_97 (dk_at dksX3_findChance_5 13 rfl rfl)
theorem dX3_findChance_130 : decode cX3_findChance 130 = .ok (.lastore, 1) := dk_80 (dk_at dksX3_findChance_5 14 rfl rfl)
theorem dX3_findChance_131 : decode cX3_findChance 131 = .ok (.iinc 6 1, 3) := dk_132 6 1 (dk_at dksX3_findChance_5 15 rfl rfl)
theorem dX3_findChance_134 : decode cX3_findChance 134 = .ok (.goto (-81), 3) := dk_167 255 175 (dk_at dksX3_findChance_5 18 rfl rfl)
theorem dX3_findChance_137 : decode cX3_findChance 137 = .ok (.iinc 5 1, 3) := dk_132 5 1 (dk_at dksX3_findChance_5 21 rfl rfl)
theorem dX3_findChance_140 : decode cX3_findChance 140 = .ok (.goto (-97), 3) := dk_167 255 159 (dk_at dksX3_findChance_6 0 rfl rfl)
theorem dX3_findChance_143 : decode cX3_findChance 143 = .ok (.return_, 1) := dk_177 (dk_at dksX3_findChance_6 3 rfl rfl)
abbrev cX3_power : ByteArray := prog_5_method_66_code
def yX3_power : MethodName := ⟨RX3, "power", "(JI)J"⟩
def dkwX3_power_0 : List UInt8 := [10, 66, 3, 54, 5, 21, 5, 28, 162, 0, 13, 33, 30, 105, 66, 132, 5, 1, 167, 255, 243, 33, 173]
abbrev dktX3_power_0 : List UInt8 := dkwX3_power_0 ++ []
theorem dksX3_power_0 : cX3_power.data.toList.drop 0 = dktX3_power_0 := by decide +kernel
theorem dX3_power_0 : decode cX3_power 0 = .ok (.lconst 1, 1) := dk_10 (dk_at dksX3_power_0 0 rfl rfl)
theorem dX3_power_1 : decode cX3_power 1 = .ok (.lstore_n 3, 1) := dk_66 (dk_at dksX3_power_0 1 rfl rfl)
theorem dX3_power_2 : decode cX3_power 2 = .ok (.iconst 0, 1) := dk_3 (dk_at dksX3_power_0 2 rfl rfl)
theorem dX3_power_3 : decode cX3_power 3 = .ok (.istore 5, 2) := dk_54 5 (dk_at dksX3_power_0 3 rfl rfl)
theorem dX3_power_5 : decode cX3_power 5 = .ok (.iload 5, 2) := dk_21 5 (dk_at dksX3_power_0 5 rfl rfl)
theorem dX3_power_7 : decode cX3_power 7 = .ok (.iload_n 2, 1) := dk_28 (dk_at dksX3_power_0 7 rfl rfl)
theorem dX3_power_8 : decode cX3_power 8 = .ok (.if_icmp .ge 13, 3) := dk_162 0 13 (dk_at dksX3_power_0 8 rfl rfl)
theorem dX3_power_11 : decode cX3_power 11 = .ok (.lload_n 3, 1) := dk_33 (dk_at dksX3_power_0 11 rfl rfl)
theorem dX3_power_12 : decode cX3_power 12 = .ok (.lload_n 0, 1) := dk_30 (dk_at dksX3_power_0 12 rfl rfl)
theorem dX3_power_13 : decode cX3_power 13 = .ok (.lmul, 1) := dk_105 (dk_at dksX3_power_0 13 rfl rfl)
theorem dX3_power_14 : decode cX3_power 14 = .ok (.lstore_n 3, 1) := dk_66 (dk_at dksX3_power_0 14 rfl rfl)
theorem dX3_power_15 : decode cX3_power 15 = .ok (.iinc 5 1, 3) := dk_132 5 1 (dk_at dksX3_power_0 15 rfl rfl)
theorem dX3_power_18 : decode cX3_power 18 = .ok (.goto (-13), 3) := dk_167 255 243 (dk_at dksX3_power_0 18 rfl rfl)
theorem dX3_power_21 : decode cX3_power 21 = .ok (.lload_n 3, 1) := dk_33 (dk_at dksX3_power_0 21 rfl rfl)
theorem dX3_power_22 : decode cX3_power 22 = .ok (.lreturn, 1) := dk_173 (dk_at dksX3_power_0 22 rfl rfl)
abbrev cX3_lowest : ByteArray := prog_5_method_65_code
def yX3_lowest : MethodName := ⟨RX3, "lowest", "(JJI)J"⟩
def dkwX3_lowest_1 : List UInt8 := [22, 9, 55, 7, 167, 255, 234, 21, 4, 154, 0, 10, 30, 22, 5, 109, 167, 0, 7, 32, 22, 5, 109, 173]
abbrev dktX3_lowest_1 : List UInt8 := dkwX3_lowest_1 ++ []
def dkwX3_lowest_0 : List UInt8 := [32, 55, 5, 30, 55, 7, 22, 7, 9, 148, 153, 0, 21, 22, 5, 22, 7, 113, 55, 9, 22, 7, 55, 5]
abbrev dktX3_lowest_0 : List UInt8 := dkwX3_lowest_0 ++ dktX3_lowest_1
theorem dksX3_lowest_0 : cX3_lowest.data.toList.drop 0 = dktX3_lowest_0 := by decide +kernel
theorem dksX3_lowest_1 : cX3_lowest.data.toList.drop 24 = dktX3_lowest_1 := dk_seg dksX3_lowest_0 24 rfl rfl
theorem dX3_lowest_0 : decode cX3_lowest 0 = .ok (.lload_n 2, 1) := dk_32 (dk_at dksX3_lowest_0 0 rfl rfl)
theorem dX3_lowest_1 : decode cX3_lowest 1 = .ok (.lstore 5, 2) := dk_55 5 (dk_at dksX3_lowest_0 1 rfl rfl)
theorem dX3_lowest_3 : decode cX3_lowest 3 = .ok (.lload_n 0, 1) := dk_30 (dk_at dksX3_lowest_0 3 rfl rfl)
theorem dX3_lowest_4 : decode cX3_lowest 4 = .ok (.lstore 7, 2) := dk_55 7 (dk_at dksX3_lowest_0 4 rfl rfl)
theorem dX3_lowest_6 : decode cX3_lowest 6 = .ok (.lload 7, 2) := dk_22 7 (dk_at dksX3_lowest_0 6 rfl rfl)
theorem dX3_lowest_8 : decode cX3_lowest 8 = .ok (.lconst 0, 1) := dk_9 (dk_at dksX3_lowest_0 8 rfl rfl)
theorem dX3_lowest_9 : decode cX3_lowest 9 = .ok (.lcmp, 1) := dk_148 (dk_at dksX3_lowest_0 9 rfl rfl)
theorem dX3_lowest_10 : decode cX3_lowest 10 = .ok (.ifCond .eq 21, 3) := dk_153 0 21 (dk_at dksX3_lowest_0 10 rfl rfl)
theorem dX3_lowest_13 : decode cX3_lowest 13 = .ok (.lload 5, 2) := dk_22 5 (dk_at dksX3_lowest_0 13 rfl rfl)
theorem dX3_lowest_15 : decode cX3_lowest 15 = .ok (.lload 7, 2) := dk_22 7 (dk_at dksX3_lowest_0 15 rfl rfl)
theorem dX3_lowest_17 : decode cX3_lowest 17 = .ok (.lrem, 1) := dk_113 (dk_at dksX3_lowest_0 17 rfl rfl)
theorem dX3_lowest_18 : decode cX3_lowest 18 = .ok (.lstore 9, 2) := dk_55 9 (dk_at dksX3_lowest_0 18 rfl rfl)
theorem dX3_lowest_20 : decode cX3_lowest 20 = .ok (.lload 7, 2) := dk_22 7 (dk_at dksX3_lowest_0 20 rfl rfl)
theorem dX3_lowest_22 : decode cX3_lowest 22 = .ok (.lstore 5, 2) := dk_55 5 (dk_at dksX3_lowest_0 22 rfl rfl)
theorem dX3_lowest_24 : decode cX3_lowest 24 = .ok (.lload 9, 2) := dk_22 9 (dk_at dksX3_lowest_1 0 rfl rfl)
theorem dX3_lowest_26 : decode cX3_lowest 26 = .ok (.lstore 7, 2) := dk_55 7 (dk_at dksX3_lowest_1 2 rfl rfl)
theorem dX3_lowest_28 : decode cX3_lowest 28 = .ok (.goto (-22), 3) := dk_167 255 234 (dk_at dksX3_lowest_1 4 rfl rfl)
theorem dX3_lowest_31 : decode cX3_lowest 31 = .ok (.iload 4, 2) := dk_21 4 (dk_at dksX3_lowest_1 7 rfl rfl)
theorem dX3_lowest_33 : decode cX3_lowest 33 = .ok (.ifCond .ne 10, 3) := dk_154 0 10 (dk_at dksX3_lowest_1 9 rfl rfl)
theorem dX3_lowest_36 : decode cX3_lowest 36 = .ok (.lload_n 0, 1) := dk_30 (dk_at dksX3_lowest_1 12 rfl rfl)
theorem dX3_lowest_37 : decode cX3_lowest 37 = .ok (.lload 5, 2) := dk_22 5 (dk_at dksX3_lowest_1 13 rfl rfl)
theorem dX3_lowest_39 : decode cX3_lowest 39 = .ok (.ldiv, 1) := dk_109 (dk_at dksX3_lowest_1 15 rfl rfl)
theorem dX3_lowest_40 : decode cX3_lowest 40 = .ok (.goto 7, 3) := dk_167 0 7 (dk_at dksX3_lowest_1 16 rfl rfl)
theorem dX3_lowest_43 : decode cX3_lowest 43 = .ok (.lload_n 2, 1) := dk_32 (dk_at dksX3_lowest_1 19 rfl rfl)
theorem dX3_lowest_44 : decode cX3_lowest 44 = .ok (.lload 5, 2) := dk_22 5 (dk_at dksX3_lowest_1 20 rfl rfl)
theorem dX3_lowest_46 : decode cX3_lowest 46 = .ok (.ldiv, 1) := dk_109 (dk_at dksX3_lowest_1 22 rfl rfl)
theorem dX3_lowest_47 : decode cX3_lowest 47 = .ok (.lreturn, 1) := dk_173 (dk_at dksX3_lowest_1 23 rfl rfl)
abbrev cX3_season : ByteArray := prog_5_method_70_code
def yX3_season : MethodName := ⟨RX3, "season", "(III)I"⟩
def dkwX3_season_7 : List UInt8 := [182, 0, 249, 172]
abbrev dktX3_season_7 : List UInt8 := dkwX3_season_7 ++ []
def dkwX3_season_6 : List UInt8 := [180, 0, 109, 167, 0, 19, 29, 4, 160, 0, 10, 42, 180, 0, 113, 167, 0, 7, 42, 182, 0, 254]
abbrev dktX3_season_6 : List UInt8 := dkwX3_season_6 ++ dktX3_season_7
def dkwX3_season_5 : List UInt8 := [21, 7, 16, 8, 108, 16, 9, 112, 96, 182, 0, 232, 132, 5, 1, 167, 255, 172, 42, 29, 154, 0, 10, 42]
abbrev dktX3_season_5 : List UInt8 := dkwX3_season_5 ++ dktX3_season_6
def dkwX3_season_4 : List UInt8 := [21, 4, 6, 112, 182, 0, 229, 154, 0, 28, 42, 21, 6, 21, 4, 6, 112, 21, 7, 16, 8, 112, 4]
abbrev dktX3_season_4 : List UInt8 := dkwX3_season_4 ++ dktX3_season_5
def dkwX3_season_3 : List UInt8 := [54, 4, 21, 4, 6, 108, 16, 8, 112, 184, 1, 82, 54, 6, 21, 4, 16, 24, 108, 54, 7, 42, 21, 6]
abbrev dktX3_season_3 : List UInt8 := dkwX3_season_3 ++ dktX3_season_4
def dkwX3_season_2 : List UInt8 := [54, 5, 21, 5, 28, 162, 0, 84, 20, 1, 76, 21, 4, 133, 105, 20, 1, 78, 97, 20, 1, 80, 113, 136]
abbrev dktX3_season_2 : List UInt8 := dkwX3_season_2 ++ dktX3_season_3
def dkwX3_season_1 : List UInt8 := [29, 133, 9, 20, 0, 73, 184, 0, 75, 154, 0, 6, 16, 254, 172, 42, 182, 0, 236, 27, 54, 4, 3]
abbrev dktX3_season_1 : List UInt8 := dkwX3_season_1 ++ dktX3_season_2
def dkwX3_season_0 : List UInt8 := [27, 133, 9, 20, 1, 74, 184, 0, 75, 153, 0, 27, 28, 133, 10, 20, 0, 107, 184, 0, 75, 153, 0, 15]
abbrev dktX3_season_0 : List UInt8 := dkwX3_season_0 ++ dktX3_season_1
theorem dksX3_season_0 : cX3_season.data.toList.drop 0 = dktX3_season_0 := by decide +kernel
theorem dksX3_season_1 : cX3_season.data.toList.drop 24 = dktX3_season_1 := dk_seg dksX3_season_0 24 rfl rfl
theorem dksX3_season_2 : cX3_season.data.toList.drop 47 = dktX3_season_2 := dk_seg dksX3_season_1 23 rfl rfl
theorem dksX3_season_3 : cX3_season.data.toList.drop 71 = dktX3_season_3 := dk_seg dksX3_season_2 24 rfl rfl
theorem dksX3_season_4 : cX3_season.data.toList.drop 95 = dktX3_season_4 := dk_seg dksX3_season_3 24 rfl rfl
theorem dksX3_season_5 : cX3_season.data.toList.drop 118 = dktX3_season_5 := dk_seg dksX3_season_4 23 rfl rfl
theorem dksX3_season_6 : cX3_season.data.toList.drop 142 = dktX3_season_6 := dk_seg dksX3_season_5 24 rfl rfl
theorem dksX3_season_7 : cX3_season.data.toList.drop 164 = dktX3_season_7 := dk_seg dksX3_season_6 22 rfl rfl
theorem dX3_season_0 : decode cX3_season 0 = .ok (.iload_n 1, 1) := dk_27 (dk_at dksX3_season_0 0 rfl rfl)
theorem dX3_season_1 : decode cX3_season 1 = .ok (.i2l, 1) := dk_133 (dk_at dksX3_season_0 1 rfl rfl)
theorem dX3_season_2 : decode cX3_season 2 = .ok (.lconst 0, 1) := dk_9 (dk_at dksX3_season_0 2 rfl rfl)
theorem dX3_season_3 : decode cX3_season 3 = .ok (.ldc2_w 330, 3) := dk_20 1 74 (dk_at dksX3_season_0 3 rfl rfl)
theorem dX3_season_6 : decode cX3_season 6 = .ok (.invokestatic 75, 3) := dk_184 0 75 (dk_at dksX3_season_0 6 rfl rfl)
theorem dX3_season_9 : decode cX3_season 9 = .ok (.ifCond .eq 27, 3) := dk_153 0 27 (dk_at dksX3_season_0 9 rfl rfl)
theorem dX3_season_12 : decode cX3_season 12 = .ok (.iload_n 2, 1) := dk_28 (dk_at dksX3_season_0 12 rfl rfl)
theorem dX3_season_13 : decode cX3_season 13 = .ok (.i2l, 1) := dk_133 (dk_at dksX3_season_0 13 rfl rfl)
theorem dX3_season_14 : decode cX3_season 14 = .ok (.lconst 1, 1) := dk_10 (dk_at dksX3_season_0 14 rfl rfl)
theorem dX3_season_15 : decode cX3_season 15 = .ok (.ldc2_w 107, 3) := dk_20 0 107 (dk_at dksX3_season_0 15 rfl rfl)
theorem dX3_season_18 : decode cX3_season 18 = .ok (.invokestatic 75, 3) := dk_184 0 75 (dk_at dksX3_season_0 18 rfl rfl)
theorem dX3_season_21 : decode cX3_season 21 = .ok (.ifCond .eq 15, 3) := dk_153 0 15 (dk_at dksX3_season_0 21 rfl rfl)
theorem dX3_season_24 : decode cX3_season 24 = .ok (.iload_n 3, 1) := dk_29 (dk_at dksX3_season_1 0 rfl rfl)
theorem dX3_season_25 : decode cX3_season 25 = .ok (.i2l, 1) := dk_133 (dk_at dksX3_season_1 1 rfl rfl)
theorem dX3_season_26 : decode cX3_season 26 = .ok (.lconst 0, 1) := dk_9 (dk_at dksX3_season_1 2 rfl rfl)
theorem dX3_season_27 : decode cX3_season 27 = .ok (.ldc2_w 73, 3) := dk_20 0 73 (dk_at dksX3_season_1 3 rfl rfl)
theorem dX3_season_30 : decode cX3_season 30 = .ok (.invokestatic 75, 3) := dk_184 0 75 (dk_at dksX3_season_1 6 rfl rfl)
theorem dX3_season_33 : decode cX3_season 33 = .ok (.ifCond .ne 6, 3) := dk_154 0 6 (dk_at dksX3_season_1 9 rfl rfl)
theorem dX3_season_36 : decode cX3_season 36 = .ok (.bipush (-2), 2) := dk_16 254 (dk_at dksX3_season_1 12 rfl rfl)
theorem dX3_season_38 : decode cX3_season 38 = .ok (.ireturn, 1) := dk_172 (dk_at dksX3_season_1 14 rfl rfl)
theorem dX3_season_39 : decode cX3_season 39 = .ok (.aload_n 0, 1) := dk_42 (dk_at dksX3_season_1 15 rfl rfl)
theorem dX3_season_40 : decode cX3_season 40 = .ok (.invokevirtual 236, 3) := dk_182 0 236 (dk_at dksX3_season_1 16 rfl rfl)
theorem dX3_season_43 : decode cX3_season 43 = .ok (.iload_n 1, 1) := dk_27 (dk_at dksX3_season_1 19 rfl rfl)
theorem dX3_season_44 : decode cX3_season 44 = .ok (.istore 4, 2) := dk_54 4 (dk_at dksX3_season_1 20 rfl rfl)
theorem dX3_season_46 : decode cX3_season 46 = .ok (.iconst 0, 1) := dk_3 (dk_at dksX3_season_1 22 rfl rfl)
theorem dX3_season_47 : decode cX3_season 47 = .ok (.istore 5, 2) := dk_54 5 (dk_at dksX3_season_2 0 rfl rfl)
theorem dX3_season_49 : decode cX3_season 49 = .ok (.iload 5, 2) := dk_21 5 (dk_at dksX3_season_2 2 rfl rfl)
theorem dX3_season_51 : decode cX3_season 51 = .ok (.iload_n 2, 1) := dk_28 (dk_at dksX3_season_2 4 rfl rfl)
theorem dX3_season_52 : decode cX3_season 52 = .ok (.if_icmp .ge 84, 3) := dk_162 0 84 (dk_at dksX3_season_2 5 rfl rfl)
theorem dX3_season_55 : decode cX3_season 55 = .ok (.ldc2_w 332, 3) := dk_20 1 76 (dk_at dksX3_season_2 8 rfl rfl)
theorem dX3_season_58 : decode cX3_season 58 = .ok (.iload 4, 2) := dk_21 4 (dk_at dksX3_season_2 11 rfl rfl)
theorem dX3_season_60 : decode cX3_season 60 = .ok (.i2l, 1) := dk_133 (dk_at dksX3_season_2 13 rfl rfl)
theorem dX3_season_61 : decode cX3_season 61 = .ok (.lmul, 1) := dk_105 (dk_at dksX3_season_2 14 rfl rfl)
theorem dX3_season_62 : decode cX3_season 62 = .ok (.ldc2_w 334, 3) := dk_20 1 78 (dk_at dksX3_season_2 15 rfl rfl)
theorem dX3_season_65 : decode cX3_season 65 = .ok (.ladd, 1) := dk_97 (dk_at dksX3_season_2 18 rfl rfl)
theorem dX3_season_66 : decode cX3_season 66 = .ok (.ldc2_w 336, 3) := dk_20 1 80 (dk_at dksX3_season_2 19 rfl rfl)
theorem dX3_season_69 : decode cX3_season 69 = .ok (.lrem, 1) := dk_113 (dk_at dksX3_season_2 22 rfl rfl)
theorem dX3_season_70 : decode cX3_season 70 = .ok (.l2i, 1) := dk_136 (dk_at dksX3_season_2 23 rfl rfl)
theorem dX3_season_71 : decode cX3_season 71 = .ok (.istore 4, 2) := dk_54 4 (dk_at dksX3_season_3 0 rfl rfl)
theorem dX3_season_73 : decode cX3_season 73 = .ok (.iload 4, 2) := dk_21 4 (dk_at dksX3_season_3 2 rfl rfl)
theorem dX3_season_75 : decode cX3_season 75 = .ok (.iconst 3, 1) := dk_6 (dk_at dksX3_season_3 4 rfl rfl)
theorem dX3_season_76 : decode cX3_season 76 = .ok (.idiv, 1) := dk_108 (dk_at dksX3_season_3 5 rfl rfl)
theorem dX3_season_77 : decode cX3_season 77 = .ok (.bipush 8, 2) := dk_16 8 (dk_at dksX3_season_3 6 rfl rfl)
theorem dX3_season_79 : decode cX3_season 79 = .ok (.irem, 1) := dk_112 (dk_at dksX3_season_3 8 rfl rfl)
theorem dX3_season_80 : decode cX3_season 80 = .ok (.invokestatic 338, 3) := dk_184 1 82 (dk_at dksX3_season_3 9 rfl rfl)
theorem dX3_season_83 : decode cX3_season 83 = .ok (.istore 6, 2) := dk_54 6 (dk_at dksX3_season_3 12 rfl rfl)
theorem dX3_season_85 : decode cX3_season 85 = .ok (.iload 4, 2) := dk_21 4 (dk_at dksX3_season_3 14 rfl rfl)
theorem dX3_season_87 : decode cX3_season 87 = .ok (.bipush 24, 2) := dk_16 24 (dk_at dksX3_season_3 16 rfl rfl)
theorem dX3_season_89 : decode cX3_season 89 = .ok (.idiv, 1) := dk_108 (dk_at dksX3_season_3 18 rfl rfl)
theorem dX3_season_90 : decode cX3_season 90 = .ok (.istore 7, 2) := dk_54 7 (dk_at dksX3_season_3 19 rfl rfl)
theorem dX3_season_92 : decode cX3_season 92 = .ok (.aload_n 0, 1) := dk_42 (dk_at dksX3_season_3 21 rfl rfl)
theorem dX3_season_93 : decode cX3_season 93 = .ok (.iload 6, 2) := dk_21 6 (dk_at dksX3_season_3 22 rfl rfl)
theorem dX3_season_95 : decode cX3_season 95 = .ok (.iload 4, 2) := dk_21 4 (dk_at dksX3_season_4 0 rfl rfl)
theorem dX3_season_97 : decode cX3_season 97 = .ok (.iconst 3, 1) := dk_6 (dk_at dksX3_season_4 2 rfl rfl)
theorem dX3_season_98 : decode cX3_season 98 = .ok (.irem, 1) := dk_112 (dk_at dksX3_season_4 3 rfl rfl)
theorem dX3_season_99 : decode cX3_season 99 = .ok (.invokevirtual 229, 3) := dk_182 0 229 (dk_at dksX3_season_4 4 rfl rfl)
theorem dX3_season_102 : decode cX3_season 102 = .ok (.ifCond .ne 28, 3) := dk_154 0 28 (dk_at dksX3_season_4 7 rfl rfl)
theorem dX3_season_105 : decode cX3_season 105 = .ok (.aload_n 0, 1) := dk_42 (dk_at dksX3_season_4 10 rfl rfl)
theorem dX3_season_106 : decode cX3_season 106 = .ok (.iload 6, 2) := dk_21 6 (dk_at dksX3_season_4 11 rfl rfl)
theorem dX3_season_108 : decode cX3_season 108 = .ok (.iload 4, 2) := dk_21 4 (dk_at dksX3_season_4 13 rfl rfl)
theorem dX3_season_110 : decode cX3_season 110 = .ok (.iconst 3, 1) := dk_6 (dk_at dksX3_season_4 15 rfl rfl)
theorem dX3_season_111 : decode cX3_season 111 = .ok (.irem, 1) := dk_112 (dk_at dksX3_season_4 16 rfl rfl)
theorem dX3_season_112 : decode cX3_season 112 = .ok (.iload 7, 2) := dk_21 7 (dk_at dksX3_season_4 17 rfl rfl)
theorem dX3_season_114 : decode cX3_season 114 = .ok (.bipush 8, 2) := dk_16 8 (dk_at dksX3_season_4 19 rfl rfl)
theorem dX3_season_116 : decode cX3_season 116 = .ok (.irem, 1) := dk_112 (dk_at dksX3_season_4 21 rfl rfl)
theorem dX3_season_117 : decode cX3_season 117 = .ok (.iconst 1, 1) := dk_4 (dk_at dksX3_season_4 22 rfl rfl)
theorem dX3_season_118 : decode cX3_season 118 = .ok (.iload 7, 2) := dk_21 7 (dk_at dksX3_season_5 0 rfl rfl)
theorem dX3_season_120 : decode cX3_season 120 = .ok (.bipush 8, 2) := dk_16 8 (dk_at dksX3_season_5 2 rfl rfl)
theorem dX3_season_122 : decode cX3_season 122 = .ok (.idiv, 1) := dk_108 (dk_at dksX3_season_5 4 rfl rfl)
theorem dX3_season_123 : decode cX3_season 123 = .ok (.bipush 9, 2) := dk_16 9 (dk_at dksX3_season_5 5 rfl rfl)
theorem dX3_season_125 : decode cX3_season 125 = .ok (.irem, 1) := dk_112 (dk_at dksX3_season_5 7 rfl rfl)
theorem dX3_season_126 : decode cX3_season 126 = .ok (.iadd, 1) := dk_96 (dk_at dksX3_season_5 8 rfl rfl)
theorem dX3_season_127 : decode cX3_season 127 = .ok (.invokevirtual 232, 3) := dk_182 0 232 (dk_at dksX3_season_5 9 rfl rfl)
theorem dX3_season_130 : decode cX3_season 130 = .ok (.iinc 5 1, 3) := dk_132 5 1 (dk_at dksX3_season_5 12 rfl rfl)
theorem dX3_season_133 : decode cX3_season 133 = .ok (.goto (-84), 3) := dk_167 255 172 (dk_at dksX3_season_5 15 rfl rfl)
theorem dX3_season_136 : decode cX3_season 136 = .ok (.aload_n 0, 1) := dk_42 (dk_at dksX3_season_5 18 rfl rfl)
theorem dX3_season_137 : decode cX3_season 137 = .ok (.iload_n 3, 1) := dk_29 (dk_at dksX3_season_5 19 rfl rfl)
theorem dX3_season_138 : decode cX3_season 138 = .ok (.ifCond .ne 10, 3) := dk_154 0 10 (dk_at dksX3_season_5 20 rfl rfl)
theorem dX3_season_141 : decode cX3_season 141 = .ok (.aload_n 0, 1) := dk_42 (dk_at dksX3_season_5 23 rfl rfl)
theorem dX3_season_142 : decode cX3_season 142 = .ok (.getfield 109, 3) := dk_180 0 109 (dk_at dksX3_season_6 0 rfl rfl)
theorem dX3_season_145 : decode cX3_season 145 = .ok (.goto 19, 3) := dk_167 0 19 (dk_at dksX3_season_6 3 rfl rfl)
theorem dX3_season_148 : decode cX3_season 148 = .ok (.iload_n 3, 1) := dk_29 (dk_at dksX3_season_6 6 rfl rfl)
theorem dX3_season_149 : decode cX3_season 149 = .ok (.iconst 1, 1) := dk_4 (dk_at dksX3_season_6 7 rfl rfl)
theorem dX3_season_150 : decode cX3_season 150 = .ok (.if_icmp .ne 10, 3) := dk_160 0 10 (dk_at dksX3_season_6 8 rfl rfl)
theorem dX3_season_153 : decode cX3_season 153 = .ok (.aload_n 0, 1) := dk_42 (dk_at dksX3_season_6 11 rfl rfl)
theorem dX3_season_154 : decode cX3_season 154 = .ok (.getfield 113, 3) := dk_180 0 113 (dk_at dksX3_season_6 12 rfl rfl)
theorem dX3_season_157 : decode cX3_season 157 = .ok (.goto 7, 3) := dk_167 0 7 (dk_at dksX3_season_6 15 rfl rfl)
theorem dX3_season_160 : decode cX3_season 160 = .ok (.aload_n 0, 1) := dk_42 (dk_at dksX3_season_6 18 rfl rfl)
theorem dX3_season_161 : decode cX3_season 161 = .ok (.invokevirtual 254, 3) := dk_182 0 254 (dk_at dksX3_season_6 19 rfl rfl)
theorem dX3_season_164 : decode cX3_season 164 = .ok (.invokevirtual 249, 3) := dk_182 0 249 (dk_at dksX3_season_7 0 rfl rfl)
theorem dX3_season_167 : decode cX3_season 167 = .ok (.ireturn, 1) := dk_172 (dk_at dksX3_season_7 3 rfl rfl)
abbrev cX3_actBy : ByteArray := prog_5_method_69_code
def yX3_actBy : MethodName := ⟨RX3, "actBy", "(I)I"⟩
def dkwX3_actBy_1 : List UInt8 := [5, 167, 0, 4, 6, 172]
abbrev dktX3_actBy_1 : List UInt8 := dkwX3_actBy_1 ++ []
def dkwX3_actBy_0 : List UInt8 := [26, 8, 162, 0, 7, 3, 167, 0, 23, 26, 8, 160, 0, 7, 4, 167, 0, 14, 26, 16, 6, 160, 0, 7]
abbrev dktX3_actBy_0 : List UInt8 := dkwX3_actBy_0 ++ dktX3_actBy_1
theorem dksX3_actBy_0 : cX3_actBy.data.toList.drop 0 = dktX3_actBy_0 := by decide +kernel
theorem dksX3_actBy_1 : cX3_actBy.data.toList.drop 24 = dktX3_actBy_1 := dk_seg dksX3_actBy_0 24 rfl rfl
theorem dX3_actBy_0 : decode cX3_actBy 0 = .ok (.iload_n 0, 1) := dk_26 (dk_at dksX3_actBy_0 0 rfl rfl)
theorem dX3_actBy_1 : decode cX3_actBy 1 = .ok (.iconst 5, 1) := dk_8 (dk_at dksX3_actBy_0 1 rfl rfl)
theorem dX3_actBy_2 : decode cX3_actBy 2 = .ok (.if_icmp .ge 7, 3) := dk_162 0 7 (dk_at dksX3_actBy_0 2 rfl rfl)
theorem dX3_actBy_5 : decode cX3_actBy 5 = .ok (.iconst 0, 1) := dk_3 (dk_at dksX3_actBy_0 5 rfl rfl)
theorem dX3_actBy_6 : decode cX3_actBy 6 = .ok (.goto 23, 3) := dk_167 0 23 (dk_at dksX3_actBy_0 6 rfl rfl)
theorem dX3_actBy_9 : decode cX3_actBy 9 = .ok (.iload_n 0, 1) := dk_26 (dk_at dksX3_actBy_0 9 rfl rfl)
theorem dX3_actBy_10 : decode cX3_actBy 10 = .ok (.iconst 5, 1) := dk_8 (dk_at dksX3_actBy_0 10 rfl rfl)
theorem dX3_actBy_11 : decode cX3_actBy 11 = .ok (.if_icmp .ne 7, 3) := dk_160 0 7 (dk_at dksX3_actBy_0 11 rfl rfl)
theorem dX3_actBy_14 : decode cX3_actBy 14 = .ok (.iconst 1, 1) := dk_4 (dk_at dksX3_actBy_0 14 rfl rfl)
theorem dX3_actBy_15 : decode cX3_actBy 15 = .ok (.goto 14, 3) := dk_167 0 14 (dk_at dksX3_actBy_0 15 rfl rfl)
theorem dX3_actBy_18 : decode cX3_actBy 18 = .ok (.iload_n 0, 1) := dk_26 (dk_at dksX3_actBy_0 18 rfl rfl)
theorem dX3_actBy_19 : decode cX3_actBy 19 = .ok (.bipush 6, 2) := dk_16 6 (dk_at dksX3_actBy_0 19 rfl rfl)
theorem dX3_actBy_21 : decode cX3_actBy 21 = .ok (.if_icmp .ne 7, 3) := dk_160 0 7 (dk_at dksX3_actBy_0 21 rfl rfl)
theorem dX3_actBy_24 : decode cX3_actBy 24 = .ok (.iconst 2, 1) := dk_5 (dk_at dksX3_actBy_1 0 rfl rfl)
theorem dX3_actBy_25 : decode cX3_actBy 25 = .ok (.goto 4, 3) := dk_167 0 4 (dk_at dksX3_actBy_1 1 rfl rfl)
theorem dX3_actBy_28 : decode cX3_actBy 28 = .ok (.iconst 3, 1) := dk_6 (dk_at dksX3_actBy_1 4 rfl rfl)
theorem dX3_actBy_29 : decode cX3_actBy 29 = .ok (.ireturn, 1) := dk_172 (dk_at dksX3_actBy_1 5 rfl rfl)
abbrev cX3_image : ByteArray := prog_5_method_74_code
def yX3_image : MethodName := ⟨RX3, "image", "(I)I"⟩
def dkwX3_image_1 : List UInt8 := [181, 1, 85, 42, 182, 1, 99, 42, 180, 0, 66, 27, 4, 84, 4, 172]
abbrev dktX3_image_1 : List UInt8 := dkwX3_image_1 ++ []
def dkwX3_image_0 : List UInt8 := [27, 133, 9, 10, 184, 0, 75, 154, 0, 6, 16, 254, 172, 42, 16, 30, 27, 104, 181, 1, 89, 42, 4]
abbrev dktX3_image_0 : List UInt8 := dkwX3_image_0 ++ dktX3_image_1
theorem dksX3_image_0 : cX3_image.data.toList.drop 0 = dktX3_image_0 := by decide +kernel
theorem dksX3_image_1 : cX3_image.data.toList.drop 23 = dktX3_image_1 := dk_seg dksX3_image_0 23 rfl rfl
theorem dX3_image_0 : decode cX3_image 0 = .ok (.iload_n 1, 1) := dk_27 (dk_at dksX3_image_0 0 rfl rfl)
theorem dX3_image_1 : decode cX3_image 1 = .ok (.i2l, 1) := dk_133 (dk_at dksX3_image_0 1 rfl rfl)
theorem dX3_image_2 : decode cX3_image 2 = .ok (.lconst 0, 1) := dk_9 (dk_at dksX3_image_0 2 rfl rfl)
theorem dX3_image_3 : decode cX3_image 3 = .ok (.lconst 1, 1) := dk_10 (dk_at dksX3_image_0 3 rfl rfl)
theorem dX3_image_4 : decode cX3_image 4 = .ok (.invokestatic 75, 3) := dk_184 0 75 (dk_at dksX3_image_0 4 rfl rfl)
theorem dX3_image_7 : decode cX3_image 7 = .ok (.ifCond .ne 6, 3) := dk_154 0 6 (dk_at dksX3_image_0 7 rfl rfl)
theorem dX3_image_10 : decode cX3_image 10 = .ok (.bipush (-2), 2) := dk_16 254 (dk_at dksX3_image_0 10 rfl rfl)
theorem dX3_image_12 : decode cX3_image 12 = .ok (.ireturn, 1) := dk_172 (dk_at dksX3_image_0 12 rfl rfl)
theorem dX3_image_13 : decode cX3_image 13 = .ok (.aload_n 0, 1) := dk_42 (dk_at dksX3_image_0 13 rfl rfl)
theorem dX3_image_14 : decode cX3_image 14 = .ok (.bipush 30, 2) := dk_16 30 (dk_at dksX3_image_0 14 rfl rfl)
theorem dX3_image_16 : decode cX3_image 16 = .ok (.iload_n 1, 1) := dk_27 (dk_at dksX3_image_0 16 rfl rfl)
theorem dX3_image_17 : decode cX3_image 17 = .ok (.imul, 1) := dk_104 (dk_at dksX3_image_0 17 rfl rfl)
theorem dX3_image_18 : decode cX3_image 18 = .ok (.putfield 345, 3) := dk_181 1 89 (dk_at dksX3_image_0 18 rfl rfl)
theorem dX3_image_21 : decode cX3_image 21 = .ok (.aload_n 0, 1) := dk_42 (dk_at dksX3_image_0 21 rfl rfl)
theorem dX3_image_22 : decode cX3_image 22 = .ok (.iconst 1, 1) := dk_4 (dk_at dksX3_image_0 22 rfl rfl)
theorem dX3_image_23 : decode cX3_image 23 = .ok (.putfield 341, 3) := dk_181 1 85 (dk_at dksX3_image_1 0 rfl rfl)
theorem dX3_image_26 : decode cX3_image 26 = .ok (.aload_n 0, 1) := dk_42 (dk_at dksX3_image_1 3 rfl rfl)
theorem dX3_image_27 : decode cX3_image 27 = .ok (.invokevirtual 355, 3) := dk_182 1 99 (dk_at dksX3_image_1 4 rfl rfl)
theorem dX3_image_30 : decode cX3_image 30 = .ok (.aload_n 0, 1) := dk_42 (dk_at dksX3_image_1 7 rfl rfl)
theorem dX3_image_31 : decode cX3_image 31 = .ok (.getfield 66, 3) := dk_180 0 66 (dk_at dksX3_image_1 8 rfl rfl)
theorem dX3_image_34 : decode cX3_image 34 = .ok (.iload_n 1, 1) := dk_27 (dk_at dksX3_image_1 11 rfl rfl)
theorem dX3_image_35 : decode cX3_image 35 = .ok (.iconst 1, 1) := dk_4 (dk_at dksX3_image_1 12 rfl rfl)
theorem dX3_image_36 : decode cX3_image 36 = .ok (.bastore, 1) := dk_84 (dk_at dksX3_image_1 13 rfl rfl)
theorem dX3_image_37 : decode cX3_image 37 = .ok (.iconst 1, 1) := dk_4 (dk_at dksX3_image_1 14 rfl rfl)
theorem dX3_image_38 : decode cX3_image 38 = .ok (.ireturn, 1) := dk_172 (dk_at dksX3_image_1 15 rfl rfl)
abbrev cX3_passAll : ByteArray := prog_5_method_73_code
def yX3_passAll : MethodName := ⟨RX3, "passAll", "()V"⟩
def dkwX3_passAll_3 : List UInt8 := [16, 8, 182, 1, 95, 177]
abbrev dktX3_passAll_3 : List UInt8 := dkwX3_passAll_3 ++ []
def dkwX3_passAll_2 : List UInt8 := [42, 42, 180, 0, 7, 6, 182, 1, 95, 42, 42, 180, 0, 13, 16, 8, 182, 1, 95, 42, 42, 180, 0, 16]
abbrev dktX3_passAll_2 : List UInt8 := dkwX3_passAll_2 ++ dktX3_passAll_3
def dkwX3_passAll_1 : List UInt8 := [42, 42, 42, 180, 0, 211, 182, 1, 92, 181, 0, 211, 42, 42, 42, 180, 1, 33, 182, 1, 92, 181, 1, 33]
abbrev dktX3_passAll_1 : List UInt8 := dkwX3_passAll_1 ++ dktX3_passAll_2
def dkwX3_passAll_0 : List UInt8 := [42, 42, 42, 180, 0, 109, 182, 1, 92, 181, 0, 109, 42, 42, 42, 180, 0, 113, 182, 1, 92, 181, 0, 113]
abbrev dktX3_passAll_0 : List UInt8 := dkwX3_passAll_0 ++ dktX3_passAll_1
theorem dksX3_passAll_0 : cX3_passAll.data.toList.drop 0 = dktX3_passAll_0 := by decide +kernel
theorem dksX3_passAll_1 : cX3_passAll.data.toList.drop 24 = dktX3_passAll_1 := dk_seg dksX3_passAll_0 24 rfl rfl
theorem dksX3_passAll_2 : cX3_passAll.data.toList.drop 48 = dktX3_passAll_2 := dk_seg dksX3_passAll_1 24 rfl rfl
theorem dksX3_passAll_3 : cX3_passAll.data.toList.drop 72 = dktX3_passAll_3 := dk_seg dksX3_passAll_2 24 rfl rfl
theorem dX3_passAll_0 : decode cX3_passAll 0 = .ok (.aload_n 0, 1) := dk_42 (dk_at dksX3_passAll_0 0 rfl rfl)
theorem dX3_passAll_1 : decode cX3_passAll 1 = .ok (.aload_n 0, 1) := dk_42 (dk_at dksX3_passAll_0 1 rfl rfl)
theorem dX3_passAll_2 : decode cX3_passAll 2 = .ok (.aload_n 0, 1) := dk_42 (dk_at dksX3_passAll_0 2 rfl rfl)
theorem dX3_passAll_3 : decode cX3_passAll 3 = .ok (.getfield 109, 3) := dk_180 0 109 (dk_at dksX3_passAll_0 3 rfl rfl)
theorem dX3_passAll_6 : decode cX3_passAll 6 = .ok (.invokevirtual 348, 3) := dk_182 1 92 (dk_at dksX3_passAll_0 6 rfl rfl)
theorem dX3_passAll_9 : decode cX3_passAll 9 = .ok (.putfield 109, 3) := dk_181 0 109 (dk_at dksX3_passAll_0 9 rfl rfl)
theorem dX3_passAll_12 : decode cX3_passAll 12 = .ok (.aload_n 0, 1) := dk_42 (dk_at dksX3_passAll_0 12 rfl rfl)
theorem dX3_passAll_13 : decode cX3_passAll 13 = .ok (.aload_n 0, 1) := dk_42 (dk_at dksX3_passAll_0 13 rfl rfl)
theorem dX3_passAll_14 : decode cX3_passAll 14 = .ok (.aload_n 0, 1) := dk_42 (dk_at dksX3_passAll_0 14 rfl rfl)
theorem dX3_passAll_15 : decode cX3_passAll 15 = .ok (.getfield 113, 3) := dk_180 0 113 (dk_at dksX3_passAll_0 15 rfl rfl)
theorem dX3_passAll_18 : decode cX3_passAll 18 = .ok (.invokevirtual 348, 3) := dk_182 1 92 (dk_at dksX3_passAll_0 18 rfl rfl)
theorem dX3_passAll_21 : decode cX3_passAll 21 = .ok (.putfield 113, 3) := dk_181 0 113 (dk_at dksX3_passAll_0 21 rfl rfl)
theorem dX3_passAll_24 : decode cX3_passAll 24 = .ok (.aload_n 0, 1) := dk_42 (dk_at dksX3_passAll_1 0 rfl rfl)
theorem dX3_passAll_25 : decode cX3_passAll 25 = .ok (.aload_n 0, 1) := dk_42 (dk_at dksX3_passAll_1 1 rfl rfl)
theorem dX3_passAll_26 : decode cX3_passAll 26 = .ok (.aload_n 0, 1) := dk_42 (dk_at dksX3_passAll_1 2 rfl rfl)
theorem dX3_passAll_27 : decode cX3_passAll 27 = .ok (.getfield 211, 3) := dk_180 0 211 (dk_at dksX3_passAll_1 3 rfl rfl)
theorem dX3_passAll_30 : decode cX3_passAll 30 = .ok (.invokevirtual 348, 3) := dk_182 1 92 (dk_at dksX3_passAll_1 6 rfl rfl)
theorem dX3_passAll_33 : decode cX3_passAll 33 = .ok (.putfield 211, 3) := dk_181 0 211 (dk_at dksX3_passAll_1 9 rfl rfl)
theorem dX3_passAll_36 : decode cX3_passAll 36 = .ok (.aload_n 0, 1) := dk_42 (dk_at dksX3_passAll_1 12 rfl rfl)
theorem dX3_passAll_37 : decode cX3_passAll 37 = .ok (.aload_n 0, 1) := dk_42 (dk_at dksX3_passAll_1 13 rfl rfl)
theorem dX3_passAll_38 : decode cX3_passAll 38 = .ok (.aload_n 0, 1) := dk_42 (dk_at dksX3_passAll_1 14 rfl rfl)
theorem dX3_passAll_39 : decode cX3_passAll 39 = .ok (.getfield 289, 3) := dk_180 1 33 (dk_at dksX3_passAll_1 15 rfl rfl)
theorem dX3_passAll_42 : decode cX3_passAll 42 = .ok (.invokevirtual 348, 3) := dk_182 1 92 (dk_at dksX3_passAll_1 18 rfl rfl)
theorem dX3_passAll_45 : decode cX3_passAll 45 = .ok (.putfield 289, 3) := dk_181 1 33 (dk_at dksX3_passAll_1 21 rfl rfl)
theorem dX3_passAll_48 : decode cX3_passAll 48 = .ok (.aload_n 0, 1) := dk_42 (dk_at dksX3_passAll_2 0 rfl rfl)
theorem dX3_passAll_49 : decode cX3_passAll 49 = .ok (.aload_n 0, 1) := dk_42 (dk_at dksX3_passAll_2 1 rfl rfl)
theorem dX3_passAll_50 : decode cX3_passAll 50 = .ok (.getfield 7, 3) := dk_180 0 7 (dk_at dksX3_passAll_2 2 rfl rfl)
theorem dX3_passAll_53 : decode cX3_passAll 53 = .ok (.iconst 3, 1) := dk_6 (dk_at dksX3_passAll_2 5 rfl rfl)
theorem dX3_passAll_54 : decode cX3_passAll 54 = .ok (.invokevirtual 351, 3) := dk_182 1 95 (dk_at dksX3_passAll_2 6 rfl rfl)
theorem dX3_passAll_57 : decode cX3_passAll 57 = .ok (.aload_n 0, 1) := dk_42 (dk_at dksX3_passAll_2 9 rfl rfl)
theorem dX3_passAll_58 : decode cX3_passAll 58 = .ok (.aload_n 0, 1) := dk_42 (dk_at dksX3_passAll_2 10 rfl rfl)
theorem dX3_passAll_59 : decode cX3_passAll 59 = .ok (.getfield 13, 3) := dk_180 0 13 (dk_at dksX3_passAll_2 11 rfl rfl)
theorem dX3_passAll_62 : decode cX3_passAll 62 = .ok (.bipush 8, 2) := dk_16 8 (dk_at dksX3_passAll_2 14 rfl rfl)
theorem dX3_passAll_64 : decode cX3_passAll 64 = .ok (.invokevirtual 351, 3) := dk_182 1 95 (dk_at dksX3_passAll_2 16 rfl rfl)
theorem dX3_passAll_67 : decode cX3_passAll 67 = .ok (.aload_n 0, 1) := dk_42 (dk_at dksX3_passAll_2 19 rfl rfl)
theorem dX3_passAll_68 : decode cX3_passAll 68 = .ok (.aload_n 0, 1) := dk_42 (dk_at dksX3_passAll_2 20 rfl rfl)
theorem dX3_passAll_69 : decode cX3_passAll 69 = .ok (.getfield 16, 3) := dk_180 0 16 (dk_at dksX3_passAll_2 21 rfl rfl)
theorem dX3_passAll_72 : decode cX3_passAll 72 = .ok (.bipush 8, 2) := dk_16 8 (dk_at dksX3_passAll_3 0 rfl rfl)
theorem dX3_passAll_74 : decode cX3_passAll 74 = .ok (.invokevirtual 351, 3) := dk_182 1 95 (dk_at dksX3_passAll_3 2 rfl rfl)
theorem dX3_passAll_77 : decode cX3_passAll 77 = .ok (.return_, 1) := dk_177 (dk_at dksX3_passAll_3 5 rfl rfl)
abbrev cX3_pass : ByteArray := prog_5_method_71_code
def yX3_pass : MethodName := ⟨RX3, "pass", "(I)I"⟩
def dkwX3_pass_1 : List UInt8 := [180, 0, 63, 42, 180, 1, 89, 28, 79, 42, 89, 180, 1, 89, 4, 96, 181, 1, 89, 28, 172]
abbrev dktX3_pass_1 : List UInt8 := dkwX3_pass_1 ++ []
def dkwX3_pass_0 : List UInt8 := [42, 180, 1, 85, 153, 0, 7, 27, 167, 0, 12, 42, 180, 0, 63, 42, 180, 1, 89, 46, 61, 42]
abbrev dktX3_pass_0 : List UInt8 := dkwX3_pass_0 ++ dktX3_pass_1
theorem dksX3_pass_0 : cX3_pass.data.toList.drop 0 = dktX3_pass_0 := by decide +kernel
theorem dksX3_pass_1 : cX3_pass.data.toList.drop 22 = dktX3_pass_1 := dk_seg dksX3_pass_0 22 rfl rfl
theorem dX3_pass_0 : decode cX3_pass 0 = .ok (.aload_n 0, 1) := dk_42 (dk_at dksX3_pass_0 0 rfl rfl)
theorem dX3_pass_1 : decode cX3_pass 1 = .ok (.getfield 341, 3) := dk_180 1 85 (dk_at dksX3_pass_0 1 rfl rfl)
theorem dX3_pass_4 : decode cX3_pass 4 = .ok (.ifCond .eq 7, 3) := dk_153 0 7 (dk_at dksX3_pass_0 4 rfl rfl)
theorem dX3_pass_7 : decode cX3_pass 7 = .ok (.iload_n 1, 1) := dk_27 (dk_at dksX3_pass_0 7 rfl rfl)
theorem dX3_pass_8 : decode cX3_pass 8 = .ok (.goto 12, 3) := dk_167 0 12 (dk_at dksX3_pass_0 8 rfl rfl)
theorem dX3_pass_11 : decode cX3_pass 11 = .ok (.aload_n 0, 1) := dk_42 (dk_at dksX3_pass_0 11 rfl rfl)
theorem dX3_pass_12 : decode cX3_pass 12 = .ok (.getfield 63, 3) := dk_180 0 63 (dk_at dksX3_pass_0 12 rfl rfl)
theorem dX3_pass_15 : decode cX3_pass 15 = .ok (.aload_n 0, 1) := dk_42 (dk_at dksX3_pass_0 15 rfl rfl)
theorem dX3_pass_16 : decode cX3_pass 16 = .ok (.getfield 345, 3) := dk_180 1 89 (dk_at dksX3_pass_0 16 rfl rfl)
theorem dX3_pass_19 : decode cX3_pass 19 = .ok (.iaload, 1) := dk_46 (dk_at dksX3_pass_0 19 rfl rfl)
theorem dX3_pass_20 : decode cX3_pass 20 = .ok (.istore_n 2, 1) := dk_61 (dk_at dksX3_pass_0 20 rfl rfl)
theorem dX3_pass_21 : decode cX3_pass 21 = .ok (.aload_n 0, 1) := dk_42 (dk_at dksX3_pass_0 21 rfl rfl)
theorem dX3_pass_22 : decode cX3_pass 22 = .ok (.getfield 63, 3) := dk_180 0 63 (dk_at dksX3_pass_1 0 rfl rfl)
theorem dX3_pass_25 : decode cX3_pass 25 = .ok (.aload_n 0, 1) := dk_42 (dk_at dksX3_pass_1 3 rfl rfl)
theorem dX3_pass_26 : decode cX3_pass 26 = .ok (.getfield 345, 3) := dk_180 1 89 (dk_at dksX3_pass_1 4 rfl rfl)
theorem dX3_pass_29 : decode cX3_pass 29 = .ok (.iload_n 2, 1) := dk_28 (dk_at dksX3_pass_1 7 rfl rfl)
theorem dX3_pass_30 : decode cX3_pass 30 = .ok (.iastore, 1) := dk_79 (dk_at dksX3_pass_1 8 rfl rfl)
theorem dX3_pass_31 : decode cX3_pass 31 = .ok (.aload_n 0, 1) := dk_42 (dk_at dksX3_pass_1 9 rfl rfl)
theorem dX3_pass_32 : decode cX3_pass 32 = .ok (.dup, 1) := dk_89 (dk_at dksX3_pass_1 10 rfl rfl)
theorem dX3_pass_33 : decode cX3_pass 33 = .ok (.getfield 345, 3) := dk_180 1 89 (dk_at dksX3_pass_1 11 rfl rfl)
theorem dX3_pass_36 : decode cX3_pass 36 = .ok (.iconst 1, 1) := dk_4 (dk_at dksX3_pass_1 14 rfl rfl)
theorem dX3_pass_37 : decode cX3_pass 37 = .ok (.iadd, 1) := dk_96 (dk_at dksX3_pass_1 15 rfl rfl)
theorem dX3_pass_38 : decode cX3_pass 38 = .ok (.putfield 345, 3) := dk_181 1 89 (dk_at dksX3_pass_1 16 rfl rfl)
theorem dX3_pass_41 : decode cX3_pass 41 = .ok (.iload_n 2, 1) := dk_28 (dk_at dksX3_pass_1 19 rfl rfl)
theorem dX3_pass_42 : decode cX3_pass 42 = .ok (.ireturn, 1) := dk_172 (dk_at dksX3_pass_1 20 rfl rfl)
abbrev cX3_passRow : ByteArray := prog_5_method_72_code
def yX3_passRow : MethodName := ⟨RX3, "passRow", "([II)V"⟩
def dkwX3_passRow_0 : List UInt8 := [3, 62, 29, 28, 162, 0, 19, 43, 29, 42, 43, 29, 46, 182, 1, 92, 79, 132, 3, 1, 167, 255, 238, 177]
abbrev dktX3_passRow_0 : List UInt8 := dkwX3_passRow_0 ++ []
theorem dksX3_passRow_0 : cX3_passRow.data.toList.drop 0 = dktX3_passRow_0 := by decide +kernel
theorem dX3_passRow_0 : decode cX3_passRow 0 = .ok (.iconst 0, 1) := dk_3 (dk_at dksX3_passRow_0 0 rfl rfl)
theorem dX3_passRow_1 : decode cX3_passRow 1 = .ok (.istore_n 3, 1) := dk_62 (dk_at dksX3_passRow_0 1 rfl rfl)
theorem dX3_passRow_2 : decode cX3_passRow 2 = .ok (.iload_n 3, 1) := dk_29 (dk_at dksX3_passRow_0 2 rfl rfl)
theorem dX3_passRow_3 : decode cX3_passRow 3 = .ok (.iload_n 2, 1) := dk_28 (dk_at dksX3_passRow_0 3 rfl rfl)
theorem dX3_passRow_4 : decode cX3_passRow 4 = .ok (.if_icmp .ge 19, 3) := dk_162 0 19 (dk_at dksX3_passRow_0 4 rfl rfl)
theorem dX3_passRow_7 : decode cX3_passRow 7 = .ok (.aload_n 1, 1) := dk_43 (dk_at dksX3_passRow_0 7 rfl rfl)
theorem dX3_passRow_8 : decode cX3_passRow 8 = .ok (.iload_n 3, 1) := dk_29 (dk_at dksX3_passRow_0 8 rfl rfl)
theorem dX3_passRow_9 : decode cX3_passRow 9 = .ok (.aload_n 0, 1) := dk_42 (dk_at dksX3_passRow_0 9 rfl rfl)
theorem dX3_passRow_10 : decode cX3_passRow 10 = .ok (.aload_n 1, 1) := dk_43 (dk_at dksX3_passRow_0 10 rfl rfl)
theorem dX3_passRow_11 : decode cX3_passRow 11 = .ok (.iload_n 3, 1) := dk_29 (dk_at dksX3_passRow_0 11 rfl rfl)
theorem dX3_passRow_12 : decode cX3_passRow 12 = .ok (.iaload, 1) := dk_46 (dk_at dksX3_passRow_0 12 rfl rfl)
theorem dX3_passRow_13 : decode cX3_passRow 13 = .ok (.invokevirtual 348, 3) := dk_182 1 92 (dk_at dksX3_passRow_0 13 rfl rfl)
theorem dX3_passRow_16 : decode cX3_passRow 16 = .ok (.iastore, 1) := dk_79 (dk_at dksX3_passRow_0 16 rfl rfl)
theorem dX3_passRow_17 : decode cX3_passRow 17 = .ok (.iinc 3 1, 3) := dk_132 3 1 (dk_at dksX3_passRow_0 17 rfl rfl)
theorem dX3_passRow_20 : decode cX3_passRow 20 = .ok (.goto (-18), 3) := dk_167 255 238 (dk_at dksX3_passRow_0 20 rfl rfl)
theorem dX3_passRow_23 : decode cX3_passRow 23 = .ok (.return_, 1) := dk_177 (dk_at dksX3_passRow_0 23 rfl rfl)
abbrev cX3_restore : ByteArray := prog_5_method_75_code
def yX3_restore : MethodName := ⟨RX3, "restore", "(I)I"⟩
def dkwX3_restore_1 : List UInt8 := [172, 42, 16, 30, 27, 104, 181, 1, 89, 42, 3, 181, 1, 85, 42, 182, 1, 99, 4, 172]
abbrev dktX3_restore_1 : List UInt8 := dkwX3_restore_1 ++ []
def dkwX3_restore_0 : List UInt8 := [27, 133, 9, 10, 184, 0, 75, 154, 0, 6, 16, 254, 172, 42, 180, 0, 66, 27, 51, 154, 0, 6, 16, 253]
abbrev dktX3_restore_0 : List UInt8 := dkwX3_restore_0 ++ dktX3_restore_1
theorem dksX3_restore_0 : cX3_restore.data.toList.drop 0 = dktX3_restore_0 := by decide +kernel
theorem dksX3_restore_1 : cX3_restore.data.toList.drop 24 = dktX3_restore_1 := dk_seg dksX3_restore_0 24 rfl rfl
theorem dX3_restore_0 : decode cX3_restore 0 = .ok (.iload_n 1, 1) := dk_27 (dk_at dksX3_restore_0 0 rfl rfl)
theorem dX3_restore_1 : decode cX3_restore 1 = .ok (.i2l, 1) := dk_133 (dk_at dksX3_restore_0 1 rfl rfl)
theorem dX3_restore_2 : decode cX3_restore 2 = .ok (.lconst 0, 1) := dk_9 (dk_at dksX3_restore_0 2 rfl rfl)
theorem dX3_restore_3 : decode cX3_restore 3 = .ok (.lconst 1, 1) := dk_10 (dk_at dksX3_restore_0 3 rfl rfl)
theorem dX3_restore_4 : decode cX3_restore 4 = .ok (.invokestatic 75, 3) := dk_184 0 75 (dk_at dksX3_restore_0 4 rfl rfl)
theorem dX3_restore_7 : decode cX3_restore 7 = .ok (.ifCond .ne 6, 3) := dk_154 0 6 (dk_at dksX3_restore_0 7 rfl rfl)
theorem dX3_restore_10 : decode cX3_restore 10 = .ok (.bipush (-2), 2) := dk_16 254 (dk_at dksX3_restore_0 10 rfl rfl)
theorem dX3_restore_12 : decode cX3_restore 12 = .ok (.ireturn, 1) := dk_172 (dk_at dksX3_restore_0 12 rfl rfl)
theorem dX3_restore_13 : decode cX3_restore 13 = .ok (.aload_n 0, 1) := dk_42 (dk_at dksX3_restore_0 13 rfl rfl)
theorem dX3_restore_14 : decode cX3_restore 14 = .ok (.getfield 66, 3) := dk_180 0 66 (dk_at dksX3_restore_0 14 rfl rfl)
theorem dX3_restore_17 : decode cX3_restore 17 = .ok (.iload_n 1, 1) := dk_27 (dk_at dksX3_restore_0 17 rfl rfl)
theorem dX3_restore_18 : decode cX3_restore 18 = .ok (.baload, 1) := dk_51 (dk_at dksX3_restore_0 18 rfl rfl)
theorem dX3_restore_19 : decode cX3_restore 19 = .ok (.ifCond .ne 6, 3) := dk_154 0 6 (dk_at dksX3_restore_0 19 rfl rfl)
theorem dX3_restore_22 : decode cX3_restore 22 = .ok (.bipush (-3), 2) := dk_16 253 (dk_at dksX3_restore_0 22 rfl rfl)
theorem dX3_restore_24 : decode cX3_restore 24 = .ok (.ireturn, 1) := dk_172 (dk_at dksX3_restore_1 0 rfl rfl)
theorem dX3_restore_25 : decode cX3_restore 25 = .ok (.aload_n 0, 1) := dk_42 (dk_at dksX3_restore_1 1 rfl rfl)
theorem dX3_restore_26 : decode cX3_restore 26 = .ok (.bipush 30, 2) := dk_16 30 (dk_at dksX3_restore_1 2 rfl rfl)
theorem dX3_restore_28 : decode cX3_restore 28 = .ok (.iload_n 1, 1) := dk_27 (dk_at dksX3_restore_1 4 rfl rfl)
theorem dX3_restore_29 : decode cX3_restore 29 = .ok (.imul, 1) := dk_104 (dk_at dksX3_restore_1 5 rfl rfl)
theorem dX3_restore_30 : decode cX3_restore 30 = .ok (.putfield 345, 3) := dk_181 1 89 (dk_at dksX3_restore_1 6 rfl rfl)
theorem dX3_restore_33 : decode cX3_restore 33 = .ok (.aload_n 0, 1) := dk_42 (dk_at dksX3_restore_1 9 rfl rfl)
theorem dX3_restore_34 : decode cX3_restore 34 = .ok (.iconst 0, 1) := dk_3 (dk_at dksX3_restore_1 10 rfl rfl)
theorem dX3_restore_35 : decode cX3_restore 35 = .ok (.putfield 341, 3) := dk_181 1 85 (dk_at dksX3_restore_1 11 rfl rfl)
theorem dX3_restore_38 : decode cX3_restore 38 = .ok (.aload_n 0, 1) := dk_42 (dk_at dksX3_restore_1 14 rfl rfl)
theorem dX3_restore_39 : decode cX3_restore 39 = .ok (.invokevirtual 355, 3) := dk_182 1 99 (dk_at dksX3_restore_1 15 rfl rfl)
theorem dX3_restore_42 : decode cX3_restore 42 = .ok (.iconst 1, 1) := dk_4 (dk_at dksX3_restore_1 18 rfl rfl)
theorem dX3_restore_43 : decode cX3_restore 43 = .ok (.ireturn, 1) := dk_172 (dk_at dksX3_restore_1 19 rfl rfl)
abbrev cX3_told : ByteArray := prog_5_method_76_code
def yX3_told : MethodName := ⟨RX3, "told", "(I)I"⟩
def dkwX3_told_4 : List UInt8 := [172, 16, 254, 172]
abbrev dktX3_told_4 : List UInt8 := dkwX3_told_4 ++ []
def dkwX3_told_3 : List UInt8 := [42, 180, 0, 120, 172, 42, 180, 0, 109, 172, 42, 180, 0, 113, 172, 42, 180, 0, 211, 172, 42, 180, 1, 33]
abbrev dktX3_told_3 : List UInt8 := dkwX3_told_3 ++ dktX3_told_4
def dkwX3_told_2 : List UInt8 := [170, 0, 0, 0, 0, 0, 60, 0, 0, 0, 0, 0, 0, 0, 4, 0, 0, 0, 35, 0, 0, 0, 40, 0, 0, 0, 45, 0, 0, 0, 50, 0, 0, 0, 55]
abbrev dktX3_told_2 : List UInt8 := dkwX3_told_2 ++ dktX3_told_3
def dkwX3_told_1 : List UInt8 := [27]
abbrev dktX3_told_1 : List UInt8 := dkwX3_told_1 ++ dktX3_told_2
def dkwX3_told_0 : List UInt8 := [27, 133, 20, 1, 59, 20, 1, 102, 184, 0, 75, 153, 0, 13, 42, 180, 0, 7, 27, 16, 10, 100, 46, 172]
abbrev dktX3_told_0 : List UInt8 := dkwX3_told_0 ++ dktX3_told_1
theorem dksX3_told_0 : cX3_told.data.toList.drop 0 = dktX3_told_0 := by decide +kernel
theorem dksX3_told_1 : cX3_told.data.toList.drop 24 = dktX3_told_1 := dk_seg dksX3_told_0 24 rfl rfl
theorem dksX3_told_2 : cX3_told.data.toList.drop 25 = dktX3_told_2 := dk_seg dksX3_told_1 1 rfl rfl
theorem dksX3_told_3 : cX3_told.data.toList.drop 60 = dktX3_told_3 := dk_seg dksX3_told_2 35 rfl rfl
theorem dksX3_told_4 : cX3_told.data.toList.drop 84 = dktX3_told_4 := dk_seg dksX3_told_3 24 rfl rfl
theorem dX3_told_0 : decode cX3_told 0 = .ok (.iload_n 1, 1) := dk_27 (dk_at dksX3_told_0 0 rfl rfl)
theorem dX3_told_1 : decode cX3_told 1 = .ok (.i2l, 1) := dk_133 (dk_at dksX3_told_0 1 rfl rfl)
theorem dX3_told_2 : decode cX3_told 2 = .ok (.ldc2_w 315, 3) := dk_20 1 59 (dk_at dksX3_told_0 2 rfl rfl)
theorem dX3_told_5 : decode cX3_told 5 = .ok (.ldc2_w 358, 3) := dk_20 1 102 (dk_at dksX3_told_0 5 rfl rfl)
theorem dX3_told_8 : decode cX3_told 8 = .ok (.invokestatic 75, 3) := dk_184 0 75 (dk_at dksX3_told_0 8 rfl rfl)
theorem dX3_told_11 : decode cX3_told 11 = .ok (.ifCond .eq 13, 3) := dk_153 0 13 (dk_at dksX3_told_0 11 rfl rfl)
theorem dX3_told_14 : decode cX3_told 14 = .ok (.aload_n 0, 1) := dk_42 (dk_at dksX3_told_0 14 rfl rfl)
theorem dX3_told_15 : decode cX3_told 15 = .ok (.getfield 7, 3) := dk_180 0 7 (dk_at dksX3_told_0 15 rfl rfl)
theorem dX3_told_18 : decode cX3_told 18 = .ok (.iload_n 1, 1) := dk_27 (dk_at dksX3_told_0 18 rfl rfl)
theorem dX3_told_19 : decode cX3_told 19 = .ok (.bipush 10, 2) := dk_16 10 (dk_at dksX3_told_0 19 rfl rfl)
theorem dX3_told_21 : decode cX3_told 21 = .ok (.isub, 1) := dk_100 (dk_at dksX3_told_0 21 rfl rfl)
theorem dX3_told_22 : decode cX3_told 22 = .ok (.iaload, 1) := dk_46 (dk_at dksX3_told_0 22 rfl rfl)
theorem dX3_told_23 : decode cX3_told 23 = .ok (.ireturn, 1) := dk_172 (dk_at dksX3_told_0 23 rfl rfl)
theorem dX3_told_24 : decode cX3_told 24 = .ok (.iload_n 1, 1) := dk_27 (dk_at dksX3_told_1 0 rfl rfl)
theorem dX3_told_25 : decode cX3_told 25 = .ok (.tableswitch 60 0 4 #[35, 40, 45, 50, 55], 35) := by decide +kernel
theorem dX3_told_60 : decode cX3_told 60 = .ok (.aload_n 0, 1) := dk_42 (dk_at dksX3_told_3 0 rfl rfl)
theorem dX3_told_61 : decode cX3_told 61 = .ok (.getfield 120, 3) := dk_180 0 120 (dk_at dksX3_told_3 1 rfl rfl)
theorem dX3_told_64 : decode cX3_told 64 = .ok (.ireturn, 1) := dk_172 (dk_at dksX3_told_3 4 rfl rfl)
theorem dX3_told_65 : decode cX3_told 65 = .ok (.aload_n 0, 1) := dk_42 (dk_at dksX3_told_3 5 rfl rfl)
theorem dX3_told_66 : decode cX3_told 66 = .ok (.getfield 109, 3) := dk_180 0 109 (dk_at dksX3_told_3 6 rfl rfl)
theorem dX3_told_69 : decode cX3_told 69 = .ok (.ireturn, 1) := dk_172 (dk_at dksX3_told_3 9 rfl rfl)
theorem dX3_told_70 : decode cX3_told 70 = .ok (.aload_n 0, 1) := dk_42 (dk_at dksX3_told_3 10 rfl rfl)
theorem dX3_told_71 : decode cX3_told 71 = .ok (.getfield 113, 3) := dk_180 0 113 (dk_at dksX3_told_3 11 rfl rfl)
theorem dX3_told_74 : decode cX3_told 74 = .ok (.ireturn, 1) := dk_172 (dk_at dksX3_told_3 14 rfl rfl)
theorem dX3_told_75 : decode cX3_told 75 = .ok (.aload_n 0, 1) := dk_42 (dk_at dksX3_told_3 15 rfl rfl)
theorem dX3_told_76 : decode cX3_told 76 = .ok (.getfield 211, 3) := dk_180 0 211 (dk_at dksX3_told_3 16 rfl rfl)
theorem dX3_told_79 : decode cX3_told 79 = .ok (.ireturn, 1) := dk_172 (dk_at dksX3_told_3 19 rfl rfl)
theorem dX3_told_80 : decode cX3_told 80 = .ok (.aload_n 0, 1) := dk_42 (dk_at dksX3_told_3 20 rfl rfl)
theorem dX3_told_81 : decode cX3_told 81 = .ok (.getfield 289, 3) := dk_180 1 33 (dk_at dksX3_told_3 21 rfl rfl)
theorem dX3_told_84 : decode cX3_told 84 = .ok (.ireturn, 1) := dk_172 (dk_at dksX3_told_4 0 rfl rfl)
theorem dX3_told_85 : decode cX3_told 85 = .ok (.bipush (-2), 2) := dk_16 254 (dk_at dksX3_told_4 1 rfl rfl)
theorem dX3_told_87 : decode cX3_told 87 = .ok (.ireturn, 1) := dk_172 (dk_at dksX3_told_4 3 rfl rfl)
theorem q46 : (Jvm.Cond.initialized "BaizeCorpsModel") ∈ lw_all := lw_g (lw_at lw_m1 4 rfl) rfl
theorem q447 : (Jvm.Cond.instantiable "BaizeCorpsModel" (42 : Nat)) ∈ lw_all := lw_g (lw_at lw_m2 165 rfl) rfl
theorem q449 : (Jvm.Cond.instanceMethod ({ cls := "BaizeCorpsModel", name := "<init>", desc := "()V" } : Jvm.MethodName)) ∈ lw_all := lw_g (lw_at lw_m2 167 rfl) rfl
theorem q450 : (Jvm.Cond.code ({ cls := "BaizeCorpsModel", name := "<init>", desc := "()V" } : Jvm.MethodName) prog_5_method_1_code (2 : Nat) (Option.none : Option Jvm.ClassFile.FieldType)) ∈ lw_all := lw_g (lw_at lw_m2 168 rfl) rfl
theorem q451 : (Jvm.Cond.methodLink "BaizeCorpsModel" (1 : Nat) ({ cls := "java/lang/Object", name := "<init>", desc := "()V" } : Jvm.MethodName)) ∈ lw_all := lw_g (lw_at lw_m2 169 rfl) rfl
theorem q452 : (Jvm.Cond.methodLink "BaizeCorpsModel" (69 : Nat) ({ cls := "BaizeCorpsModel", name := "home", desc := "(I)I" } : Jvm.MethodName)) ∈ lw_all := lw_g (lw_at lw_m2 170 rfl) rfl
theorem q453 : (Jvm.Cond.static ({ cls := "BaizeCorpsModel", name := "home", desc := "(I)I" } : Jvm.MethodName)) ∈ lw_all := lw_g (lw_at lw_m2 171 rfl) rfl
theorem q454 : (Jvm.Cond.code ({ cls := "BaizeCorpsModel", name := "home", desc := "(I)I" } : Jvm.MethodName) prog_5_method_8_code (1 : Nat) (Option.some Jvm.ClassFile.FieldType.int)) ∈ lw_all := lw_g (lw_at lw_m2 172 rfl) rfl
theorem q455 : (Jvm.Cond.fieldLink "BaizeCorpsModel" (7 : Nat) "BaizeCorpsModel" "cell" "[I") ∈ lw_all := lw_g (lw_at lw_m2 173 rfl) rfl
theorem q456 : (Jvm.Cond.fieldLink "BaizeCorpsModel" (109 : Nat) "BaizeCorpsModel" "points" "I") ∈ lw_all := lw_g (lw_at lw_m2 174 rfl) rfl
theorem q457 : (Jvm.Cond.fieldLink "BaizeCorpsModel" (113 : Nat) "BaizeCorpsModel" "fouls" "I") ∈ lw_all := lw_g (lw_at lw_m2 175 rfl) rfl
theorem q458 : (Jvm.Cond.fieldLink "BaizeCorpsModel" (211 : Nat) "BaizeCorpsModel" "evening" "I") ∈ lw_all := lw_g (lw_at lw_m2 176 rfl) rfl
theorem q459 : (Jvm.Cond.fieldLink "BaizeCorpsModel" (13 : Nat) "BaizeCorpsModel" "sightStep" "[I") ∈ lw_all := lw_g (lw_at lw_m2 177 rfl) rfl
theorem q460 : (Jvm.Cond.fieldLink "BaizeCorpsModel" (16 : Nat) "BaizeCorpsModel" "sightCell" "[I") ∈ lw_all := lw_g (lw_at lw_m2 178 rfl) rfl
theorem q461 : (Jvm.Cond.fieldLink "BaizeCorpsModel" (289 : Nat) "BaizeCorpsModel" "sights" "I") ∈ lw_all := lw_g (lw_at lw_m2 179 rfl) rfl
theorem q462 : (Jvm.Cond.fieldLink "BaizeCorpsModel" (19 : Nat) "BaizeCorpsModel" "pad" "[I") ∈ lw_all := lw_g (lw_at lw_m2 180 rfl) rfl
theorem q463 : (Jvm.Cond.fieldLink "BaizeCorpsModel" (120 : Nat) "BaizeCorpsModel" "padMany" "I") ∈ lw_all := lw_g (lw_at lw_m2 181 rfl) rfl
theorem q464 : (Jvm.Cond.fieldLink "BaizeCorpsModel" (22 : Nat) "BaizeCorpsModel" "act" "[I") ∈ lw_all := lw_g (lw_at lw_m2 182 rfl) rfl
theorem q465 : (Jvm.Cond.fieldLink "BaizeCorpsModel" (25 : Nat) "BaizeCorpsModel" "which" "[I") ∈ lw_all := lw_g (lw_at lw_m2 183 rfl) rfl
theorem q466 : (Jvm.Cond.fieldLink "BaizeCorpsModel" (28 : Nat) "BaizeCorpsModel" "whither" "[I") ∈ lw_all := lw_g (lw_at lw_m2 184 rfl) rfl
theorem q467 : (Jvm.Cond.fieldLink "BaizeCorpsModel" (31 : Nat) "BaizeCorpsModel" "hard" "[I") ∈ lw_all := lw_g (lw_at lw_m2 185 rfl) rfl
theorem q468 : (Jvm.Cond.fieldLink "BaizeCorpsModel" (123 : Nat) "BaizeCorpsModel" "acts" "I") ∈ lw_all := lw_g (lw_at lw_m2 186 rfl) rfl
theorem q469 : (Jvm.Cond.fieldLink "BaizeCorpsModel" (172 : Nat) "BaizeCorpsModel" "moving" "I") ∈ lw_all := lw_g (lw_at lw_m2 187 rfl) rfl
theorem q470 : (Jvm.Cond.fieldLink "BaizeCorpsModel" (175 : Nat) "BaizeCorpsModel" "goes" "I") ∈ lw_all := lw_g (lw_at lw_m2 188 rfl) rfl
theorem q471 : (Jvm.Cond.fieldLink "BaizeCorpsModel" (166 : Nat) "BaizeCorpsModel" "left" "I") ∈ lw_all := lw_g (lw_at lw_m2 189 rfl) rfl
theorem q472 : (Jvm.Cond.fieldLink "BaizeCorpsModel" (154 : Nat) "BaizeCorpsModel" "touches" "I") ∈ lw_all := lw_g (lw_at lw_m2 190 rfl) rfl
theorem q473 : (Jvm.Cond.fieldLink "BaizeCorpsModel" (160 : Nat) "BaizeCorpsModel" "cushions" "I") ∈ lw_all := lw_g (lw_at lw_m2 191 rfl) rfl
theorem q474 : (Jvm.Cond.fieldLink "BaizeCorpsModel" (163 : Nat) "BaizeCorpsModel" "cushionsThen" "I") ∈ lw_all := lw_g (lw_at lw_m2 192 rfl) rfl
theorem q475 : (Jvm.Cond.fieldLink "BaizeCorpsModel" (157 : Nat) "BaizeCorpsModel" "touchedFirst" "I") ∈ lw_all := lw_g (lw_at lw_m2 193 rfl) rfl
theorem q476 : (Jvm.Cond.fieldLink "BaizeCorpsModel" (169 : Nat) "BaizeCorpsModel" "stepsThen" "I") ∈ lw_all := lw_g (lw_at lw_m2 194 rfl) rfl
theorem q477 : (Jvm.Cond.fieldLink "BaizeCorpsModel" (188 : Nat) "BaizeCorpsModel" "downNow" "I") ∈ lw_all := lw_g (lw_at lw_m2 195 rfl) rfl
theorem q478 : (Jvm.Cond.fieldLink "BaizeCorpsModel" (199 : Nat) "BaizeCorpsModel" "touchedMany" "I") ∈ lw_all := lw_g (lw_at lw_m2 196 rfl) rfl
theorem q479 : (Jvm.Cond.fieldLink "BaizeCorpsModel" (202 : Nat) "BaizeCorpsModel" "cushionMany" "I") ∈ lw_all := lw_g (lw_at lw_m2 197 rfl) rfl
theorem q480 : (Jvm.Cond.fieldLink "BaizeCorpsModel" (34 : Nat) "BaizeCorpsModel" "were" "[I") ∈ lw_all := lw_g (lw_at lw_m2 198 rfl) rfl
theorem q481 : (Jvm.Cond.fieldLink "BaizeCorpsModel" (37 : Nat) "BaizeCorpsModel" "had" "[I") ∈ lw_all := lw_g (lw_at lw_m2 199 rfl) rfl
theorem q482 : (Jvm.Cond.fieldLink "BaizeCorpsModel" (220 : Nat) "BaizeCorpsModel" "badAct" "I") ∈ lw_all := lw_g (lw_at lw_m2 200 rfl) rfl
theorem q483 : (Jvm.Cond.fieldLink "BaizeCorpsModel" (223 : Nat) "BaizeCorpsModel" "badWhy" "I") ∈ lw_all := lw_g (lw_at lw_m2 201 rfl) rfl
theorem q484 : (Jvm.Cond.fieldLink "BaizeCorpsModel" (226 : Nat) "BaizeCorpsModel" "foulAct" "I") ∈ lw_all := lw_g (lw_at lw_m2 202 rfl) rfl
theorem q485 : (Jvm.Cond.fieldLink "BaizeCorpsModel" (40 : Nat) "BaizeCorpsModel" "met" "[Z") ∈ lw_all := lw_g (lw_at lw_m2 203 rfl) rfl
theorem q486 : (Jvm.Cond.fieldLink "BaizeCorpsModel" (44 : Nat) "BaizeCorpsModel" "far" "[I") ∈ lw_all := lw_g (lw_at lw_m2 204 rfl) rfl
theorem q487 : (Jvm.Cond.fieldLink "BaizeCorpsModel" (47 : Nat) "BaizeCorpsModel" "fit" "[I") ∈ lw_all := lw_g (lw_at lw_m2 205 rfl) rfl
theorem q488 : (Jvm.Cond.fieldLink "BaizeCorpsModel" (50 : Nat) "BaizeCorpsModel" "now" "[I") ∈ lw_all := lw_g (lw_at lw_m2 206 rfl) rfl
theorem q489 : (Jvm.Cond.fieldLink "BaizeCorpsModel" (292 : Nat) "BaizeCorpsModel" "fitMany" "I") ∈ lw_all := lw_g (lw_at lw_m2 207 rfl) rfl
theorem q490 : (Jvm.Cond.fieldLink "BaizeCorpsModel" (53 : Nat) "BaizeCorpsModel" "byCell" "[I") ∈ lw_all := lw_g (lw_at lw_m2 208 rfl) rfl
theorem q491 : (Jvm.Cond.fieldLink "BaizeCorpsModel" (56 : Nat) "BaizeCorpsModel" "wins" "[Z") ∈ lw_all := lw_g (lw_at lw_m2 209 rfl) rfl
theorem q492 : (Jvm.Cond.fieldLink "BaizeCorpsModel" (59 : Nat) "BaizeCorpsModel" "chance" "[J") ∈ lw_all := lw_g (lw_at lw_m2 210 rfl) rfl
theorem q493 : (Jvm.Cond.fieldLink "BaizeCorpsModel" (63 : Nat) "BaizeCorpsModel" "kept" "[I") ∈ lw_all := lw_g (lw_at lw_m2 211 rfl) rfl
theorem q494 : (Jvm.Cond.fieldLink "BaizeCorpsModel" (66 : Nat) "BaizeCorpsModel" "isKept" "[Z") ∈ lw_all := lw_g (lw_at lw_m2 212 rfl) rfl
theorem q495 : (Jvm.Cond.fieldLink "BaizeCorpsModel" (345 : Nat) "BaizeCorpsModel" "keptAt" "I") ∈ lw_all := lw_g (lw_at lw_m2 213 rfl) rfl
theorem q496 : (Jvm.Cond.fieldLink "BaizeCorpsModel" (341 : Nat) "BaizeCorpsModel" "isWriting" "Z") ∈ lw_all := lw_g (lw_at lw_m2 214 rfl) rfl
theorem q497 : (Jvm.Cond.laysFinal "BaizeCorpsModel" "BaizeCorpsModel" "cell" "[I") ∈ lw_all := lw_g (lw_at lw_m2 215 rfl) rfl
theorem q498 : (Jvm.Cond.soleField "BaizeCorpsModel" "cell") ∈ lw_all := lw_g (lw_at lw_m2 216 rfl) rfl
theorem q499 : (Jvm.Cond.lays "BaizeCorpsModel" "BaizeCorpsModel" "points" "I") ∈ lw_all := lw_g (lw_at lw_m2 217 rfl) rfl
theorem q500 : (Jvm.Cond.soleField "BaizeCorpsModel" "points") ∈ lw_all := lw_g (lw_at lw_m2 218 rfl) rfl
theorem q501 : (Jvm.Cond.lays "BaizeCorpsModel" "BaizeCorpsModel" "fouls" "I") ∈ lw_all := lw_g (lw_at lw_m2 219 rfl) rfl
theorem q502 : (Jvm.Cond.soleField "BaizeCorpsModel" "fouls") ∈ lw_all := lw_g (lw_at lw_m2 220 rfl) rfl
theorem q503 : (Jvm.Cond.lays "BaizeCorpsModel" "BaizeCorpsModel" "evening" "I") ∈ lw_all := lw_g (lw_at lw_m2 221 rfl) rfl
theorem q504 : (Jvm.Cond.soleField "BaizeCorpsModel" "evening") ∈ lw_all := lw_g (lw_at lw_m2 222 rfl) rfl
theorem q505 : (Jvm.Cond.laysFinal "BaizeCorpsModel" "BaizeCorpsModel" "sightStep" "[I") ∈ lw_all := lw_g (lw_at lw_m2 223 rfl) rfl
theorem q506 : (Jvm.Cond.soleField "BaizeCorpsModel" "sightStep") ∈ lw_all := lw_g (lw_at lw_m2 224 rfl) rfl
theorem q507 : (Jvm.Cond.laysFinal "BaizeCorpsModel" "BaizeCorpsModel" "sightCell" "[I") ∈ lw_all := lw_g (lw_at lw_m2 225 rfl) rfl
theorem q508 : (Jvm.Cond.soleField "BaizeCorpsModel" "sightCell") ∈ lw_all := lw_g (lw_at lw_m2 226 rfl) rfl
theorem q509 : (Jvm.Cond.lays "BaizeCorpsModel" "BaizeCorpsModel" "sights" "I") ∈ lw_all := lw_g (lw_at lw_m2 227 rfl) rfl
theorem q510 : (Jvm.Cond.soleField "BaizeCorpsModel" "sights") ∈ lw_all := lw_g (lw_at lw_m2 228 rfl) rfl
theorem q511 : (Jvm.Cond.laysFinal "BaizeCorpsModel" "BaizeCorpsModel" "pad" "[I") ∈ lw_all := lw_g (lw_at lw_m2 229 rfl) rfl
theorem q512 : (Jvm.Cond.soleField "BaizeCorpsModel" "pad") ∈ lw_all := lw_g (lw_at lw_m2 230 rfl) rfl
theorem q513 : (Jvm.Cond.lays "BaizeCorpsModel" "BaizeCorpsModel" "padMany" "I") ∈ lw_all := lw_g (lw_at lw_m2 231 rfl) rfl
theorem q514 : (Jvm.Cond.soleField "BaizeCorpsModel" "padMany") ∈ lw_all := lw_g (lw_at lw_m2 232 rfl) rfl
theorem q515 : (Jvm.Cond.laysFinal "BaizeCorpsModel" "BaizeCorpsModel" "act" "[I") ∈ lw_all := lw_g (lw_at lw_m2 233 rfl) rfl
theorem q516 : (Jvm.Cond.soleField "BaizeCorpsModel" "act") ∈ lw_all := lw_g (lw_at lw_m2 234 rfl) rfl
theorem q517 : (Jvm.Cond.laysFinal "BaizeCorpsModel" "BaizeCorpsModel" "which" "[I") ∈ lw_all := lw_g (lw_at lw_m2 235 rfl) rfl
theorem q518 : (Jvm.Cond.soleField "BaizeCorpsModel" "which") ∈ lw_all := lw_g (lw_at lw_m2 236 rfl) rfl
theorem q519 : (Jvm.Cond.laysFinal "BaizeCorpsModel" "BaizeCorpsModel" "whither" "[I") ∈ lw_all := lw_g (lw_at lw_m2 237 rfl) rfl
theorem q520 : (Jvm.Cond.soleField "BaizeCorpsModel" "whither") ∈ lw_all := lw_g (lw_at lw_m2 238 rfl) rfl
theorem q521 : (Jvm.Cond.laysFinal "BaizeCorpsModel" "BaizeCorpsModel" "hard" "[I") ∈ lw_all := lw_g (lw_at lw_m2 239 rfl) rfl
theorem q522 : (Jvm.Cond.soleField "BaizeCorpsModel" "hard") ∈ lw_all := lw_g (lw_at lw_m3 0 rfl) rfl
theorem q523 : (Jvm.Cond.lays "BaizeCorpsModel" "BaizeCorpsModel" "acts" "I") ∈ lw_all := lw_g (lw_at lw_m3 1 rfl) rfl
theorem q524 : (Jvm.Cond.soleField "BaizeCorpsModel" "acts") ∈ lw_all := lw_g (lw_at lw_m3 2 rfl) rfl
theorem q525 : (Jvm.Cond.lays "BaizeCorpsModel" "BaizeCorpsModel" "moving" "I") ∈ lw_all := lw_g (lw_at lw_m3 3 rfl) rfl
theorem q526 : (Jvm.Cond.soleField "BaizeCorpsModel" "moving") ∈ lw_all := lw_g (lw_at lw_m3 4 rfl) rfl
theorem q527 : (Jvm.Cond.lays "BaizeCorpsModel" "BaizeCorpsModel" "goes" "I") ∈ lw_all := lw_g (lw_at lw_m3 5 rfl) rfl
theorem q528 : (Jvm.Cond.soleField "BaizeCorpsModel" "goes") ∈ lw_all := lw_g (lw_at lw_m3 6 rfl) rfl
theorem q529 : (Jvm.Cond.lays "BaizeCorpsModel" "BaizeCorpsModel" "left" "I") ∈ lw_all := lw_g (lw_at lw_m3 7 rfl) rfl
theorem q530 : (Jvm.Cond.soleField "BaizeCorpsModel" "left") ∈ lw_all := lw_g (lw_at lw_m3 8 rfl) rfl
theorem q531 : (Jvm.Cond.lays "BaizeCorpsModel" "BaizeCorpsModel" "touches" "I") ∈ lw_all := lw_g (lw_at lw_m3 9 rfl) rfl
theorem q532 : (Jvm.Cond.soleField "BaizeCorpsModel" "touches") ∈ lw_all := lw_g (lw_at lw_m3 10 rfl) rfl
theorem q533 : (Jvm.Cond.lays "BaizeCorpsModel" "BaizeCorpsModel" "cushions" "I") ∈ lw_all := lw_g (lw_at lw_m3 11 rfl) rfl
theorem q534 : (Jvm.Cond.soleField "BaizeCorpsModel" "cushions") ∈ lw_all := lw_g (lw_at lw_m3 12 rfl) rfl
theorem q535 : (Jvm.Cond.lays "BaizeCorpsModel" "BaizeCorpsModel" "cushionsThen" "I") ∈ lw_all := lw_g (lw_at lw_m3 13 rfl) rfl
theorem q536 : (Jvm.Cond.soleField "BaizeCorpsModel" "cushionsThen") ∈ lw_all := lw_g (lw_at lw_m3 14 rfl) rfl
theorem q537 : (Jvm.Cond.lays "BaizeCorpsModel" "BaizeCorpsModel" "touchedFirst" "I") ∈ lw_all := lw_g (lw_at lw_m3 15 rfl) rfl
theorem q538 : (Jvm.Cond.soleField "BaizeCorpsModel" "touchedFirst") ∈ lw_all := lw_g (lw_at lw_m3 16 rfl) rfl
theorem q539 : (Jvm.Cond.lays "BaizeCorpsModel" "BaizeCorpsModel" "stepsThen" "I") ∈ lw_all := lw_g (lw_at lw_m3 17 rfl) rfl
theorem q540 : (Jvm.Cond.soleField "BaizeCorpsModel" "stepsThen") ∈ lw_all := lw_g (lw_at lw_m3 18 rfl) rfl
theorem q541 : (Jvm.Cond.lays "BaizeCorpsModel" "BaizeCorpsModel" "downNow" "I") ∈ lw_all := lw_g (lw_at lw_m3 19 rfl) rfl
theorem q542 : (Jvm.Cond.soleField "BaizeCorpsModel" "downNow") ∈ lw_all := lw_g (lw_at lw_m3 20 rfl) rfl
theorem q543 : (Jvm.Cond.lays "BaizeCorpsModel" "BaizeCorpsModel" "touchedMany" "I") ∈ lw_all := lw_g (lw_at lw_m3 21 rfl) rfl
theorem q544 : (Jvm.Cond.soleField "BaizeCorpsModel" "touchedMany") ∈ lw_all := lw_g (lw_at lw_m3 22 rfl) rfl
theorem q545 : (Jvm.Cond.lays "BaizeCorpsModel" "BaizeCorpsModel" "cushionMany" "I") ∈ lw_all := lw_g (lw_at lw_m3 23 rfl) rfl
theorem q546 : (Jvm.Cond.soleField "BaizeCorpsModel" "cushionMany") ∈ lw_all := lw_g (lw_at lw_m3 24 rfl) rfl
theorem q547 : (Jvm.Cond.laysFinal "BaizeCorpsModel" "BaizeCorpsModel" "were" "[I") ∈ lw_all := lw_g (lw_at lw_m3 25 rfl) rfl
theorem q548 : (Jvm.Cond.soleField "BaizeCorpsModel" "were") ∈ lw_all := lw_g (lw_at lw_m3 26 rfl) rfl
theorem q549 : (Jvm.Cond.laysFinal "BaizeCorpsModel" "BaizeCorpsModel" "had" "[I") ∈ lw_all := lw_g (lw_at lw_m3 27 rfl) rfl
theorem q550 : (Jvm.Cond.soleField "BaizeCorpsModel" "had") ∈ lw_all := lw_g (lw_at lw_m3 28 rfl) rfl
theorem q551 : (Jvm.Cond.lays "BaizeCorpsModel" "BaizeCorpsModel" "badAct" "I") ∈ lw_all := lw_g (lw_at lw_m3 29 rfl) rfl
theorem q552 : (Jvm.Cond.soleField "BaizeCorpsModel" "badAct") ∈ lw_all := lw_g (lw_at lw_m3 30 rfl) rfl
theorem q553 : (Jvm.Cond.lays "BaizeCorpsModel" "BaizeCorpsModel" "badWhy" "I") ∈ lw_all := lw_g (lw_at lw_m3 31 rfl) rfl
theorem q554 : (Jvm.Cond.soleField "BaizeCorpsModel" "badWhy") ∈ lw_all := lw_g (lw_at lw_m3 32 rfl) rfl
theorem q555 : (Jvm.Cond.lays "BaizeCorpsModel" "BaizeCorpsModel" "foulAct" "I") ∈ lw_all := lw_g (lw_at lw_m3 33 rfl) rfl
theorem q556 : (Jvm.Cond.soleField "BaizeCorpsModel" "foulAct") ∈ lw_all := lw_g (lw_at lw_m3 34 rfl) rfl
theorem q557 : (Jvm.Cond.laysFinal "BaizeCorpsModel" "BaizeCorpsModel" "met" "[Z") ∈ lw_all := lw_g (lw_at lw_m3 35 rfl) rfl
theorem q558 : (Jvm.Cond.soleField "BaizeCorpsModel" "met") ∈ lw_all := lw_g (lw_at lw_m3 36 rfl) rfl
theorem q559 : (Jvm.Cond.laysFinal "BaizeCorpsModel" "BaizeCorpsModel" "far" "[I") ∈ lw_all := lw_g (lw_at lw_m3 37 rfl) rfl
theorem q560 : (Jvm.Cond.soleField "BaizeCorpsModel" "far") ∈ lw_all := lw_g (lw_at lw_m3 38 rfl) rfl
theorem q561 : (Jvm.Cond.laysFinal "BaizeCorpsModel" "BaizeCorpsModel" "fit" "[I") ∈ lw_all := lw_g (lw_at lw_m3 39 rfl) rfl
theorem q562 : (Jvm.Cond.soleField "BaizeCorpsModel" "fit") ∈ lw_all := lw_g (lw_at lw_m3 40 rfl) rfl
theorem q563 : (Jvm.Cond.laysFinal "BaizeCorpsModel" "BaizeCorpsModel" "now" "[I") ∈ lw_all := lw_g (lw_at lw_m3 41 rfl) rfl
theorem q564 : (Jvm.Cond.soleField "BaizeCorpsModel" "now") ∈ lw_all := lw_g (lw_at lw_m3 42 rfl) rfl
theorem q565 : (Jvm.Cond.lays "BaizeCorpsModel" "BaizeCorpsModel" "fitMany" "I") ∈ lw_all := lw_g (lw_at lw_m3 43 rfl) rfl
theorem q566 : (Jvm.Cond.soleField "BaizeCorpsModel" "fitMany") ∈ lw_all := lw_g (lw_at lw_m3 44 rfl) rfl
theorem q567 : (Jvm.Cond.laysFinal "BaizeCorpsModel" "BaizeCorpsModel" "byCell" "[I") ∈ lw_all := lw_g (lw_at lw_m3 45 rfl) rfl
theorem q568 : (Jvm.Cond.soleField "BaizeCorpsModel" "byCell") ∈ lw_all := lw_g (lw_at lw_m3 46 rfl) rfl
theorem q569 : (Jvm.Cond.laysFinal "BaizeCorpsModel" "BaizeCorpsModel" "wins" "[Z") ∈ lw_all := lw_g (lw_at lw_m3 47 rfl) rfl
theorem q570 : (Jvm.Cond.soleField "BaizeCorpsModel" "wins") ∈ lw_all := lw_g (lw_at lw_m3 48 rfl) rfl
theorem q571 : (Jvm.Cond.laysFinal "BaizeCorpsModel" "BaizeCorpsModel" "chance" "[J") ∈ lw_all := lw_g (lw_at lw_m3 49 rfl) rfl
theorem q572 : (Jvm.Cond.soleField "BaizeCorpsModel" "chance") ∈ lw_all := lw_g (lw_at lw_m3 50 rfl) rfl
theorem q573 : (Jvm.Cond.laysFinal "BaizeCorpsModel" "BaizeCorpsModel" "kept" "[I") ∈ lw_all := lw_g (lw_at lw_m3 51 rfl) rfl
theorem q574 : (Jvm.Cond.soleField "BaizeCorpsModel" "kept") ∈ lw_all := lw_g (lw_at lw_m3 52 rfl) rfl
theorem q575 : (Jvm.Cond.laysFinal "BaizeCorpsModel" "BaizeCorpsModel" "isKept" "[Z") ∈ lw_all := lw_g (lw_at lw_m3 53 rfl) rfl
theorem q576 : (Jvm.Cond.soleField "BaizeCorpsModel" "isKept") ∈ lw_all := lw_g (lw_at lw_m3 54 rfl) rfl
theorem q577 : (Jvm.Cond.lays "BaizeCorpsModel" "BaizeCorpsModel" "keptAt" "I") ∈ lw_all := lw_g (lw_at lw_m3 55 rfl) rfl
theorem q578 : (Jvm.Cond.soleField "BaizeCorpsModel" "keptAt") ∈ lw_all := lw_g (lw_at lw_m3 56 rfl) rfl
theorem q579 : (Jvm.Cond.lays "BaizeCorpsModel" "BaizeCorpsModel" "isWriting" "Z") ∈ lw_all := lw_g (lw_at lw_m3 57 rfl) rfl
theorem q580 : (Jvm.Cond.soleField "BaizeCorpsModel" "isWriting") ∈ lw_all := lw_g (lw_at lw_m3 58 rfl) rfl
theorem q581 : (Jvm.Cond.superclass "BaizeCorpsModel" "java/lang/Object") ∈ lw_all := lw_g (lw_at lw_m3 59 rfl) rfl
theorem q583 : (Jvm.Cond.instanceMethod ({ cls := "BaizeCorpsModel", name := "ball", desc := "(II)I" } : Jvm.MethodName)) ∈ lw_all := lw_g (lw_at lw_m3 61 rfl) rfl
theorem q584 : (Jvm.Cond.selects "BaizeCorpsModel" ({ cls := "BaizeCorpsModel", name := "ball", desc := "(II)I" } : Jvm.MethodName) ({ cls := "BaizeCorpsModel", name := "ball", desc := "(II)I" } : Jvm.MethodName)) ∈ lw_all := lw_g (lw_at lw_m3 62 rfl) rfl
theorem q585 : (Jvm.Cond.code ({ cls := "BaizeCorpsModel", name := "ball", desc := "(II)I" } : Jvm.MethodName) prog_5_method_14_code (5 : Nat) (Option.some Jvm.ClassFile.FieldType.int)) ∈ lw_all := lw_g (lw_at lw_m3 63 rfl) rfl
theorem q586 : (Jvm.Cond.methodLink "BaizeCorpsModel" (98 : Nat) ({ cls := "BaizeCorpsModel", name := "isBall", desc := "(I)Z" } : Jvm.MethodName)) ∈ lw_all := lw_g (lw_at lw_m3 64 rfl) rfl
theorem q587 : (Jvm.Cond.static ({ cls := "BaizeCorpsModel", name := "isBall", desc := "(I)Z" } : Jvm.MethodName)) ∈ lw_all := lw_g (lw_at lw_m3 65 rfl) rfl
theorem q588 : (Jvm.Cond.code ({ cls := "BaizeCorpsModel", name := "isBall", desc := "(I)Z" } : Jvm.MethodName) prog_5_method_4_code (1 : Nat) (Option.some Jvm.ClassFile.FieldType.boolean)) ∈ lw_all := lw_g (lw_at lw_m3 66 rfl) rfl
theorem q589 : (Jvm.Cond.constantLong "BaizeCorpsModel" (73 : Nat) (2 : Int64)) ∈ lw_all := lw_g (lw_at lw_m3 67 rfl) rfl
theorem q590 : (Jvm.Cond.methodLink "BaizeCorpsModel" (75 : Nat) ({ cls := "BaizeCorpsModel", name := "in", desc := "(JJJ)Z" } : Jvm.MethodName)) ∈ lw_all := lw_g (lw_at lw_m3 68 rfl) rfl
theorem q591 : (Jvm.Cond.static ({ cls := "BaizeCorpsModel", name := "in", desc := "(JJJ)Z" } : Jvm.MethodName)) ∈ lw_all := lw_g (lw_at lw_m3 69 rfl) rfl
theorem q592 : (Jvm.Cond.code ({ cls := "BaizeCorpsModel", name := "in", desc := "(JJJ)Z" } : Jvm.MethodName) prog_5_method_3_code (6 : Nat) (Option.some Jvm.ClassFile.FieldType.boolean)) ∈ lw_all := lw_g (lw_at lw_m3 70 rfl) rfl
theorem q593 : (Jvm.Cond.methodLink "BaizeCorpsModel" (101 : Nat) ({ cls := "BaizeCorpsModel", name := "isPlace", desc := "(I)Z" } : Jvm.MethodName)) ∈ lw_all := lw_g (lw_at lw_m3 71 rfl) rfl
theorem q594 : (Jvm.Cond.static ({ cls := "BaizeCorpsModel", name := "isPlace", desc := "(I)Z" } : Jvm.MethodName)) ∈ lw_all := lw_g (lw_at lw_m3 72 rfl) rfl
theorem q595 : (Jvm.Cond.code ({ cls := "BaizeCorpsModel", name := "isPlace", desc := "(I)Z" } : Jvm.MethodName) prog_5_method_7_code (1 : Nat) (Option.some Jvm.ClassFile.FieldType.boolean)) ∈ lw_all := lw_g (lw_at lw_m3 73 rfl) rfl
theorem q596 : (Jvm.Cond.methodLink "BaizeCorpsModel" (81 : Nat) ({ cls := "BaizeCorpsModel", name := "isCell", desc := "(I)Z" } : Jvm.MethodName)) ∈ lw_all := lw_g (lw_at lw_m3 74 rfl) rfl
theorem q597 : (Jvm.Cond.static ({ cls := "BaizeCorpsModel", name := "isCell", desc := "(I)Z" } : Jvm.MethodName)) ∈ lw_all := lw_g (lw_at lw_m3 75 rfl) rfl
theorem q598 : (Jvm.Cond.code ({ cls := "BaizeCorpsModel", name := "isCell", desc := "(I)Z" } : Jvm.MethodName) prog_5_method_5_code (1 : Nat) (Option.some Jvm.ClassFile.FieldType.boolean)) ∈ lw_all := lw_g (lw_at lw_m3 76 rfl) rfl
theorem q599 : (Jvm.Cond.constantLong "BaizeCorpsModel" (79 : Nat) (44 : Int64)) ∈ lw_all := lw_g (lw_at lw_m3 77 rfl) rfl
theorem q600 : (Jvm.Cond.methodLink "BaizeCorpsModel" (85 : Nat) ({ cls := "BaizeCorpsModel", name := "isPocket", desc := "(I)Z" } : Jvm.MethodName)) ∈ lw_all := lw_g (lw_at lw_m3 78 rfl) rfl
theorem q601 : (Jvm.Cond.static ({ cls := "BaizeCorpsModel", name := "isPocket", desc := "(I)Z" } : Jvm.MethodName)) ∈ lw_all := lw_g (lw_at lw_m3 79 rfl) rfl
theorem q602 : (Jvm.Cond.code ({ cls := "BaizeCorpsModel", name := "isPocket", desc := "(I)Z" } : Jvm.MethodName) prog_5_method_6_code (1 : Nat) (Option.some Jvm.ClassFile.FieldType.boolean)) ∈ lw_all := lw_g (lw_at lw_m3 80 rfl) rfl
theorem q603 : (Jvm.Cond.methodLink "BaizeCorpsModel" (104 : Nat) ({ cls := "BaizeCorpsModel", name := "ballOn", desc := "(I)I" } : Jvm.MethodName)) ∈ lw_all := lw_g (lw_at lw_m3 81 rfl) rfl
theorem q604 : (Jvm.Cond.privateMethod ({ cls := "BaizeCorpsModel", name := "ballOn", desc := "(I)I" } : Jvm.MethodName)) ∈ lw_tbl := lw_at lw_m3 82 rfl
theorem q605 : (Jvm.Cond.instanceMethod ({ cls := "BaizeCorpsModel", name := "ballOn", desc := "(I)I" } : Jvm.MethodName)) ∈ lw_all := lw_g (lw_at lw_m3 83 rfl) rfl
theorem q606 : (Jvm.Cond.code ({ cls := "BaizeCorpsModel", name := "ballOn", desc := "(I)I" } : Jvm.MethodName) prog_5_method_13_code (4 : Nat) (Option.some Jvm.ClassFile.FieldType.int)) ∈ lw_all := lw_g (lw_at lw_m3 84 rfl) rfl
theorem q608 : (Jvm.Cond.instanceMethod ({ cls := "BaizeCorpsModel", name := "score", desc := "(II)I" } : Jvm.MethodName)) ∈ lw_all := lw_g (lw_at lw_m3 86 rfl) rfl
theorem q609 : (Jvm.Cond.selects "BaizeCorpsModel" ({ cls := "BaizeCorpsModel", name := "score", desc := "(II)I" } : Jvm.MethodName) ({ cls := "BaizeCorpsModel", name := "score", desc := "(II)I" } : Jvm.MethodName)) ∈ lw_all := lw_g (lw_at lw_m3 87 rfl) rfl
theorem q610 : (Jvm.Cond.code ({ cls := "BaizeCorpsModel", name := "score", desc := "(II)I" } : Jvm.MethodName) prog_5_method_15_code (4 : Nat) (Option.some Jvm.ClassFile.FieldType.int)) ∈ lw_all := lw_g (lw_at lw_m3 88 rfl) rfl
theorem q611 : (Jvm.Cond.constantLong "BaizeCorpsModel" (107 : Nat) (99 : Int64)) ∈ lw_all := lw_g (lw_at lw_m3 89 rfl) rfl
theorem q613 : (Jvm.Cond.instanceMethod ({ cls := "BaizeCorpsModel", name := "say", desc := "(I)I" } : Jvm.MethodName)) ∈ lw_all := lw_g (lw_at lw_m3 91 rfl) rfl
theorem q614 : (Jvm.Cond.selects "BaizeCorpsModel" ({ cls := "BaizeCorpsModel", name := "say", desc := "(I)I" } : Jvm.MethodName) ({ cls := "BaizeCorpsModel", name := "say", desc := "(I)I" } : Jvm.MethodName)) ∈ lw_all := lw_g (lw_at lw_m3 92 rfl) rfl
theorem q615 : (Jvm.Cond.code ({ cls := "BaizeCorpsModel", name := "say", desc := "(I)I" } : Jvm.MethodName) prog_5_method_16_code (2 : Nat) (Option.some Jvm.ClassFile.FieldType.int)) ∈ lw_all := lw_g (lw_at lw_m3 93 rfl) rfl
theorem q616 : (Jvm.Cond.constantLong "BaizeCorpsModel" (116 : Nat) (33 : Int64)) ∈ lw_all := lw_g (lw_at lw_m3 94 rfl) rfl
theorem q617 : (Jvm.Cond.constantLong "BaizeCorpsModel" (118 : Nat) (126 : Int64)) ∈ lw_all := lw_g (lw_at lw_m3 95 rfl) rfl
theorem q619 : (Jvm.Cond.instanceMethod ({ cls := "BaizeCorpsModel", name := "wipe", desc := "()I" } : Jvm.MethodName)) ∈ lw_all := lw_g (lw_at lw_m3 97 rfl) rfl
theorem q620 : (Jvm.Cond.selects "BaizeCorpsModel" ({ cls := "BaizeCorpsModel", name := "wipe", desc := "()I" } : Jvm.MethodName) ({ cls := "BaizeCorpsModel", name := "wipe", desc := "()I" } : Jvm.MethodName)) ∈ lw_all := lw_g (lw_at lw_m3 98 rfl) rfl
theorem q621 : (Jvm.Cond.code ({ cls := "BaizeCorpsModel", name := "wipe", desc := "()I" } : Jvm.MethodName) prog_5_method_17_code (2 : Nat) (Option.some Jvm.ClassFile.FieldType.int)) ∈ lw_all := lw_g (lw_at lw_m3 99 rfl) rfl
theorem q623 : (Jvm.Cond.instanceMethod ({ cls := "BaizeCorpsModel", name := "fault", desc := "()I" } : Jvm.MethodName)) ∈ lw_all := lw_g (lw_at lw_m3 101 rfl) rfl
theorem q624 : (Jvm.Cond.selects "BaizeCorpsModel" ({ cls := "BaizeCorpsModel", name := "fault", desc := "()I" } : Jvm.MethodName) ({ cls := "BaizeCorpsModel", name := "fault", desc := "()I" } : Jvm.MethodName)) ∈ lw_all := lw_g (lw_at lw_m3 102 rfl) rfl
theorem q625 : (Jvm.Cond.code ({ cls := "BaizeCorpsModel", name := "fault", desc := "()I" } : Jvm.MethodName) prog_5_method_23_code (3 : Nat) (Option.some Jvm.ClassFile.FieldType.int)) ∈ lw_all := lw_g (lw_at lw_m3 103 rfl) rfl
theorem q626 : (Jvm.Cond.methodLink "BaizeCorpsModel" (150 : Nat) ({ cls := "BaizeCorpsModel", name := "readOn", desc := "(II)I" } : Jvm.MethodName)) ∈ lw_all := lw_g (lw_at lw_m3 104 rfl) rfl
theorem q627 : (Jvm.Cond.privateMethod ({ cls := "BaizeCorpsModel", name := "readOn", desc := "(II)I" } : Jvm.MethodName)) ∈ lw_tbl := lw_at lw_m3 105 rfl
theorem q628 : (Jvm.Cond.instanceMethod ({ cls := "BaizeCorpsModel", name := "readOn", desc := "(II)I" } : Jvm.MethodName)) ∈ lw_all := lw_g (lw_at lw_m3 106 rfl) rfl
theorem q629 : (Jvm.Cond.code ({ cls := "BaizeCorpsModel", name := "readOn", desc := "(II)I" } : Jvm.MethodName) prog_5_method_22_code (3 : Nat) (Option.some Jvm.ClassFile.FieldType.int)) ∈ lw_all := lw_g (lw_at lw_m3 107 rfl) rfl
theorem q630 : (Jvm.Cond.methodLink "BaizeCorpsModel" (141 : Nat) ({ cls := "BaizeCorpsModel", name := "begin", desc := "(I)I" } : Jvm.MethodName)) ∈ lw_all := lw_g (lw_at lw_m3 108 rfl) rfl
theorem q631 : (Jvm.Cond.privateMethod ({ cls := "BaizeCorpsModel", name := "begin", desc := "(I)I" } : Jvm.MethodName)) ∈ lw_tbl := lw_at lw_m3 109 rfl
theorem q632 : (Jvm.Cond.instanceMethod ({ cls := "BaizeCorpsModel", name := "begin", desc := "(I)I" } : Jvm.MethodName)) ∈ lw_all := lw_g (lw_at lw_m3 110 rfl) rfl
theorem q633 : (Jvm.Cond.code ({ cls := "BaizeCorpsModel", name := "begin", desc := "(I)I" } : Jvm.MethodName) prog_5_method_19_code (3 : Nat) (Option.some Jvm.ClassFile.FieldType.int)) ∈ lw_all := lw_g (lw_at lw_m3 111 rfl) rfl
theorem q634 : (Jvm.Cond.constantLong "BaizeCorpsModel" (126 : Nat) (65 : Int64)) ∈ lw_all := lw_g (lw_at lw_m3 112 rfl) rfl
theorem q635 : (Jvm.Cond.constantLong "BaizeCorpsModel" (128 : Nat) (67 : Int64)) ∈ lw_all := lw_g (lw_at lw_m3 113 rfl) rfl
theorem q636 : (Jvm.Cond.methodLink "BaizeCorpsModel" (130 : Nat) ({ cls := "BaizeCorpsModel", name := "close", desc := "(I)I" } : Jvm.MethodName)) ∈ lw_all := lw_g (lw_at lw_m3 114 rfl) rfl
theorem q637 : (Jvm.Cond.privateMethod ({ cls := "BaizeCorpsModel", name := "close", desc := "(I)I" } : Jvm.MethodName)) ∈ lw_tbl := lw_at lw_m3 115 rfl
theorem q638 : (Jvm.Cond.instanceMethod ({ cls := "BaizeCorpsModel", name := "close", desc := "(I)I" } : Jvm.MethodName)) ∈ lw_all := lw_g (lw_at lw_m3 116 rfl) rfl
theorem q639 : (Jvm.Cond.code ({ cls := "BaizeCorpsModel", name := "close", desc := "(I)I" } : Jvm.MethodName) prog_5_method_18_code (2 : Nat) (Option.some Jvm.ClassFile.FieldType.int)) ∈ lw_all := lw_g (lw_at lw_m3 117 rfl) rfl
theorem q640 : (Jvm.Cond.methodLink "BaizeCorpsModel" (144 : Nat) ({ cls := "BaizeCorpsModel", name := "deed", desc := "(I)I" } : Jvm.MethodName)) ∈ lw_all := lw_g (lw_at lw_m3 118 rfl) rfl
theorem q641 : (Jvm.Cond.privateMethod ({ cls := "BaizeCorpsModel", name := "deed", desc := "(I)I" } : Jvm.MethodName)) ∈ lw_tbl := lw_at lw_m3 119 rfl
theorem q642 : (Jvm.Cond.instanceMethod ({ cls := "BaizeCorpsModel", name := "deed", desc := "(I)I" } : Jvm.MethodName)) ∈ lw_all := lw_g (lw_at lw_m3 120 rfl) rfl
theorem q643 : (Jvm.Cond.code ({ cls := "BaizeCorpsModel", name := "deed", desc := "(I)I" } : Jvm.MethodName) prog_5_method_20_code (2 : Nat) (Option.some Jvm.ClassFile.FieldType.int)) ∈ lw_all := lw_g (lw_at lw_m3 121 rfl) rfl
theorem q644 : (Jvm.Cond.constantLong "BaizeCorpsModel" (133 : Nat) (48 : Int64)) ∈ lw_all := lw_g (lw_at lw_m3 122 rfl) rfl
theorem q645 : (Jvm.Cond.constantLong "BaizeCorpsModel" (135 : Nat) (55 : Int64)) ∈ lw_all := lw_g (lw_at lw_m3 123 rfl) rfl
theorem q646 : (Jvm.Cond.methodLink "BaizeCorpsModel" (147 : Nat) ({ cls := "BaizeCorpsModel", name := "force", desc := "(I)I" } : Jvm.MethodName)) ∈ lw_all := lw_g (lw_at lw_m3 124 rfl) rfl
theorem q647 : (Jvm.Cond.privateMethod ({ cls := "BaizeCorpsModel", name := "force", desc := "(I)I" } : Jvm.MethodName)) ∈ lw_tbl := lw_at lw_m3 125 rfl
theorem q648 : (Jvm.Cond.instanceMethod ({ cls := "BaizeCorpsModel", name := "force", desc := "(I)I" } : Jvm.MethodName)) ∈ lw_all := lw_g (lw_at lw_m3 126 rfl) rfl
theorem q649 : (Jvm.Cond.code ({ cls := "BaizeCorpsModel", name := "force", desc := "(I)I" } : Jvm.MethodName) prog_5_method_21_code (2 : Nat) (Option.some Jvm.ClassFile.FieldType.int)) ∈ lw_all := lw_g (lw_at lw_m3 127 rfl) rfl
theorem q650 : (Jvm.Cond.constantLong "BaizeCorpsModel" (137 : Nat) (49 : Int64)) ∈ lw_all := lw_g (lw_at lw_m3 128 rfl) rfl
theorem q651 : (Jvm.Cond.constantLong "BaizeCorpsModel" (139 : Nat) (57 : Int64)) ∈ lw_all := lw_g (lw_at lw_m3 129 rfl) rfl
theorem q653 : (Jvm.Cond.instanceMethod ({ cls := "BaizeCorpsModel", name := "judge", desc := "(I)I" } : Jvm.MethodName)) ∈ lw_all := lw_g (lw_at lw_m3 131 rfl) rfl
theorem q654 : (Jvm.Cond.selects "BaizeCorpsModel" ({ cls := "BaizeCorpsModel", name := "judge", desc := "(I)I" } : Jvm.MethodName) ({ cls := "BaizeCorpsModel", name := "judge", desc := "(I)I" } : Jvm.MethodName)) ∈ lw_all := lw_g (lw_at lw_m3 132 rfl) rfl
theorem q655 : (Jvm.Cond.code ({ cls := "BaizeCorpsModel", name := "judge", desc := "(I)I" } : Jvm.MethodName) prog_5_method_37_code (3 : Nat) (Option.some Jvm.ClassFile.FieldType.int)) ∈ lw_all := lw_g (lw_at lw_m3 133 rfl) rfl
theorem q656 : (Jvm.Cond.methodLink "BaizeCorpsModel" (246 : Nat) ({ cls := "BaizeCorpsModel", name := "refusal", desc := "()I" } : Jvm.MethodName)) ∈ lw_all := lw_g (lw_at lw_m3 134 rfl) rfl
theorem q657 : (Jvm.Cond.privateMethod ({ cls := "BaizeCorpsModel", name := "refusal", desc := "()I" } : Jvm.MethodName)) ∈ lw_tbl := lw_at lw_m3 135 rfl
theorem q658 : (Jvm.Cond.instanceMethod ({ cls := "BaizeCorpsModel", name := "refusal", desc := "()I" } : Jvm.MethodName)) ∈ lw_all := lw_g (lw_at lw_m3 136 rfl) rfl
theorem q659 : (Jvm.Cond.code ({ cls := "BaizeCorpsModel", name := "refusal", desc := "()I" } : Jvm.MethodName) prog_5_method_36_code (1 : Nat) (Option.some Jvm.ClassFile.FieldType.int)) ∈ lw_all := lw_g (lw_at lw_m3 137 rfl) rfl
theorem q660 : (Jvm.Cond.methodLink "BaizeCorpsModel" (236 : Nat) ({ cls := "BaizeCorpsModel", name := "keepNow", desc := "()V" } : Jvm.MethodName)) ∈ lw_all := lw_g (lw_at lw_m3 138 rfl) rfl
theorem q661 : (Jvm.Cond.privateMethod ({ cls := "BaizeCorpsModel", name := "keepNow", desc := "()V" } : Jvm.MethodName)) ∈ lw_tbl := lw_at lw_m3 139 rfl
theorem q662 : (Jvm.Cond.instanceMethod ({ cls := "BaizeCorpsModel", name := "keepNow", desc := "()V" } : Jvm.MethodName)) ∈ lw_all := lw_g (lw_at lw_m3 140 rfl) rfl
theorem q663 : (Jvm.Cond.code ({ cls := "BaizeCorpsModel", name := "keepNow", desc := "()V" } : Jvm.MethodName) prog_5_method_33_code (2 : Nat) (Option.none : Option Jvm.ClassFile.FieldType)) ∈ lw_all := lw_g (lw_at lw_m3 141 rfl) rfl
theorem q664 : (Jvm.Cond.methodLink "BaizeCorpsModel" (239 : Nat) ({ cls := "BaizeCorpsModel", name := "fault", desc := "()I" } : Jvm.MethodName)) ∈ lw_all := lw_g (lw_at lw_m3 142 rfl) rfl
theorem q665 : (Jvm.Cond.methodLink "BaizeCorpsModel" (243 : Nat) ({ cls := "BaizeCorpsModel", name := "goCrises", desc := "()V" } : Jvm.MethodName)) ∈ lw_all := lw_g (lw_at lw_m3 143 rfl) rfl
theorem q666 : (Jvm.Cond.privateMethod ({ cls := "BaizeCorpsModel", name := "goCrises", desc := "()V" } : Jvm.MethodName)) ∈ lw_tbl := lw_at lw_m3 144 rfl
theorem q667 : (Jvm.Cond.instanceMethod ({ cls := "BaizeCorpsModel", name := "goCrises", desc := "()V" } : Jvm.MethodName)) ∈ lw_all := lw_g (lw_at lw_m3 145 rfl) rfl
theorem q668 : (Jvm.Cond.code ({ cls := "BaizeCorpsModel", name := "goCrises", desc := "()V" } : Jvm.MethodName) prog_5_method_35_code (4 : Nat) (Option.none : Option Jvm.ClassFile.FieldType)) ∈ lw_all := lw_g (lw_at lw_m3 146 rfl) rfl
theorem q669 : (Jvm.Cond.methodLink "BaizeCorpsModel" (229 : Nat) ({ cls := "BaizeCorpsModel", name := "whyNot", desc := "(II)I" } : Jvm.MethodName)) ∈ lw_all := lw_g (lw_at lw_m3 147 rfl) rfl
theorem q670 : (Jvm.Cond.privateMethod ({ cls := "BaizeCorpsModel", name := "whyNot", desc := "(II)I" } : Jvm.MethodName)) ∈ lw_tbl := lw_at lw_m3 148 rfl
theorem q671 : (Jvm.Cond.instanceMethod ({ cls := "BaizeCorpsModel", name := "whyNot", desc := "(II)I" } : Jvm.MethodName)) ∈ lw_all := lw_g (lw_at lw_m3 149 rfl) rfl
theorem q672 : (Jvm.Cond.code ({ cls := "BaizeCorpsModel", name := "whyNot", desc := "(II)I" } : Jvm.MethodName) prog_5_method_31_code (3 : Nat) (Option.some Jvm.ClassFile.FieldType.int)) ∈ lw_all := lw_g (lw_at lw_m3 150 rfl) rfl
theorem q673 : (Jvm.Cond.methodLink "BaizeCorpsModel" (232 : Nat) ({ cls := "BaizeCorpsModel", name := "happen", desc := "(IIII)V" } : Jvm.MethodName)) ∈ lw_all := lw_g (lw_at lw_m3 151 rfl) rfl
theorem q674 : (Jvm.Cond.privateMethod ({ cls := "BaizeCorpsModel", name := "happen", desc := "(IIII)V" } : Jvm.MethodName)) ∈ lw_tbl := lw_at lw_m3 152 rfl
theorem q675 : (Jvm.Cond.instanceMethod ({ cls := "BaizeCorpsModel", name := "happen", desc := "(IIII)V" } : Jvm.MethodName)) ∈ lw_all := lw_g (lw_at lw_m3 153 rfl) rfl
theorem q676 : (Jvm.Cond.code ({ cls := "BaizeCorpsModel", name := "happen", desc := "(IIII)V" } : Jvm.MethodName) prog_5_method_32_code (5 : Nat) (Option.none : Option Jvm.ClassFile.FieldType)) ∈ lw_all := lw_g (lw_at lw_m3 154 rfl) rfl
theorem q677 : (Jvm.Cond.methodLink "BaizeCorpsModel" (214 : Nat) ({ cls := "BaizeCorpsModel", name := "stroke", desc := "(III)V" } : Jvm.MethodName)) ∈ lw_all := lw_g (lw_at lw_m3 155 rfl) rfl
theorem q678 : (Jvm.Cond.privateMethod ({ cls := "BaizeCorpsModel", name := "stroke", desc := "(III)V" } : Jvm.MethodName)) ∈ lw_tbl := lw_at lw_m3 156 rfl
theorem q679 : (Jvm.Cond.instanceMethod ({ cls := "BaizeCorpsModel", name := "stroke", desc := "(III)V" } : Jvm.MethodName)) ∈ lw_all := lw_g (lw_at lw_m3 157 rfl) rfl
theorem q680 : (Jvm.Cond.code ({ cls := "BaizeCorpsModel", name := "stroke", desc := "(III)V" } : Jvm.MethodName) prog_5_method_27_code (4 : Nat) (Option.none : Option Jvm.ClassFile.FieldType)) ∈ lw_all := lw_g (lw_at lw_m3 158 rfl) rfl
theorem q681 : (Jvm.Cond.methodLink "BaizeCorpsModel" (195 : Nat) ({ cls := "BaizeCorpsModel", name := "send", desc := "(III)V" } : Jvm.MethodName)) ∈ lw_all := lw_g (lw_at lw_m3 159 rfl) rfl
theorem q682 : (Jvm.Cond.privateMethod ({ cls := "BaizeCorpsModel", name := "send", desc := "(III)V" } : Jvm.MethodName)) ∈ lw_tbl := lw_at lw_m3 160 rfl
theorem q683 : (Jvm.Cond.instanceMethod ({ cls := "BaizeCorpsModel", name := "send", desc := "(III)V" } : Jvm.MethodName)) ∈ lw_all := lw_g (lw_at lw_m3 161 rfl) rfl
theorem q684 : (Jvm.Cond.code ({ cls := "BaizeCorpsModel", name := "send", desc := "(III)V" } : Jvm.MethodName) prog_5_method_26_code (4 : Nat) (Option.none : Option Jvm.ClassFile.FieldType)) ∈ lw_all := lw_g (lw_at lw_m3 162 rfl) rfl
theorem q685 : (Jvm.Cond.methodLink "BaizeCorpsModel" (191 : Nat) ({ cls := "BaizeCorpsModel", name := "step", desc := "(I)V" } : Jvm.MethodName)) ∈ lw_all := lw_g (lw_at lw_m3 163 rfl) rfl
theorem q686 : (Jvm.Cond.privateMethod ({ cls := "BaizeCorpsModel", name := "step", desc := "(I)V" } : Jvm.MethodName)) ∈ lw_tbl := lw_at lw_m3 164 rfl
theorem q687 : (Jvm.Cond.instanceMethod ({ cls := "BaizeCorpsModel", name := "step", desc := "(I)V" } : Jvm.MethodName)) ∈ lw_all := lw_g (lw_at lw_m3 165 rfl) rfl
theorem q688 : (Jvm.Cond.code ({ cls := "BaizeCorpsModel", name := "step", desc := "(I)V" } : Jvm.MethodName) prog_5_method_25_code (5 : Nat) (Option.none : Option Jvm.ClassFile.FieldType)) ∈ lw_all := lw_g (lw_at lw_m3 166 rfl) rfl
theorem q689 : (Jvm.Cond.methodLink "BaizeCorpsModel" (178 : Nat) ({ cls := "BaizeCorpsModel", name := "turned", desc := "(II)I" } : Jvm.MethodName)) ∈ lw_all := lw_g (lw_at lw_m3 167 rfl) rfl
theorem q690 : (Jvm.Cond.static ({ cls := "BaizeCorpsModel", name := "turned", desc := "(II)I" } : Jvm.MethodName)) ∈ lw_all := lw_g (lw_at lw_m3 168 rfl) rfl
theorem q691 : (Jvm.Cond.code ({ cls := "BaizeCorpsModel", name := "turned", desc := "(II)I" } : Jvm.MethodName) prog_5_method_11_code (5 : Nat) (Option.some Jvm.ClassFile.FieldType.int)) ∈ lw_all := lw_g (lw_at lw_m3 169 rfl) rfl
theorem q692 : (Jvm.Cond.methodLink "BaizeCorpsModel" (88 : Nat) ({ cls := "BaizeCorpsModel", name := "downwards", desc := "(I)I" } : Jvm.MethodName)) ∈ lw_all := lw_g (lw_at lw_m3 170 rfl) rfl
theorem q693 : (Jvm.Cond.static ({ cls := "BaizeCorpsModel", name := "downwards", desc := "(I)I" } : Jvm.MethodName)) ∈ lw_all := lw_g (lw_at lw_m3 171 rfl) rfl
theorem q694 : (Jvm.Cond.code ({ cls := "BaizeCorpsModel", name := "downwards", desc := "(I)I" } : Jvm.MethodName) prog_5_method_9_code (1 : Nat) (Option.some Jvm.ClassFile.FieldType.int)) ∈ lw_all := lw_g (lw_at lw_m3 172 rfl) rfl
theorem q695 : (Jvm.Cond.constantLong "BaizeCorpsModel" (91 : Nat) (4 : Int64)) ∈ lw_all := lw_g (lw_at lw_m3 173 rfl) rfl
theorem q696 : (Jvm.Cond.methodLink "BaizeCorpsModel" (93 : Nat) ({ cls := "BaizeCorpsModel", name := "across", desc := "(I)I" } : Jvm.MethodName)) ∈ lw_all := lw_g (lw_at lw_m3 174 rfl) rfl
theorem q697 : (Jvm.Cond.static ({ cls := "BaizeCorpsModel", name := "across", desc := "(I)I" } : Jvm.MethodName)) ∈ lw_all := lw_g (lw_at lw_m3 175 rfl) rfl
theorem q698 : (Jvm.Cond.code ({ cls := "BaizeCorpsModel", name := "across", desc := "(I)I" } : Jvm.MethodName) prog_5_method_10_code (1 : Nat) (Option.some Jvm.ClassFile.FieldType.int)) ∈ lw_all := lw_g (lw_at lw_m3 176 rfl) rfl
theorem q699 : (Jvm.Cond.constantLong "BaizeCorpsModel" (96 : Nat) (8 : Int64)) ∈ lw_all := lw_g (lw_at lw_m3 177 rfl) rfl
theorem q700 : (Jvm.Cond.methodLink "BaizeCorpsModel" (181 : Nat) ({ cls := "BaizeCorpsModel", name := "ahead", desc := "(II)I" } : Jvm.MethodName)) ∈ lw_all := lw_g (lw_at lw_m3 178 rfl) rfl
theorem q701 : (Jvm.Cond.static ({ cls := "BaizeCorpsModel", name := "ahead", desc := "(II)I" } : Jvm.MethodName)) ∈ lw_all := lw_g (lw_at lw_m3 179 rfl) rfl
theorem q702 : (Jvm.Cond.code ({ cls := "BaizeCorpsModel", name := "ahead", desc := "(II)I" } : Jvm.MethodName) prog_5_method_12_code (2 : Nat) (Option.some Jvm.ClassFile.FieldType.int)) ∈ lw_all := lw_g (lw_at lw_m3 180 rfl) rfl
theorem q703 : (Jvm.Cond.methodLink "BaizeCorpsModel" (184 : Nat) ({ cls := "BaizeCorpsModel", name := "touch", desc := "(II)V" } : Jvm.MethodName)) ∈ lw_all := lw_g (lw_at lw_m3 181 rfl) rfl
theorem q704 : (Jvm.Cond.privateMethod ({ cls := "BaizeCorpsModel", name := "touch", desc := "(II)V" } : Jvm.MethodName)) ∈ lw_tbl := lw_at lw_m3 182 rfl
theorem q705 : (Jvm.Cond.instanceMethod ({ cls := "BaizeCorpsModel", name := "touch", desc := "(II)V" } : Jvm.MethodName)) ∈ lw_all := lw_g (lw_at lw_m3 183 rfl) rfl
theorem q706 : (Jvm.Cond.code ({ cls := "BaizeCorpsModel", name := "touch", desc := "(II)V" } : Jvm.MethodName) prog_5_method_24_code (3 : Nat) (Option.none : Option Jvm.ClassFile.FieldType)) ∈ lw_all := lw_g (lw_at lw_m3 184 rfl) rfl
theorem q707 : (Jvm.Cond.methodLink "BaizeCorpsModel" (217 : Nat) ({ cls := "BaizeCorpsModel", name := "nap", desc := "()V" } : Jvm.MethodName)) ∈ lw_all := lw_g (lw_at lw_m3 185 rfl) rfl
theorem q708 : (Jvm.Cond.privateMethod ({ cls := "BaizeCorpsModel", name := "nap", desc := "()V" } : Jvm.MethodName)) ∈ lw_tbl := lw_at lw_m3 186 rfl
theorem q709 : (Jvm.Cond.instanceMethod ({ cls := "BaizeCorpsModel", name := "nap", desc := "()V" } : Jvm.MethodName)) ∈ lw_all := lw_g (lw_at lw_m3 187 rfl) rfl
theorem q710 : (Jvm.Cond.code ({ cls := "BaizeCorpsModel", name := "nap", desc := "()V" } : Jvm.MethodName) prog_5_method_30_code (3 : Nat) (Option.none : Option Jvm.ClassFile.FieldType)) ∈ lw_all := lw_g (lw_at lw_m3 188 rfl) rfl
theorem q711 : (Jvm.Cond.methodLink "BaizeCorpsModel" (205 : Nat) ({ cls := "BaizeCorpsModel", name := "columnOf", desc := "(I)I" } : Jvm.MethodName)) ∈ lw_all := lw_g (lw_at lw_m3 189 rfl) rfl
theorem q712 : (Jvm.Cond.static ({ cls := "BaizeCorpsModel", name := "columnOf", desc := "(I)I" } : Jvm.MethodName)) ∈ lw_all := lw_g (lw_at lw_m3 190 rfl) rfl
theorem q713 : (Jvm.Cond.code ({ cls := "BaizeCorpsModel", name := "columnOf", desc := "(I)I" } : Jvm.MethodName) prog_5_method_28_code (1 : Nat) (Option.some Jvm.ClassFile.FieldType.int)) ∈ lw_all := lw_g (lw_at lw_m3 191 rfl) rfl
theorem q714 : (Jvm.Cond.methodLink "BaizeCorpsModel" (208 : Nat) ({ cls := "BaizeCorpsModel", name := "drift", desc := "(I)V" } : Jvm.MethodName)) ∈ lw_all := lw_g (lw_at lw_m3 192 rfl) rfl
theorem q715 : (Jvm.Cond.privateMethod ({ cls := "BaizeCorpsModel", name := "drift", desc := "(I)V" } : Jvm.MethodName)) ∈ lw_tbl := lw_at lw_m3 193 rfl
theorem q716 : (Jvm.Cond.instanceMethod ({ cls := "BaizeCorpsModel", name := "drift", desc := "(I)V" } : Jvm.MethodName)) ∈ lw_all := lw_g (lw_at lw_m3 194 rfl) rfl
theorem q717 : (Jvm.Cond.code ({ cls := "BaizeCorpsModel", name := "drift", desc := "(I)V" } : Jvm.MethodName) prog_5_method_29_code (3 : Nat) (Option.none : Option Jvm.ClassFile.FieldType)) ∈ lw_all := lw_g (lw_at lw_m3 195 rfl) rfl
theorem q718 : (Jvm.Cond.methodLink "BaizeCorpsModel" (249 : Nat) ({ cls := "BaizeCorpsModel", name := "back", desc := "(I)I" } : Jvm.MethodName)) ∈ lw_all := lw_g (lw_at lw_m3 196 rfl) rfl
theorem q719 : (Jvm.Cond.privateMethod ({ cls := "BaizeCorpsModel", name := "back", desc := "(I)I" } : Jvm.MethodName)) ∈ lw_tbl := lw_at lw_m3 197 rfl
theorem q720 : (Jvm.Cond.instanceMethod ({ cls := "BaizeCorpsModel", name := "back", desc := "(I)I" } : Jvm.MethodName)) ∈ lw_all := lw_g (lw_at lw_m3 198 rfl) rfl
theorem q721 : (Jvm.Cond.code ({ cls := "BaizeCorpsModel", name := "back", desc := "(I)I" } : Jvm.MethodName) prog_5_method_34_code (3 : Nat) (Option.some Jvm.ClassFile.FieldType.int)) ∈ lw_all := lw_g (lw_at lw_m3 199 rfl) rfl
theorem q723 : (Jvm.Cond.instanceMethod ({ cls := "BaizeCorpsModel", name := "behind", desc := "(I)I" } : Jvm.MethodName)) ∈ lw_all := lw_g (lw_at lw_m3 201 rfl) rfl
theorem q724 : (Jvm.Cond.selects "BaizeCorpsModel" ({ cls := "BaizeCorpsModel", name := "behind", desc := "(I)I" } : Jvm.MethodName) ({ cls := "BaizeCorpsModel", name := "behind", desc := "(I)I" } : Jvm.MethodName)) ∈ lw_all := lw_g (lw_at lw_m3 202 rfl) rfl
theorem q725 : (Jvm.Cond.code ({ cls := "BaizeCorpsModel", name := "behind", desc := "(I)I" } : Jvm.MethodName) prog_5_method_38_code (3 : Nat) (Option.some Jvm.ClassFile.FieldType.int)) ∈ lw_all := lw_g (lw_at lw_m3 203 rfl) rfl
theorem q727 : (Jvm.Cond.instanceMethod ({ cls := "BaizeCorpsModel", name := "table", desc := "(I)I" } : Jvm.MethodName)) ∈ lw_all := lw_g (lw_at lw_m3 205 rfl) rfl
theorem q728 : (Jvm.Cond.selects "BaizeCorpsModel" ({ cls := "BaizeCorpsModel", name := "table", desc := "(I)I" } : Jvm.MethodName) ({ cls := "BaizeCorpsModel", name := "table", desc := "(I)I" } : Jvm.MethodName)) ∈ lw_all := lw_g (lw_at lw_m3 206 rfl) rfl
theorem q729 : (Jvm.Cond.code ({ cls := "BaizeCorpsModel", name := "table", desc := "(I)I" } : Jvm.MethodName) prog_5_method_40_code (3 : Nat) (Option.some Jvm.ClassFile.FieldType.int)) ∈ lw_all := lw_g (lw_at lw_m3 207 rfl) rfl
theorem q730 : (Jvm.Cond.constantLong "BaizeCorpsModel" (252 : Nat) (3 : Int64)) ∈ lw_all := lw_g (lw_at lw_m3 208 rfl) rfl
theorem q731 : (Jvm.Cond.methodLink "BaizeCorpsModel" (254 : Nat) ({ cls := "BaizeCorpsModel", name := "downMany", desc := "()I" } : Jvm.MethodName)) ∈ lw_all := lw_g (lw_at lw_m3 209 rfl) rfl
theorem q732 : (Jvm.Cond.privateMethod ({ cls := "BaizeCorpsModel", name := "downMany", desc := "()I" } : Jvm.MethodName)) ∈ lw_tbl := lw_at lw_m3 210 rfl
theorem q733 : (Jvm.Cond.instanceMethod ({ cls := "BaizeCorpsModel", name := "downMany", desc := "()I" } : Jvm.MethodName)) ∈ lw_all := lw_g (lw_at lw_m3 211 rfl) rfl
theorem q734 : (Jvm.Cond.code ({ cls := "BaizeCorpsModel", name := "downMany", desc := "()I" } : Jvm.MethodName) prog_5_method_39_code (3 : Nat) (Option.some Jvm.ClassFile.FieldType.int)) ∈ lw_all := lw_g (lw_at lw_m3 212 rfl) rfl
theorem q736 : (Jvm.Cond.instanceMethod ({ cls := "BaizeCorpsModel", name := "candour", desc := "(I)I" } : Jvm.MethodName)) ∈ lw_all := lw_g (lw_at lw_m3 214 rfl) rfl
theorem q737 : (Jvm.Cond.selects "BaizeCorpsModel" ({ cls := "BaizeCorpsModel", name := "candour", desc := "(I)I" } : Jvm.MethodName) ({ cls := "BaizeCorpsModel", name := "candour", desc := "(I)I" } : Jvm.MethodName)) ∈ lw_all := lw_g (lw_at lw_m3 215 rfl) rfl
theorem q738 : (Jvm.Cond.code ({ cls := "BaizeCorpsModel", name := "candour", desc := "(I)I" } : Jvm.MethodName) prog_5_method_41_code (3 : Nat) (Option.some Jvm.ClassFile.FieldType.int)) ∈ lw_all := lw_g (lw_at lw_m3 216 rfl) rfl
theorem q740 : (Jvm.Cond.instanceMethod ({ cls := "BaizeCorpsModel", name := "done", desc := "()I" } : Jvm.MethodName)) ∈ lw_all := lw_g (lw_at lw_m3 218 rfl) rfl
theorem q741 : (Jvm.Cond.selects "BaizeCorpsModel" ({ cls := "BaizeCorpsModel", name := "done", desc := "()I" } : Jvm.MethodName) ({ cls := "BaizeCorpsModel", name := "done", desc := "()I" } : Jvm.MethodName)) ∈ lw_all := lw_g (lw_at lw_m3 219 rfl) rfl
theorem q742 : (Jvm.Cond.code ({ cls := "BaizeCorpsModel", name := "done", desc := "()I" } : Jvm.MethodName) prog_5_method_42_code (2 : Nat) (Option.some Jvm.ClassFile.FieldType.int)) ∈ lw_all := lw_g (lw_at lw_m3 220 rfl) rfl
theorem q744 : (Jvm.Cond.instanceMethod ({ cls := "BaizeCorpsModel", name := "hint", desc := "(IIII)I" } : Jvm.MethodName)) ∈ lw_all := lw_g (lw_at lw_m3 222 rfl) rfl
theorem q745 : (Jvm.Cond.selects "BaizeCorpsModel" ({ cls := "BaizeCorpsModel", name := "hint", desc := "(IIII)I" } : Jvm.MethodName) ({ cls := "BaizeCorpsModel", name := "hint", desc := "(IIII)I" } : Jvm.MethodName)) ∈ lw_all := lw_g (lw_at lw_m3 223 rfl) rfl
theorem q746 : (Jvm.Cond.code ({ cls := "BaizeCorpsModel", name := "hint", desc := "(IIII)I" } : Jvm.MethodName) prog_5_method_44_code (10 : Nat) (Option.some Jvm.ClassFile.FieldType.int)) ∈ lw_all := lw_g (lw_at lw_m3 224 rfl) rfl
theorem q747 : (Jvm.Cond.methodLink "BaizeCorpsModel" (257 : Nat) ({ cls := "BaizeCorpsModel", name := "stepsBy", desc := "(IIII)I" } : Jvm.MethodName)) ∈ lw_all := lw_g (lw_at lw_m3 225 rfl) rfl
theorem q748 : (Jvm.Cond.privateMethod ({ cls := "BaizeCorpsModel", name := "stepsBy", desc := "(IIII)I" } : Jvm.MethodName)) ∈ lw_tbl := lw_at lw_m3 226 rfl
theorem q749 : (Jvm.Cond.instanceMethod ({ cls := "BaizeCorpsModel", name := "stepsBy", desc := "(IIII)I" } : Jvm.MethodName)) ∈ lw_all := lw_g (lw_at lw_m3 227 rfl) rfl
theorem q750 : (Jvm.Cond.code ({ cls := "BaizeCorpsModel", name := "stepsBy", desc := "(IIII)I" } : Jvm.MethodName) prog_5_method_43_code (6 : Nat) (Option.some Jvm.ClassFile.FieldType.int)) ∈ lw_all := lw_g (lw_at lw_m3 228 rfl) rfl
theorem q752 : (Jvm.Cond.instanceMethod ({ cls := "BaizeCorpsModel", name := "alone", desc := "(IIII)I" } : Jvm.MethodName)) ∈ lw_all := lw_g (lw_at lw_m3 230 rfl) rfl
theorem q753 : (Jvm.Cond.selects "BaizeCorpsModel" ({ cls := "BaizeCorpsModel", name := "alone", desc := "(IIII)I" } : Jvm.MethodName) ({ cls := "BaizeCorpsModel", name := "alone", desc := "(IIII)I" } : Jvm.MethodName)) ∈ lw_all := lw_g (lw_at lw_m3 231 rfl) rfl
theorem q754 : (Jvm.Cond.code ({ cls := "BaizeCorpsModel", name := "alone", desc := "(IIII)I" } : Jvm.MethodName) prog_5_method_49_code (6 : Nat) (Option.some Jvm.ClassFile.FieldType.int)) ∈ lw_all := lw_g (lw_at lw_m3 232 rfl) rfl
theorem q755 : (Jvm.Cond.constantLong "BaizeCorpsModel" (264 : Nat) (7 : Int64)) ∈ lw_all := lw_g (lw_at lw_m3 233 rfl) rfl
theorem q756 : (Jvm.Cond.constantLong "BaizeCorpsModel" (266 : Nat) (99999 : Int64)) ∈ lw_all := lw_g (lw_at lw_m3 234 rfl) rfl
theorem q757 : (Jvm.Cond.methodLink "BaizeCorpsModel" (268 : Nat) ({ cls := "BaizeCorpsModel", name := "behindSteps", desc := "(II)I" } : Jvm.MethodName)) ∈ lw_all := lw_g (lw_at lw_m3 235 rfl) rfl
theorem q758 : (Jvm.Cond.static ({ cls := "BaizeCorpsModel", name := "behindSteps", desc := "(II)I" } : Jvm.MethodName)) ∈ lw_all := lw_g (lw_at lw_m3 236 rfl) rfl
theorem q759 : (Jvm.Cond.code ({ cls := "BaizeCorpsModel", name := "behindSteps", desc := "(II)I" } : Jvm.MethodName) prog_5_method_46_code (4 : Nat) (Option.some Jvm.ClassFile.FieldType.int)) ∈ lw_all := lw_g (lw_at lw_m3 237 rfl) rfl
theorem q760 : (Jvm.Cond.methodLink "BaizeCorpsModel" (261 : Nat) ({ cls := "BaizeCorpsModel", name := "next", desc := "(I)I" } : Jvm.MethodName)) ∈ lw_all := lw_g (lw_at lw_m3 238 rfl) rfl
theorem q761 : (Jvm.Cond.static ({ cls := "BaizeCorpsModel", name := "next", desc := "(I)I" } : Jvm.MethodName)) ∈ lw_all := lw_g (lw_at lw_m3 239 rfl) rfl
theorem q762 : (Jvm.Cond.code ({ cls := "BaizeCorpsModel", name := "next", desc := "(I)I" } : Jvm.MethodName) prog_5_method_45_code (2 : Nat) (Option.some Jvm.ClassFile.FieldType.int)) ∈ lw_all := lw_g (lw_at lw_m4 0 rfl) rfl
theorem q763 : (Jvm.Cond.methodLink "BaizeCorpsModel" (271 : Nat) ({ cls := "BaizeCorpsModel", name := "stepsBack", desc := "(I)I" } : Jvm.MethodName)) ∈ lw_all := lw_g (lw_at lw_m4 1 rfl) rfl
theorem q764 : (Jvm.Cond.static ({ cls := "BaizeCorpsModel", name := "stepsBack", desc := "(I)I" } : Jvm.MethodName)) ∈ lw_all := lw_g (lw_at lw_m4 2 rfl) rfl
theorem q765 : (Jvm.Cond.code ({ cls := "BaizeCorpsModel", name := "stepsBack", desc := "(I)I" } : Jvm.MethodName) prog_5_method_48_code (3 : Nat) (Option.some Jvm.ClassFile.FieldType.int)) ∈ lw_all := lw_g (lw_at lw_m4 3 rfl) rfl
theorem q766 : (Jvm.Cond.methodLink "BaizeCorpsModel" (274 : Nat) ({ cls := "BaizeCorpsModel", name := "metMany", desc := "(I)I" } : Jvm.MethodName)) ∈ lw_all := lw_g (lw_at lw_m4 4 rfl) rfl
theorem q767 : (Jvm.Cond.privateMethod ({ cls := "BaizeCorpsModel", name := "metMany", desc := "(I)I" } : Jvm.MethodName)) ∈ lw_tbl := lw_at lw_m4 5 rfl
theorem q768 : (Jvm.Cond.instanceMethod ({ cls := "BaizeCorpsModel", name := "metMany", desc := "(I)I" } : Jvm.MethodName)) ∈ lw_all := lw_g (lw_at lw_m4 6 rfl) rfl
theorem q769 : (Jvm.Cond.code ({ cls := "BaizeCorpsModel", name := "metMany", desc := "(I)I" } : Jvm.MethodName) prog_5_method_47_code (5 : Nat) (Option.some Jvm.ClassFile.FieldType.int)) ∈ lw_all := lw_g (lw_at lw_m4 7 rfl) rfl
theorem q771 : (Jvm.Cond.instanceMethod ({ cls := "BaizeCorpsModel", name := "strokes", desc := "(III)I" } : Jvm.MethodName)) ∈ lw_all := lw_g (lw_at lw_m4 9 rfl) rfl
theorem q772 : (Jvm.Cond.selects "BaizeCorpsModel" ({ cls := "BaizeCorpsModel", name := "strokes", desc := "(III)I" } : Jvm.MethodName) ({ cls := "BaizeCorpsModel", name := "strokes", desc := "(III)I" } : Jvm.MethodName)) ∈ lw_all := lw_g (lw_at lw_m4 10 rfl) rfl
theorem q773 : (Jvm.Cond.code ({ cls := "BaizeCorpsModel", name := "strokes", desc := "(III)I" } : Jvm.MethodName) prog_5_method_53_code (6 : Nat) (Option.some Jvm.ClassFile.FieldType.int)) ∈ lw_all := lw_g (lw_at lw_m4 11 rfl) rfl
theorem q774 : (Jvm.Cond.methodLink "BaizeCorpsModel" (284 : Nat) ({ cls := "BaizeCorpsModel", name := "findFar", desc := "(I)Z" } : Jvm.MethodName)) ∈ lw_all := lw_g (lw_at lw_m4 12 rfl) rfl
theorem q775 : (Jvm.Cond.privateMethod ({ cls := "BaizeCorpsModel", name := "findFar", desc := "(I)Z" } : Jvm.MethodName)) ∈ lw_tbl := lw_at lw_m4 13 rfl
theorem q776 : (Jvm.Cond.instanceMethod ({ cls := "BaizeCorpsModel", name := "findFar", desc := "(I)Z" } : Jvm.MethodName)) ∈ lw_all := lw_g (lw_at lw_m4 14 rfl) rfl
theorem q777 : (Jvm.Cond.code ({ cls := "BaizeCorpsModel", name := "findFar", desc := "(I)Z" } : Jvm.MethodName) prog_5_method_52_code (5 : Nat) (Option.some Jvm.ClassFile.FieldType.boolean)) ∈ lw_all := lw_g (lw_at lw_m4 15 rfl) rfl
theorem q778 : (Jvm.Cond.methodLink "BaizeCorpsModel" (281 : Nat) ({ cls := "BaizeCorpsModel", name := "wayTo", desc := "(II)I" } : Jvm.MethodName)) ∈ lw_all := lw_g (lw_at lw_m4 16 rfl) rfl
theorem q779 : (Jvm.Cond.privateMethod ({ cls := "BaizeCorpsModel", name := "wayTo", desc := "(II)I" } : Jvm.MethodName)) ∈ lw_tbl := lw_at lw_m4 17 rfl
theorem q780 : (Jvm.Cond.instanceMethod ({ cls := "BaizeCorpsModel", name := "wayTo", desc := "(II)I" } : Jvm.MethodName)) ∈ lw_all := lw_g (lw_at lw_m4 18 rfl) rfl
theorem q781 : (Jvm.Cond.code ({ cls := "BaizeCorpsModel", name := "wayTo", desc := "(II)I" } : Jvm.MethodName) prog_5_method_51_code (5 : Nat) (Option.some Jvm.ClassFile.FieldType.int)) ∈ lw_all := lw_g (lw_at lw_m4 19 rfl) rfl
theorem q782 : (Jvm.Cond.methodLink "BaizeCorpsModel" (277 : Nat) ({ cls := "BaizeCorpsModel", name := "leadsTo", desc := "(III)Z" } : Jvm.MethodName)) ∈ lw_all := lw_g (lw_at lw_m4 20 rfl) rfl
theorem q783 : (Jvm.Cond.privateMethod ({ cls := "BaizeCorpsModel", name := "leadsTo", desc := "(III)Z" } : Jvm.MethodName)) ∈ lw_tbl := lw_at lw_m4 21 rfl
theorem q784 : (Jvm.Cond.instanceMethod ({ cls := "BaizeCorpsModel", name := "leadsTo", desc := "(III)Z" } : Jvm.MethodName)) ∈ lw_all := lw_g (lw_at lw_m4 22 rfl) rfl
theorem q785 : (Jvm.Cond.code ({ cls := "BaizeCorpsModel", name := "leadsTo", desc := "(III)Z" } : Jvm.MethodName) prog_5_method_50_code (8 : Nat) (Option.some Jvm.ClassFile.FieldType.boolean)) ∈ lw_all := lw_g (lw_at lw_m4 23 rfl) rfl
theorem q787 : (Jvm.Cond.instanceMethod ({ cls := "BaizeCorpsModel", name := "seen", desc := "(II)I" } : Jvm.MethodName)) ∈ lw_all := lw_g (lw_at lw_m4 25 rfl) rfl
theorem q788 : (Jvm.Cond.selects "BaizeCorpsModel" ({ cls := "BaizeCorpsModel", name := "seen", desc := "(II)I" } : Jvm.MethodName) ({ cls := "BaizeCorpsModel", name := "seen", desc := "(II)I" } : Jvm.MethodName)) ∈ lw_all := lw_g (lw_at lw_m4 26 rfl) rfl
theorem q789 : (Jvm.Cond.code ({ cls := "BaizeCorpsModel", name := "seen", desc := "(II)I" } : Jvm.MethodName) prog_5_method_54_code (3 : Nat) (Option.some Jvm.ClassFile.FieldType.int)) ∈ lw_all := lw_g (lw_at lw_m4 27 rfl) rfl
theorem q790 : (Jvm.Cond.constantLong "BaizeCorpsModel" (287 : Nat) (60 : Int64)) ∈ lw_all := lw_g (lw_at lw_m4 28 rfl) rfl
theorem q792 : (Jvm.Cond.instanceMethod ({ cls := "BaizeCorpsModel", name := "forget", desc := "()I" } : Jvm.MethodName)) ∈ lw_all := lw_g (lw_at lw_m4 30 rfl) rfl
theorem q793 : (Jvm.Cond.selects "BaizeCorpsModel" ({ cls := "BaizeCorpsModel", name := "forget", desc := "()I" } : Jvm.MethodName) ({ cls := "BaizeCorpsModel", name := "forget", desc := "()I" } : Jvm.MethodName)) ∈ lw_all := lw_g (lw_at lw_m4 31 rfl) rfl
theorem q794 : (Jvm.Cond.code ({ cls := "BaizeCorpsModel", name := "forget", desc := "()I" } : Jvm.MethodName) prog_5_method_55_code (2 : Nat) (Option.some Jvm.ClassFile.FieldType.int)) ∈ lw_all := lw_g (lw_at lw_m4 32 rfl) rfl
theorem q796 : (Jvm.Cond.instanceMethod ({ cls := "BaizeCorpsModel", name := "sent", desc := "(I)I" } : Jvm.MethodName)) ∈ lw_all := lw_g (lw_at lw_m4 34 rfl) rfl
theorem q797 : (Jvm.Cond.selects "BaizeCorpsModel" ({ cls := "BaizeCorpsModel", name := "sent", desc := "(I)I" } : Jvm.MethodName) ({ cls := "BaizeCorpsModel", name := "sent", desc := "(I)I" } : Jvm.MethodName)) ∈ lw_all := lw_g (lw_at lw_m4 35 rfl) rfl
theorem q798 : (Jvm.Cond.code ({ cls := "BaizeCorpsModel", name := "sent", desc := "(I)I" } : Jvm.MethodName) prog_5_method_58_code (2 : Nat) (Option.some Jvm.ClassFile.FieldType.int)) ∈ lw_all := lw_g (lw_at lw_m4 36 rfl) rfl
theorem q799 : (Jvm.Cond.methodLink "BaizeCorpsModel" (298 : Nat) ({ cls := "BaizeCorpsModel", name := "findFits", desc := "()V" } : Jvm.MethodName)) ∈ lw_all := lw_g (lw_at lw_m4 37 rfl) rfl
theorem q800 : (Jvm.Cond.privateMethod ({ cls := "BaizeCorpsModel", name := "findFits", desc := "()V" } : Jvm.MethodName)) ∈ lw_tbl := lw_at lw_m4 38 rfl
theorem q801 : (Jvm.Cond.instanceMethod ({ cls := "BaizeCorpsModel", name := "findFits", desc := "()V" } : Jvm.MethodName)) ∈ lw_all := lw_g (lw_at lw_m4 39 rfl) rfl
theorem q802 : (Jvm.Cond.code ({ cls := "BaizeCorpsModel", name := "findFits", desc := "()V" } : Jvm.MethodName) prog_5_method_57_code (2 : Nat) (Option.none : Option Jvm.ClassFile.FieldType)) ∈ lw_all := lw_g (lw_at lw_m4 40 rfl) rfl
theorem q803 : (Jvm.Cond.methodLink "BaizeCorpsModel" (295 : Nat) ({ cls := "BaizeCorpsModel", name := "isFit", desc := "(I)Z" } : Jvm.MethodName)) ∈ lw_all := lw_g (lw_at lw_m4 41 rfl) rfl
theorem q804 : (Jvm.Cond.privateMethod ({ cls := "BaizeCorpsModel", name := "isFit", desc := "(I)Z" } : Jvm.MethodName)) ∈ lw_tbl := lw_at lw_m4 42 rfl
theorem q805 : (Jvm.Cond.instanceMethod ({ cls := "BaizeCorpsModel", name := "isFit", desc := "(I)Z" } : Jvm.MethodName)) ∈ lw_all := lw_g (lw_at lw_m4 43 rfl) rfl
theorem q806 : (Jvm.Cond.code ({ cls := "BaizeCorpsModel", name := "isFit", desc := "(I)Z" } : Jvm.MethodName) prog_5_method_56_code (4 : Nat) (Option.some Jvm.ClassFile.FieldType.boolean)) ∈ lw_all := lw_g (lw_at lw_m4 44 rfl) rfl
theorem q808 : (Jvm.Cond.instanceMethod ({ cls := "BaizeCorpsModel", name := "ask", desc := "(I)I" } : Jvm.MethodName)) ∈ lw_all := lw_g (lw_at lw_m4 46 rfl) rfl
theorem q809 : (Jvm.Cond.selects "BaizeCorpsModel" ({ cls := "BaizeCorpsModel", name := "ask", desc := "(I)I" } : Jvm.MethodName) ({ cls := "BaizeCorpsModel", name := "ask", desc := "(I)I" } : Jvm.MethodName)) ∈ lw_all := lw_g (lw_at lw_m4 47 rfl) rfl
theorem q810 : (Jvm.Cond.code ({ cls := "BaizeCorpsModel", name := "ask", desc := "(I)I" } : Jvm.MethodName) prog_5_method_60_code (6 : Nat) (Option.some Jvm.ClassFile.FieldType.int)) ∈ lw_all := lw_g (lw_at lw_m4 48 rfl) rfl
theorem q811 : (Jvm.Cond.methodLink "BaizeCorpsModel" (301 : Nat) ({ cls := "BaizeCorpsModel", name := "mostNow", desc := "()I" } : Jvm.MethodName)) ∈ lw_all := lw_g (lw_at lw_m4 49 rfl) rfl
theorem q812 : (Jvm.Cond.privateMethod ({ cls := "BaizeCorpsModel", name := "mostNow", desc := "()I" } : Jvm.MethodName)) ∈ lw_tbl := lw_at lw_m4 50 rfl
theorem q813 : (Jvm.Cond.instanceMethod ({ cls := "BaizeCorpsModel", name := "mostNow", desc := "()I" } : Jvm.MethodName)) ∈ lw_all := lw_g (lw_at lw_m4 51 rfl) rfl
theorem q814 : (Jvm.Cond.code ({ cls := "BaizeCorpsModel", name := "mostNow", desc := "()I" } : Jvm.MethodName) prog_5_method_59_code (4 : Nat) (Option.some Jvm.ClassFile.FieldType.int)) ∈ lw_all := lw_g (lw_at lw_m4 52 rfl) rfl
theorem q816 : (Jvm.Cond.instanceMethod ({ cls := "BaizeCorpsModel", name := "chalk", desc := "(III)I" } : Jvm.MethodName)) ∈ lw_all := lw_g (lw_at lw_m4 54 rfl) rfl
theorem q817 : (Jvm.Cond.selects "BaizeCorpsModel" ({ cls := "BaizeCorpsModel", name := "chalk", desc := "(III)I" } : Jvm.MethodName) ({ cls := "BaizeCorpsModel", name := "chalk", desc := "(III)I" } : Jvm.MethodName)) ∈ lw_all := lw_g (lw_at lw_m4 55 rfl) rfl
theorem q818 : (Jvm.Cond.code ({ cls := "BaizeCorpsModel", name := "chalk", desc := "(III)I" } : Jvm.MethodName) prog_5_method_64_code (5 : Nat) (Option.some Jvm.ClassFile.FieldType.int)) ∈ lw_all := lw_g (lw_at lw_m4 56 rfl) rfl
theorem q819 : (Jvm.Cond.constantLong "BaizeCorpsModel" (310 : Nat) (999 : Int64)) ∈ lw_all := lw_g (lw_at lw_m4 57 rfl) rfl
theorem q820 : (Jvm.Cond.methodLink "BaizeCorpsModel" (312 : Nat) ({ cls := "BaizeCorpsModel", name := "leastTake", desc := "(II)I" } : Jvm.MethodName)) ∈ lw_all := lw_g (lw_at lw_m4 58 rfl) rfl
theorem q821 : (Jvm.Cond.privateMethod ({ cls := "BaizeCorpsModel", name := "leastTake", desc := "(II)I" } : Jvm.MethodName)) ∈ lw_tbl := lw_at lw_m4 59 rfl
theorem q822 : (Jvm.Cond.instanceMethod ({ cls := "BaizeCorpsModel", name := "leastTake", desc := "(II)I" } : Jvm.MethodName)) ∈ lw_all := lw_g (lw_at lw_m4 60 rfl) rfl
theorem q823 : (Jvm.Cond.code ({ cls := "BaizeCorpsModel", name := "leastTake", desc := "(II)I" } : Jvm.MethodName) prog_5_method_63_code (7 : Nat) (Option.some Jvm.ClassFile.FieldType.int)) ∈ lw_all := lw_g (lw_at lw_m4 61 rfl) rfl
theorem q824 : (Jvm.Cond.methodLink "BaizeCorpsModel" (304 : Nat) ({ cls := "BaizeCorpsModel", name := "digit", desc := "(II)I" } : Jvm.MethodName)) ∈ lw_all := lw_g (lw_at lw_m4 62 rfl) rfl
theorem q825 : (Jvm.Cond.static ({ cls := "BaizeCorpsModel", name := "digit", desc := "(II)I" } : Jvm.MethodName)) ∈ lw_all := lw_g (lw_at lw_m4 63 rfl) rfl
theorem q826 : (Jvm.Cond.code ({ cls := "BaizeCorpsModel", name := "digit", desc := "(II)I" } : Jvm.MethodName) prog_5_method_61_code (2 : Nat) (Option.some Jvm.ClassFile.FieldType.int)) ∈ lw_all := lw_g (lw_at lw_m4 64 rfl) rfl
theorem q827 : (Jvm.Cond.methodLink "BaizeCorpsModel" (307 : Nat) ({ cls := "BaizeCorpsModel", name := "tenTo", desc := "(I)I" } : Jvm.MethodName)) ∈ lw_all := lw_g (lw_at lw_m4 65 rfl) rfl
theorem q828 : (Jvm.Cond.static ({ cls := "BaizeCorpsModel", name := "tenTo", desc := "(I)I" } : Jvm.MethodName)) ∈ lw_all := lw_g (lw_at lw_m4 66 rfl) rfl
theorem q829 : (Jvm.Cond.code ({ cls := "BaizeCorpsModel", name := "tenTo", desc := "(I)I" } : Jvm.MethodName) prog_5_method_62_code (1 : Nat) (Option.some Jvm.ClassFile.FieldType.int)) ∈ lw_all := lw_g (lw_at lw_m4 67 rfl) rfl
theorem q831 : (Jvm.Cond.instanceMethod ({ cls := "BaizeCorpsModel", name := "match", desc := "(IIIIII)J" } : Jvm.MethodName)) ∈ lw_all := lw_g (lw_at lw_m4 69 rfl) rfl
theorem q832 : (Jvm.Cond.selects "BaizeCorpsModel" ({ cls := "BaizeCorpsModel", name := "match", desc := "(IIIIII)J" } : Jvm.MethodName) ({ cls := "BaizeCorpsModel", name := "match", desc := "(IIIIII)J" } : Jvm.MethodName)) ∈ lw_all := lw_g (lw_at lw_m4 70 rfl) rfl
theorem q833 : (Jvm.Cond.code ({ cls := "BaizeCorpsModel", name := "match", desc := "(IIIIII)J" } : Jvm.MethodName) prog_5_method_68_code (14 : Nat) (Option.some Jvm.ClassFile.FieldType.long)) ∈ lw_all := lw_g (lw_at lw_m4 71 rfl) rfl
theorem q834 : (Jvm.Cond.constantLong "BaizeCorpsModel" (315 : Nat) (10 : Int64)) ∈ lw_all := lw_g (lw_at lw_m4 72 rfl) rfl
theorem q835 : (Jvm.Cond.constantLong "BaizeCorpsModel" (317 : Nat) (-1000000000000000002 : Int64)) ∈ lw_all := lw_g (lw_at lw_m4 73 rfl) rfl
theorem q836 : (Jvm.Cond.methodLink "BaizeCorpsModel" (319 : Nat) ({ cls := "BaizeCorpsModel", name := "findChance", desc := "(IIII)V" } : Jvm.MethodName)) ∈ lw_all := lw_g (lw_at lw_m4 74 rfl) rfl
theorem q837 : (Jvm.Cond.privateMethod ({ cls := "BaizeCorpsModel", name := "findChance", desc := "(IIII)V" } : Jvm.MethodName)) ∈ lw_tbl := lw_at lw_m4 75 rfl
theorem q838 : (Jvm.Cond.instanceMethod ({ cls := "BaizeCorpsModel", name := "findChance", desc := "(IIII)V" } : Jvm.MethodName)) ∈ lw_all := lw_g (lw_at lw_m4 76 rfl) rfl
theorem q839 : (Jvm.Cond.code ({ cls := "BaizeCorpsModel", name := "findChance", desc := "(IIII)V" } : Jvm.MethodName) prog_5_method_67_code (7 : Nat) (Option.none : Option Jvm.ClassFile.FieldType)) ∈ lw_all := lw_g (lw_at lw_m4 77 rfl) rfl
theorem q840 : (Jvm.Cond.methodLink "BaizeCorpsModel" (322 : Nat) ({ cls := "BaizeCorpsModel", name := "power", desc := "(JI)J" } : Jvm.MethodName)) ∈ lw_all := lw_g (lw_at lw_m4 78 rfl) rfl
theorem q841 : (Jvm.Cond.static ({ cls := "BaizeCorpsModel", name := "power", desc := "(JI)J" } : Jvm.MethodName)) ∈ lw_all := lw_g (lw_at lw_m4 79 rfl) rfl
theorem q842 : (Jvm.Cond.code ({ cls := "BaizeCorpsModel", name := "power", desc := "(JI)J" } : Jvm.MethodName) prog_5_method_66_code (6 : Nat) (Option.some Jvm.ClassFile.FieldType.long)) ∈ lw_all := lw_g (lw_at lw_m4 80 rfl) rfl
theorem q843 : (Jvm.Cond.methodLink "BaizeCorpsModel" (326 : Nat) ({ cls := "BaizeCorpsModel", name := "lowest", desc := "(JJI)J" } : Jvm.MethodName)) ∈ lw_all := lw_g (lw_at lw_m4 81 rfl) rfl
theorem q844 : (Jvm.Cond.static ({ cls := "BaizeCorpsModel", name := "lowest", desc := "(JJI)J" } : Jvm.MethodName)) ∈ lw_all := lw_g (lw_at lw_m4 82 rfl) rfl
theorem q845 : (Jvm.Cond.code ({ cls := "BaizeCorpsModel", name := "lowest", desc := "(JJI)J" } : Jvm.MethodName) prog_5_method_65_code (11 : Nat) (Option.some Jvm.ClassFile.FieldType.long)) ∈ lw_all := lw_g (lw_at lw_m4 83 rfl) rfl
theorem q847 : (Jvm.Cond.instanceMethod ({ cls := "BaizeCorpsModel", name := "season", desc := "(III)I" } : Jvm.MethodName)) ∈ lw_all := lw_g (lw_at lw_m4 85 rfl) rfl
theorem q848 : (Jvm.Cond.selects "BaizeCorpsModel" ({ cls := "BaizeCorpsModel", name := "season", desc := "(III)I" } : Jvm.MethodName) ({ cls := "BaizeCorpsModel", name := "season", desc := "(III)I" } : Jvm.MethodName)) ∈ lw_all := lw_g (lw_at lw_m4 86 rfl) rfl
theorem q849 : (Jvm.Cond.code ({ cls := "BaizeCorpsModel", name := "season", desc := "(III)I" } : Jvm.MethodName) prog_5_method_70_code (8 : Nat) (Option.some Jvm.ClassFile.FieldType.int)) ∈ lw_all := lw_g (lw_at lw_m4 87 rfl) rfl
theorem q850 : (Jvm.Cond.constantLong "BaizeCorpsModel" (330 : Nat) (9999 : Int64)) ∈ lw_all := lw_g (lw_at lw_m4 88 rfl) rfl
theorem q851 : (Jvm.Cond.constantLong "BaizeCorpsModel" (332 : Nat) (75 : Int64)) ∈ lw_all := lw_g (lw_at lw_m4 89 rfl) rfl
theorem q852 : (Jvm.Cond.constantLong "BaizeCorpsModel" (334 : Nat) (74 : Int64)) ∈ lw_all := lw_g (lw_at lw_m4 90 rfl) rfl
theorem q853 : (Jvm.Cond.constantLong "BaizeCorpsModel" (336 : Nat) (65537 : Int64)) ∈ lw_all := lw_g (lw_at lw_m4 91 rfl) rfl
theorem q854 : (Jvm.Cond.methodLink "BaizeCorpsModel" (338 : Nat) ({ cls := "BaizeCorpsModel", name := "actBy", desc := "(I)I" } : Jvm.MethodName)) ∈ lw_all := lw_g (lw_at lw_m4 92 rfl) rfl
theorem q855 : (Jvm.Cond.static ({ cls := "BaizeCorpsModel", name := "actBy", desc := "(I)I" } : Jvm.MethodName)) ∈ lw_all := lw_g (lw_at lw_m4 93 rfl) rfl
theorem q856 : (Jvm.Cond.code ({ cls := "BaizeCorpsModel", name := "actBy", desc := "(I)I" } : Jvm.MethodName) prog_5_method_69_code (1 : Nat) (Option.some Jvm.ClassFile.FieldType.int)) ∈ lw_all := lw_g (lw_at lw_m4 94 rfl) rfl
theorem q858 : (Jvm.Cond.instanceMethod ({ cls := "BaizeCorpsModel", name := "image", desc := "(I)I" } : Jvm.MethodName)) ∈ lw_all := lw_g (lw_at lw_m4 96 rfl) rfl
theorem q859 : (Jvm.Cond.selects "BaizeCorpsModel" ({ cls := "BaizeCorpsModel", name := "image", desc := "(I)I" } : Jvm.MethodName) ({ cls := "BaizeCorpsModel", name := "image", desc := "(I)I" } : Jvm.MethodName)) ∈ lw_all := lw_g (lw_at lw_m4 97 rfl) rfl
theorem q860 : (Jvm.Cond.code ({ cls := "BaizeCorpsModel", name := "image", desc := "(I)I" } : Jvm.MethodName) prog_5_method_74_code (2 : Nat) (Option.some Jvm.ClassFile.FieldType.int)) ∈ lw_all := lw_g (lw_at lw_m4 98 rfl) rfl
theorem q861 : (Jvm.Cond.methodLink "BaizeCorpsModel" (355 : Nat) ({ cls := "BaizeCorpsModel", name := "passAll", desc := "()V" } : Jvm.MethodName)) ∈ lw_all := lw_g (lw_at lw_m4 99 rfl) rfl
theorem q862 : (Jvm.Cond.privateMethod ({ cls := "BaizeCorpsModel", name := "passAll", desc := "()V" } : Jvm.MethodName)) ∈ lw_tbl := lw_at lw_m4 100 rfl
theorem q863 : (Jvm.Cond.instanceMethod ({ cls := "BaizeCorpsModel", name := "passAll", desc := "()V" } : Jvm.MethodName)) ∈ lw_all := lw_g (lw_at lw_m4 101 rfl) rfl
theorem q864 : (Jvm.Cond.code ({ cls := "BaizeCorpsModel", name := "passAll", desc := "()V" } : Jvm.MethodName) prog_5_method_73_code (1 : Nat) (Option.none : Option Jvm.ClassFile.FieldType)) ∈ lw_all := lw_g (lw_at lw_m4 102 rfl) rfl
theorem q865 : (Jvm.Cond.methodLink "BaizeCorpsModel" (348 : Nat) ({ cls := "BaizeCorpsModel", name := "pass", desc := "(I)I" } : Jvm.MethodName)) ∈ lw_all := lw_g (lw_at lw_m4 103 rfl) rfl
theorem q866 : (Jvm.Cond.privateMethod ({ cls := "BaizeCorpsModel", name := "pass", desc := "(I)I" } : Jvm.MethodName)) ∈ lw_tbl := lw_at lw_m4 104 rfl
theorem q867 : (Jvm.Cond.instanceMethod ({ cls := "BaizeCorpsModel", name := "pass", desc := "(I)I" } : Jvm.MethodName)) ∈ lw_all := lw_g (lw_at lw_m4 105 rfl) rfl
theorem q868 : (Jvm.Cond.code ({ cls := "BaizeCorpsModel", name := "pass", desc := "(I)I" } : Jvm.MethodName) prog_5_method_71_code (3 : Nat) (Option.some Jvm.ClassFile.FieldType.int)) ∈ lw_all := lw_g (lw_at lw_m4 106 rfl) rfl
theorem q869 : (Jvm.Cond.methodLink "BaizeCorpsModel" (351 : Nat) ({ cls := "BaizeCorpsModel", name := "passRow", desc := "([II)V" } : Jvm.MethodName)) ∈ lw_all := lw_g (lw_at lw_m4 107 rfl) rfl
theorem q870 : (Jvm.Cond.privateMethod ({ cls := "BaizeCorpsModel", name := "passRow", desc := "([II)V" } : Jvm.MethodName)) ∈ lw_tbl := lw_at lw_m4 108 rfl
theorem q871 : (Jvm.Cond.instanceMethod ({ cls := "BaizeCorpsModel", name := "passRow", desc := "([II)V" } : Jvm.MethodName)) ∈ lw_all := lw_g (lw_at lw_m4 109 rfl) rfl
theorem q872 : (Jvm.Cond.code ({ cls := "BaizeCorpsModel", name := "passRow", desc := "([II)V" } : Jvm.MethodName) prog_5_method_72_code (4 : Nat) (Option.none : Option Jvm.ClassFile.FieldType)) ∈ lw_all := lw_g (lw_at lw_m4 110 rfl) rfl
theorem q874 : (Jvm.Cond.instanceMethod ({ cls := "BaizeCorpsModel", name := "restore", desc := "(I)I" } : Jvm.MethodName)) ∈ lw_all := lw_g (lw_at lw_m4 112 rfl) rfl
theorem q875 : (Jvm.Cond.selects "BaizeCorpsModel" ({ cls := "BaizeCorpsModel", name := "restore", desc := "(I)I" } : Jvm.MethodName) ({ cls := "BaizeCorpsModel", name := "restore", desc := "(I)I" } : Jvm.MethodName)) ∈ lw_all := lw_g (lw_at lw_m4 113 rfl) rfl
theorem q876 : (Jvm.Cond.code ({ cls := "BaizeCorpsModel", name := "restore", desc := "(I)I" } : Jvm.MethodName) prog_5_method_75_code (2 : Nat) (Option.some Jvm.ClassFile.FieldType.int)) ∈ lw_all := lw_g (lw_at lw_m4 114 rfl) rfl
theorem q878 : (Jvm.Cond.instanceMethod ({ cls := "BaizeCorpsModel", name := "told", desc := "(I)I" } : Jvm.MethodName)) ∈ lw_all := lw_g (lw_at lw_m4 116 rfl) rfl
theorem q879 : (Jvm.Cond.selects "BaizeCorpsModel" ({ cls := "BaizeCorpsModel", name := "told", desc := "(I)I" } : Jvm.MethodName) ({ cls := "BaizeCorpsModel", name := "told", desc := "(I)I" } : Jvm.MethodName)) ∈ lw_all := lw_g (lw_at lw_m4 117 rfl) rfl
theorem q880 : (Jvm.Cond.code ({ cls := "BaizeCorpsModel", name := "told", desc := "(I)I" } : Jvm.MethodName) prog_5_method_76_code (2 : Nat) (Option.some Jvm.ClassFile.FieldType.int)) ∈ lw_all := lw_g (lw_at lw_m4 118 rfl) rfl
theorem q881 : (Jvm.Cond.constantLong "BaizeCorpsModel" (358 : Nat) (12 : Int64)) ∈ lw_all := lw_g (lw_at lw_m4 119 rfl) rfl
theorem in_X3 : ∀ w ∈ wsX30, w ∈ lw_all := lw_in wsX30 [497, 499, 501, 503, 505, 507, 509, 511, 513, 515, 517, 519, 521, 523, 525, 527, 529, 531, 533, 535, 537, 539, 541, 543, 545, 547, 549, 551, 553, 555, 557, 559, 561, 563, 565, 567, 569, 571, 573, 575, 577, 579] (by decide +kernel) (by decide +kernel)
