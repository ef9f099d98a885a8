theorem q88 : (Jvm.Cond.arrayClass Jvm.ClassFile.FieldType.int) ∈ lw_all := lw_g (lw_at lw_m1 46 rfl) rfl
set_option maxRecDepth 100000
theorem q135 : (Jvm.Cond.arrayOver (Jvm.ClassFile.FieldType.object "BaizeCorps$Table")) ∈ lw_tbl := lw_at lw_m1 93 rfl
theorem q193 : (Jvm.Cond.arrayClass Jvm.ClassFile.FieldType.char) ∈ lw_all := lw_g (lw_at lw_m1 151 rfl) rfl
theorem q194 : (Jvm.Cond.arrayClass Jvm.ClassFile.FieldType.boolean) ∈ lw_all := lw_g (lw_at lw_m1 152 rfl) rfl
theorem q195 : (Jvm.Cond.arrayClass Jvm.ClassFile.FieldType.long) ∈ lw_all := lw_g (lw_at lw_m1 153 rfl) rfl
theorem q47 : (Jvm.Cond.initialized "java/lang/System") ∈ lw_all := lw_g (lw_at lw_m1 5 rfl) rfl
set_option maxRecDepth 100000
theorem q252 : (Jvm.Cond.static ({ cls := "java/lang/System", name := "arraycopy", desc := "(Ljava/lang/Object;ILjava/lang/Object;II)V" } : Jvm.MethodName)) ∈ lw_all := lw_g (lw_at lw_m1 210 rfl) rfl
theorem q253 : (Jvm.Cond.native ({ cls := "java/lang/System", name := "arraycopy", desc := "(Ljava/lang/Object;ILjava/lang/Object;II)V" } : Jvm.MethodName)) ∈ lw_all := lw_g (lw_at lw_m1 211 rfl) rfl
/-! java/lang/Math -/
set_option maxRecDepth 100000
def RJ0 : String := "java/lang/Math"
abbrev cJ0_min : ByteArray := prog_6_method_69_code
def yJ0_min : MethodName := ⟨RJ0, "min", "(II)I"⟩
def dkwJ0_min_0 : List UInt8 := [26, 27, 163, 0, 7, 26, 167, 0, 4, 27, 172]
abbrev dktJ0_min_0 : List UInt8 := dkwJ0_min_0 ++ []
theorem dksJ0_min_0 : cJ0_min.data.toList.drop 0 = dktJ0_min_0 := by decide +kernel
theorem dJ0_min_0 : decode cJ0_min 0 = .ok (.iload_n 0, 1) := dk_26 (dk_at dksJ0_min_0 0 rfl rfl)
theorem dJ0_min_1 : decode cJ0_min 1 = .ok (.iload_n 1, 1) := dk_27 (dk_at dksJ0_min_0 1 rfl rfl)
theorem dJ0_min_2 : decode cJ0_min 2 = .ok (.if_icmp .gt 7, 3) := dk_163 0 7 (dk_at dksJ0_min_0 2 rfl rfl)
theorem dJ0_min_5 : decode cJ0_min 5 = .ok (.iload_n 0, 1) := dk_26 (dk_at dksJ0_min_0 5 rfl rfl)
theorem dJ0_min_6 : decode cJ0_min 6 = .ok (.goto 4, 3) := dk_167 0 4 (dk_at dksJ0_min_0 6 rfl rfl)
theorem dJ0_min_9 : decode cJ0_min 9 = .ok (.iload_n 1, 1) := dk_27 (dk_at dksJ0_min_0 9 rfl rfl)
theorem dJ0_min_10 : decode cJ0_min 10 = .ok (.ireturn, 1) := dk_172 (dk_at dksJ0_min_0 10 rfl rfl)
abbrev cJ0_max : ByteArray := prog_6_method_65_code
def yJ0_max : MethodName := ⟨RJ0, "max", "(II)I"⟩
def dkwJ0_max_0 : List UInt8 := [26, 27, 161, 0, 7, 26, 167, 0, 4, 27, 172]
abbrev dktJ0_max_0 : List UInt8 := dkwJ0_max_0 ++ []
theorem dksJ0_max_0 : cJ0_max.data.toList.drop 0 = dktJ0_max_0 := by decide +kernel
theorem dJ0_max_0 : decode cJ0_max 0 = .ok (.iload_n 0, 1) := dk_26 (dk_at dksJ0_max_0 0 rfl rfl)
theorem dJ0_max_1 : decode cJ0_max 1 = .ok (.iload_n 1, 1) := dk_27 (dk_at dksJ0_max_0 1 rfl rfl)
theorem dJ0_max_2 : decode cJ0_max 2 = .ok (.if_icmp .lt 7, 3) := dk_161 0 7 (dk_at dksJ0_max_0 2 rfl rfl)
theorem dJ0_max_5 : decode cJ0_max 5 = .ok (.iload_n 0, 1) := dk_26 (dk_at dksJ0_max_0 5 rfl rfl)
theorem dJ0_max_6 : decode cJ0_max 6 = .ok (.goto 4, 3) := dk_167 0 4 (dk_at dksJ0_max_0 6 rfl rfl)
theorem dJ0_max_9 : decode cJ0_max 9 = .ok (.iload_n 1, 1) := dk_27 (dk_at dksJ0_max_0 9 rfl rfl)
theorem dJ0_max_10 : decode cJ0_max 10 = .ok (.ireturn, 1) := dk_172 (dk_at dksJ0_max_0 10 rfl rfl)
theorem q48 : (Jvm.Cond.initialized "java/lang/Math") ∈ lw_all := lw_g (lw_at lw_m1 6 rfl) rfl
theorem q334 : (Jvm.Cond.static ({ cls := "java/lang/Math", name := "min", desc := "(II)I" } : Jvm.MethodName)) ∈ lw_all := lw_g (lw_at lw_m2 52 rfl) rfl
theorem q335 : (Jvm.Cond.code ({ cls := "java/lang/Math", name := "min", desc := "(II)I" } : Jvm.MethodName) prog_6_method_69_code (2 : Nat) (Option.some Jvm.ClassFile.FieldType.int)) ∈ lw_all := lw_g (lw_at lw_m2 53 rfl) rfl
theorem q396 : (Jvm.Cond.static ({ cls := "java/lang/Math", name := "max", desc := "(II)I" } : Jvm.MethodName)) ∈ lw_all := lw_g (lw_at lw_m2 114 rfl) rfl
theorem q397 : (Jvm.Cond.code ({ cls := "java/lang/Math", name := "max", desc := "(II)I" } : Jvm.MethodName) prog_6_method_65_code (2 : Nat) (Option.some Jvm.ClassFile.FieldType.int)) ∈ lw_all := lw_g (lw_at lw_m2 115 rfl) rfl
/-! java/util/Arrays -/
set_option maxRecDepth 100000
def RJ1 : String := "java/util/Arrays"
abbrev cJ1_fill : ByteArray := prog_8_method_111_code
def yJ1_fill : MethodName := ⟨RJ1, "fill", "([ZZ)V"⟩
def dkwJ1_fill_0 : List UInt8 := [3, 61, 42, 190, 62, 28, 29, 162, 0, 13, 42, 28, 27, 84, 132, 2, 1, 167, 255, 244, 177]
abbrev dktJ1_fill_0 : List UInt8 := dkwJ1_fill_0 ++ []
theorem dksJ1_fill_0 : cJ1_fill.data.toList.drop 0 = dktJ1_fill_0 := by decide +kernel
theorem dJ1_fill_0 : decode cJ1_fill 0 = .ok (.iconst 0, 1) := dk_3 (dk_at dksJ1_fill_0 0 rfl rfl)
theorem dJ1_fill_1 : decode cJ1_fill 1 = .ok (.istore_n 2, 1) := dk_61 (dk_at dksJ1_fill_0 1 rfl rfl)
theorem dJ1_fill_2 : decode cJ1_fill 2 = .ok (.aload_n 0, 1) := dk_42 (dk_at dksJ1_fill_0 2 rfl rfl)
theorem dJ1_fill_3 : decode cJ1_fill 3 = .ok (.arraylength, 1) := dk_190 (dk_at dksJ1_fill_0 3 rfl rfl)
theorem dJ1_fill_4 : decode cJ1_fill 4 = .ok (.istore_n 3, 1) := dk_62 (dk_at dksJ1_fill_0 4 rfl rfl)
theorem dJ1_fill_5 : decode cJ1_fill 5 = .ok (.iload_n 2, 1) := dk_28 (dk_at dksJ1_fill_0 5 rfl rfl)
theorem dJ1_fill_6 : decode cJ1_fill 6 = .ok (.iload_n 3, 1) := dk_29 (dk_at dksJ1_fill_0 6 rfl rfl)
theorem dJ1_fill_7 : decode cJ1_fill 7 = .ok (.if_icmp .ge 13, 3) := dk_162 0 13 (dk_at dksJ1_fill_0 7 rfl rfl)
theorem dJ1_fill_10 : decode cJ1_fill 10 = .ok (.aload_n 0, 1) := dk_42 (dk_at dksJ1_fill_0 10 rfl rfl)
theorem dJ1_fill_11 : decode cJ1_fill 11 = .ok (.iload_n 2, 1) := dk_28 (dk_at dksJ1_fill_0 11 rfl rfl)
theorem dJ1_fill_12 : decode cJ1_fill 12 = .ok (.iload_n 1, 1) := dk_27 (dk_at dksJ1_fill_0 12 rfl rfl)
theorem dJ1_fill_13 : decode cJ1_fill 13 = .ok (.bastore, 1) := dk_84 (dk_at dksJ1_fill_0 13 rfl rfl)
theorem dJ1_fill_14 : decode cJ1_fill 14 = .ok (.iinc 2 1, 3) := dk_132 2 1 (dk_at dksJ1_fill_0 14 rfl rfl)
theorem dJ1_fill_17 : decode cJ1_fill 17 = .ok (.goto (-12), 3) := dk_167 255 244 (dk_at dksJ1_fill_0 17 rfl rfl)
theorem dJ1_fill_20 : decode cJ1_fill 20 = .ok (.return_, 1) := dk_177 (dk_at dksJ1_fill_0 20 rfl rfl)
abbrev cJ1_fill_2 : ByteArray := prog_8_method_103_code
def yJ1_fill_2 : MethodName := ⟨RJ1, "fill", "([II)V"⟩
def dkwJ1_fill_2_0 : List UInt8 := [3, 61, 42, 190, 62, 28, 29, 162, 0, 13, 42, 28, 27, 79, 132, 2, 1, 167, 255, 244, 177]
abbrev dktJ1_fill_2_0 : List UInt8 := dkwJ1_fill_2_0 ++ []
theorem dksJ1_fill_2_0 : cJ1_fill_2.data.toList.drop 0 = dktJ1_fill_2_0 := by decide +kernel
theorem dJ1_fill_2_0 : decode cJ1_fill_2 0 = .ok (.iconst 0, 1) := dk_3 (dk_at dksJ1_fill_2_0 0 rfl rfl)
theorem dJ1_fill_2_1 : decode cJ1_fill_2 1 = .ok (.istore_n 2, 1) := dk_61 (dk_at dksJ1_fill_2_0 1 rfl rfl)
theorem dJ1_fill_2_2 : decode cJ1_fill_2 2 = .ok (.aload_n 0, 1) := dk_42 (dk_at dksJ1_fill_2_0 2 rfl rfl)
theorem dJ1_fill_2_3 : decode cJ1_fill_2 3 = .ok (.arraylength, 1) := dk_190 (dk_at dksJ1_fill_2_0 3 rfl rfl)
theorem dJ1_fill_2_4 : decode cJ1_fill_2 4 = .ok (.istore_n 3, 1) := dk_62 (dk_at dksJ1_fill_2_0 4 rfl rfl)
theorem dJ1_fill_2_5 : decode cJ1_fill_2 5 = .ok (.iload_n 2, 1) := dk_28 (dk_at dksJ1_fill_2_0 5 rfl rfl)
theorem dJ1_fill_2_6 : decode cJ1_fill_2 6 = .ok (.iload_n 3, 1) := dk_29 (dk_at dksJ1_fill_2_0 6 rfl rfl)
theorem dJ1_fill_2_7 : decode cJ1_fill_2 7 = .ok (.if_icmp .ge 13, 3) := dk_162 0 13 (dk_at dksJ1_fill_2_0 7 rfl rfl)
theorem dJ1_fill_2_10 : decode cJ1_fill_2 10 = .ok (.aload_n 0, 1) := dk_42 (dk_at dksJ1_fill_2_0 10 rfl rfl)
theorem dJ1_fill_2_11 : decode cJ1_fill_2 11 = .ok (.iload_n 2, 1) := dk_28 (dk_at dksJ1_fill_2_0 11 rfl rfl)
theorem dJ1_fill_2_12 : decode cJ1_fill_2 12 = .ok (.iload_n 1, 1) := dk_27 (dk_at dksJ1_fill_2_0 12 rfl rfl)
theorem dJ1_fill_2_13 : decode cJ1_fill_2 13 = .ok (.iastore, 1) := dk_79 (dk_at dksJ1_fill_2_0 13 rfl rfl)
theorem dJ1_fill_2_14 : decode cJ1_fill_2 14 = .ok (.iinc 2 1, 3) := dk_132 2 1 (dk_at dksJ1_fill_2_0 14 rfl rfl)
theorem dJ1_fill_2_17 : decode cJ1_fill_2 17 = .ok (.goto (-12), 3) := dk_167 255 244 (dk_at dksJ1_fill_2_0 17 rfl rfl)
theorem dJ1_fill_2_20 : decode cJ1_fill_2 20 = .ok (.return_, 1) := dk_177 (dk_at dksJ1_fill_2_0 20 rfl rfl)
abbrev cJ1_fill_3 : ByteArray := prog_8_method_101_code
def yJ1_fill_3 : MethodName := ⟨RJ1, "fill", "([JJ)V"⟩
def dkwJ1_fill_3_0 : List UInt8 := [3, 62, 42, 190, 54, 4, 29, 21, 4, 162, 0, 13, 42, 29, 31, 80, 132, 3, 1, 167, 255, 243, 177]
abbrev dktJ1_fill_3_0 : List UInt8 := dkwJ1_fill_3_0 ++ []
theorem dksJ1_fill_3_0 : cJ1_fill_3.data.toList.drop 0 = dktJ1_fill_3_0 := by decide +kernel
theorem dJ1_fill_3_0 : decode cJ1_fill_3 0 = .ok (.iconst 0, 1) := dk_3 (dk_at dksJ1_fill_3_0 0 rfl rfl)
theorem dJ1_fill_3_1 : decode cJ1_fill_3 1 = .ok (.istore_n 3, 1) := dk_62 (dk_at dksJ1_fill_3_0 1 rfl rfl)
theorem dJ1_fill_3_2 : decode cJ1_fill_3 2 = .ok (.aload_n 0, 1) := dk_42 (dk_at dksJ1_fill_3_0 2 rfl rfl)
theorem dJ1_fill_3_3 : decode cJ1_fill_3 3 = .ok (.arraylength, 1) := dk_190 (dk_at dksJ1_fill_3_0 3 rfl rfl)
theorem dJ1_fill_3_4 : decode cJ1_fill_3 4 = .ok (.istore 4, 2) := dk_54 4 (dk_at dksJ1_fill_3_0 4 rfl rfl)
theorem dJ1_fill_3_6 : decode cJ1_fill_3 6 = .ok (.iload_n 3, 1) := dk_29 (dk_at dksJ1_fill_3_0 6 rfl rfl)
theorem dJ1_fill_3_7 : decode cJ1_fill_3 7 = .ok (.iload 4, 2) := dk_21 4 (dk_at dksJ1_fill_3_0 7 rfl rfl)
theorem dJ1_fill_3_9 : decode cJ1_fill_3 9 = .ok (.if_icmp .ge 13, 3) := dk_162 0 13 (dk_at dksJ1_fill_3_0 9 rfl rfl)
theorem dJ1_fill_3_12 : decode cJ1_fill_3 12 = .ok (.aload_n 0, 1) := dk_42 (dk_at dksJ1_fill_3_0 12 rfl rfl)
theorem dJ1_fill_3_13 : decode cJ1_fill_3 13 = .ok (.iload_n 3, 1) := dk_29 (dk_at dksJ1_fill_3_0 13 rfl rfl)
theorem dJ1_fill_3_14 : decode cJ1_fill_3 14 = .ok (.lload_n 1, 1) := dk_31 (dk_at dksJ1_fill_3_0 14 rfl rfl)
theorem dJ1_fill_3_15 : decode cJ1_fill_3 15 = .ok (.lastore, 1) := dk_80 (dk_at dksJ1_fill_3_0 15 rfl rfl)
theorem dJ1_fill_3_16 : decode cJ1_fill_3 16 = .ok (.iinc 3 1, 3) := dk_132 3 1 (dk_at dksJ1_fill_3_0 16 rfl rfl)
theorem dJ1_fill_3_19 : decode cJ1_fill_3 19 = .ok (.goto (-13), 3) := dk_167 255 243 (dk_at dksJ1_fill_3_0 19 rfl rfl)
theorem dJ1_fill_3_22 : decode cJ1_fill_3 22 = .ok (.return_, 1) := dk_177 (dk_at dksJ1_fill_3_0 22 rfl rfl)
theorem q49 : (Jvm.Cond.initialized "java/util/Arrays") ∈ lw_all := lw_g (lw_at lw_m1 7 rfl) rfl
theorem q353 : (Jvm.Cond.static ({ cls := "java/util/Arrays", name := "fill", desc := "([ZZ)V" } : Jvm.MethodName)) ∈ lw_all := lw_g (lw_at lw_m2 71 rfl) rfl
theorem q354 : (Jvm.Cond.code ({ cls := "java/util/Arrays", name := "fill", desc := "([ZZ)V" } : Jvm.MethodName) prog_8_method_111_code (4 : Nat) (Option.none : Option Jvm.ClassFile.FieldType)) ∈ lw_all := lw_g (lw_at lw_m2 72 rfl) rfl
theorem q365 : (Jvm.Cond.static ({ cls := "java/util/Arrays", name := "fill", desc := "([II)V" } : Jvm.MethodName)) ∈ lw_all := lw_g (lw_at lw_m2 83 rfl) rfl
theorem q366 : (Jvm.Cond.code ({ cls := "java/util/Arrays", name := "fill", desc := "([II)V" } : Jvm.MethodName) prog_8_method_103_code (4 : Nat) (Option.none : Option Jvm.ClassFile.FieldType)) ∈ lw_all := lw_g (lw_at lw_m2 84 rfl) rfl
theorem q415 : (Jvm.Cond.static ({ cls := "java/util/Arrays", name := "fill", desc := "([JJ)V" } : Jvm.MethodName)) ∈ lw_all := lw_g (lw_at lw_m2 133 rfl) rfl
theorem q416 : (Jvm.Cond.code ({ cls := "java/util/Arrays", name := "fill", desc := "([JJ)V" } : Jvm.MethodName) prog_8_method_101_code (5 : Nat) (Option.none : Option Jvm.ClassFile.FieldType)) ∈ lw_all := lw_g (lw_at lw_m2 134 rfl) rfl
/-! java/lang/Object -/
set_option maxRecDepth 100000
def RJ2 : String := "java/lang/Object"
abbrev cJ2_init : ByteArray := object_method_1_code
def yJ2_init : MethodName := ⟨RJ2, "<init>", "()V"⟩
theorem dJ2_init_0 : decode cJ2_init 0 = .ok (.return_, 1) := by decide +kernel
theorem q56 : (Jvm.Cond.instanceMethod ({ cls := "java/lang/Object", name := "<init>", desc := "()V" } : Jvm.MethodName)) ∈ lw_all := lw_g (lw_at lw_m1 14 rfl) rfl
theorem q57 : (Jvm.Cond.code ({ cls := "java/lang/Object", name := "<init>", desc := "()V" } : Jvm.MethodName) object_method_1_code (1 : Nat) (Option.none : Option Jvm.ClassFile.FieldType)) ∈ lw_all := lw_g (lw_at lw_m1 15 rfl) rfl
/-! BaizeCorps$Path -/
set_option maxRecDepth 100000
def RX2 : String := "BaizeCorps$Path"
def TX2 : u_T := fun k => match k with
  | 0 => ("BaizeCorps$Path", "row", "I", false)
  | 1 => ("BaizeCorps$Path", "column", "I", false)
  | 2 => ("BaizeCorps$Path", "down", "I", false)
  | 3 => ("BaizeCorps$Path", "right", "I", false)
  | _ => ("BaizeCorps$Path", "cushions", "I", false)
def tyX2 : Nat → FieldType := fun k => match k with
  | 0 => .int
  | 1 => .int
  | 2 => .int
  | 3 => .int
  | _ => .int
abbrev wsX20 : List Cond := u_ws RX2 TX2 5
theorem nmX2 : ∀ a, a < 5 → ∀ b, b < 5 → a ≠ b → (TX2 a).2.1 ≠ (TX2 b).2.1 := by decide +kernel
theorem tyX2_ok : ∀ k, k < 5 → parseFieldDescriptor (TX2 k).2.2.1 = some (tyX2 k) := by decide +kernel
abbrev cX2_init : ByteArray := prog_2_method_1_code
def yX2_init : MethodName := ⟨RX2, "<init>", "()V"⟩
theorem dX2_init_0 : decode cX2_init 0 = .ok (.aload_n 0, 1) := by decide +kernel
theorem dX2_init_1 : decode cX2_init 1 = .ok (.invokespecial 3, 3) := by decide +kernel
theorem dX2_init_4 : decode cX2_init 4 = .ok (.return_, 1) := by decide +kernel
abbrev cX2_send : ByteArray := prog_2_method_2_code
def yX2_send : MethodName := ⟨RX2, "send", "(II)V"⟩
def dkwX2_send_3 : List UInt8 := [167, 0, 4, 3, 181, 0, 21, 42, 3, 181, 0, 24, 177]
abbrev dktX2_send_3 : List UInt8 := dkwX2_send_3 ++ []
def dkwX2_send_2 : List UInt8 := [181, 0, 18, 42, 28, 158, 0, 12, 28, 7, 162, 0, 7, 4, 167, 0, 13, 28, 7, 164, 0, 7, 2]
abbrev dktX2_send_2 : List UInt8 := dkwX2_send_2 ++ dktX2_send_3
def dkwX2_send_1 : List UInt8 := [5, 162, 0, 7, 2, 167, 0, 19, 28, 5, 164, 0, 13, 28, 16, 6, 162, 0, 7, 4, 167, 0, 4, 3]
abbrev dktX2_send_1 : List UInt8 := dkwX2_send_1 ++ dktX2_send_2
def dkwX2_send_0 : List UInt8 := [42, 27, 16, 9, 108, 181, 0, 9, 42, 27, 16, 9, 112, 181, 0, 15, 42, 28, 16, 7, 159, 0, 8, 28]
abbrev dktX2_send_0 : List UInt8 := dkwX2_send_0 ++ dktX2_send_1
theorem dksX2_send_0 : cX2_send.data.toList.drop 0 = dktX2_send_0 := by decide +kernel
theorem dksX2_send_1 : cX2_send.data.toList.drop 24 = dktX2_send_1 := dk_seg dksX2_send_0 24 rfl rfl
theorem dksX2_send_2 : cX2_send.data.toList.drop 48 = dktX2_send_2 := dk_seg dksX2_send_1 24 rfl rfl
theorem dksX2_send_3 : cX2_send.data.toList.drop 71 = dktX2_send_3 := dk_seg dksX2_send_2 23 rfl rfl
theorem dX2_send_0 : decode cX2_send 0 = .ok (.aload_n 0, 1) := dk_42 (dk_at dksX2_send_0 0 rfl rfl)
theorem dX2_send_1 : decode cX2_send 1 = .ok (.iload_n 1, 1) := dk_27 (dk_at dksX2_send_0 1 rfl rfl)
theorem dX2_send_2 : decode cX2_send 2 = .ok (.bipush 9, 2) := dk_16 9 (dk_at dksX2_send_0 2 rfl rfl)
theorem dX2_send_4 : decode cX2_send 4 = .ok (.idiv, 1) := dk_108 (dk_at dksX2_send_0 4 rfl rfl)
theorem dX2_send_5 : decode cX2_send 5 = .ok (.putfield 9, 3) := dk_181 0 9 (dk_at dksX2_send_0 5 rfl rfl)
theorem dX2_send_8 : decode cX2_send 8 = .ok (.aload_n 0, 1) := dk_42 (dk_at dksX2_send_0 8 rfl rfl)
theorem dX2_send_9 : decode cX2_send 9 = .ok (.iload_n 1, 1) := dk_27 (dk_at dksX2_send_0 9 rfl rfl)
theorem dX2_send_10 : decode cX2_send 10 = .ok (.bipush 9, 2) := dk_16 9 (dk_at dksX2_send_0 10 rfl rfl)
theorem dX2_send_12 : decode cX2_send 12 = .ok (.irem, 1) := dk_112 (dk_at dksX2_send_0 12 rfl rfl)
theorem dX2_send_13 : decode cX2_send 13 = .ok (.putfield 15, 3) := dk_181 0 15 (dk_at dksX2_send_0 13 rfl rfl)
theorem dX2_send_16 : decode cX2_send 16 = .ok (.aload_n 0, 1) := dk_42 (dk_at dksX2_send_0 16 rfl rfl)
theorem dX2_send_17 : decode cX2_send 17 = .ok (.iload_n 2, 1) := dk_28 (dk_at dksX2_send_0 17 rfl rfl)
theorem dX2_send_18 : decode cX2_send 18 = .ok (.bipush 7, 2) := dk_16 7 (dk_at dksX2_send_0 18 rfl rfl)
theorem dX2_send_20 : decode cX2_send 20 = .ok (.if_icmp .eq 8, 3) := dk_159 0 8 (dk_at dksX2_send_0 20 rfl rfl)
theorem dX2_send_23 : decode cX2_send 23 = .ok (.iload_n 2, 1) := dk_28 (dk_at dksX2_send_0 23 rfl rfl)
theorem dX2_send_24 : decode cX2_send 24 = .ok (.iconst 2, 1) := dk_5 (dk_at dksX2_send_1 0 rfl rfl)
theorem dX2_send_25 : decode cX2_send 25 = .ok (.if_icmp .ge 7, 3) := dk_162 0 7 (dk_at dksX2_send_1 1 rfl rfl)
theorem dX2_send_28 : decode cX2_send 28 = .ok (.iconst (-1), 1) := dk_2 (dk_at dksX2_send_1 4 rfl rfl)
theorem dX2_send_29 : decode cX2_send 29 = .ok (.goto 19, 3) := dk_167 0 19 (dk_at dksX2_send_1 5 rfl rfl)
theorem dX2_send_32 : decode cX2_send 32 = .ok (.iload_n 2, 1) := dk_28 (dk_at dksX2_send_1 8 rfl rfl)
theorem dX2_send_33 : decode cX2_send 33 = .ok (.iconst 2, 1) := dk_5 (dk_at dksX2_send_1 9 rfl rfl)
theorem dX2_send_34 : decode cX2_send 34 = .ok (.if_icmp .le 13, 3) := dk_164 0 13 (dk_at dksX2_send_1 10 rfl rfl)
theorem dX2_send_37 : decode cX2_send 37 = .ok (.iload_n 2, 1) := dk_28 (dk_at dksX2_send_1 13 rfl rfl)
theorem dX2_send_38 : decode cX2_send 38 = .ok (.bipush 6, 2) := dk_16 6 (dk_at dksX2_send_1 14 rfl rfl)
theorem dX2_send_40 : decode cX2_send 40 = .ok (.if_icmp .ge 7, 3) := dk_162 0 7 (dk_at dksX2_send_1 16 rfl rfl)
theorem dX2_send_43 : decode cX2_send 43 = .ok (.iconst 1, 1) := dk_4 (dk_at dksX2_send_1 19 rfl rfl)
theorem dX2_send_44 : decode cX2_send 44 = .ok (.goto 4, 3) := dk_167 0 4 (dk_at dksX2_send_1 20 rfl rfl)
theorem dX2_send_47 : decode cX2_send 47 = .ok (.iconst 0, 1) := dk_3 (dk_at dksX2_send_1 23 rfl rfl)
theorem dX2_send_48 : decode cX2_send 48 = .ok (.putfield 18, 3) := dk_181 0 18 (dk_at dksX2_send_2 0 rfl rfl)
theorem dX2_send_51 : decode cX2_send 51 = .ok (.aload_n 0, 1) := dk_42 (dk_at dksX2_send_2 3 rfl rfl)
theorem dX2_send_52 : decode cX2_send 52 = .ok (.iload_n 2, 1) := dk_28 (dk_at dksX2_send_2 4 rfl rfl)
theorem dX2_send_53 : decode cX2_send 53 = .ok (.ifCond .le 12, 3) := dk_158 0 12 (dk_at dksX2_send_2 5 rfl rfl)
theorem dX2_send_56 : decode cX2_send 56 = .ok (.iload_n 2, 1) := dk_28 (dk_at dksX2_send_2 8 rfl rfl)
theorem dX2_send_57 : decode cX2_send 57 = .ok (.iconst 4, 1) := dk_7 (dk_at dksX2_send_2 9 rfl rfl)
theorem dX2_send_58 : decode cX2_send 58 = .ok (.if_icmp .ge 7, 3) := dk_162 0 7 (dk_at dksX2_send_2 10 rfl rfl)
theorem dX2_send_61 : decode cX2_send 61 = .ok (.iconst 1, 1) := dk_4 (dk_at dksX2_send_2 13 rfl rfl)
theorem dX2_send_62 : decode cX2_send 62 = .ok (.goto 13, 3) := dk_167 0 13 (dk_at dksX2_send_2 14 rfl rfl)
theorem dX2_send_65 : decode cX2_send 65 = .ok (.iload_n 2, 1) := dk_28 (dk_at dksX2_send_2 17 rfl rfl)
theorem dX2_send_66 : decode cX2_send 66 = .ok (.iconst 4, 1) := dk_7 (dk_at dksX2_send_2 18 rfl rfl)
theorem dX2_send_67 : decode cX2_send 67 = .ok (.if_icmp .le 7, 3) := dk_164 0 7 (dk_at dksX2_send_2 19 rfl rfl)
theorem dX2_send_70 : decode cX2_send 70 = .ok (.iconst (-1), 1) := dk_2 (dk_at dksX2_send_2 22 rfl rfl)
theorem dX2_send_71 : decode cX2_send 71 = .ok (.goto 4, 3) := dk_167 0 4 (dk_at dksX2_send_3 0 rfl rfl)
theorem dX2_send_74 : decode cX2_send 74 = .ok (.iconst 0, 1) := dk_3 (dk_at dksX2_send_3 3 rfl rfl)
theorem dX2_send_75 : decode cX2_send 75 = .ok (.putfield 21, 3) := dk_181 0 21 (dk_at dksX2_send_3 4 rfl rfl)
theorem dX2_send_78 : decode cX2_send 78 = .ok (.aload_n 0, 1) := dk_42 (dk_at dksX2_send_3 7 rfl rfl)
theorem dX2_send_79 : decode cX2_send 79 = .ok (.iconst 0, 1) := dk_3 (dk_at dksX2_send_3 8 rfl rfl)
theorem dX2_send_80 : decode cX2_send 80 = .ok (.putfield 24, 3) := dk_181 0 24 (dk_at dksX2_send_3 9 rfl rfl)
theorem dX2_send_83 : decode cX2_send 83 = .ok (.return_, 1) := dk_177 (dk_at dksX2_send_3 12 rfl rfl)
abbrev cX2_next : ByteArray := prog_2_method_3_code
def yX2_next : MethodName := ⟨RX2, "next", "()I"⟩
def dkwX2_next_5 : List UInt8 := [180, 0, 18, 96, 104, 42, 180, 0, 15, 96, 42, 180, 0, 21, 96, 172]
abbrev dktX2_next_5 : List UInt8 := dkwX2_next_5 ++ []
def dkwX2_next_4 : List UInt8 := [28, 153, 0, 7, 4, 167, 0, 4, 3, 184, 0, 31, 96, 181, 0, 24, 16, 9, 42, 180, 0, 9, 42]
abbrev dktX2_next_4 : List UInt8 := dkwX2_next_4 ++ dktX2_next_5
def dkwX2_next_3 : List UInt8 := [42, 180, 0, 21, 116, 167, 0, 7, 42, 180, 0, 21, 181, 0, 21, 42, 89, 180, 0, 24, 27, 154, 0, 7]
abbrev dktX2_next_3 : List UInt8 := dkwX2_next_3 ++ dktX2_next_4
def dkwX2_next_2 : List UInt8 := [27, 153, 0, 11, 42, 180, 0, 18, 116, 167, 0, 7, 42, 180, 0, 18, 181, 0, 18, 42, 28, 153, 0, 11]
abbrev dktX2_next_2 : List UInt8 := dkwX2_next_2 ++ dktX2_next_3
def dkwX2_next_1 : List UInt8 := [180, 0, 15, 42, 180, 0, 21, 96, 3, 16, 8, 184, 0, 27, 154, 0, 7, 4, 167, 0, 4, 3, 61, 42]
abbrev dktX2_next_1 : List UInt8 := dkwX2_next_1 ++ dktX2_next_2
def dkwX2_next_0 : List UInt8 := [42, 180, 0, 9, 42, 180, 0, 18, 96, 3, 7, 184, 0, 27, 154, 0, 7, 4, 167, 0, 4, 3, 60, 42]
abbrev dktX2_next_0 : List UInt8 := dkwX2_next_0 ++ dktX2_next_1
theorem dksX2_next_0 : cX2_next.data.toList.drop 0 = dktX2_next_0 := by decide +kernel
theorem dksX2_next_1 : cX2_next.data.toList.drop 24 = dktX2_next_1 := dk_seg dksX2_next_0 24 rfl rfl
theorem dksX2_next_2 : cX2_next.data.toList.drop 48 = dktX2_next_2 := dk_seg dksX2_next_1 24 rfl rfl
theorem dksX2_next_3 : cX2_next.data.toList.drop 72 = dktX2_next_3 := dk_seg dksX2_next_2 24 rfl rfl
theorem dksX2_next_4 : cX2_next.data.toList.drop 96 = dktX2_next_4 := dk_seg dksX2_next_3 24 rfl rfl
theorem dksX2_next_5 : cX2_next.data.toList.drop 119 = dktX2_next_5 := dk_seg dksX2_next_4 23 rfl rfl
theorem dX2_next_0 : decode cX2_next 0 = .ok (.aload_n 0, 1) := dk_42 (dk_at dksX2_next_0 0 rfl rfl)
theorem dX2_next_1 : decode cX2_next 1 = .ok (.getfield 9, 3) := dk_180 0 9 (dk_at dksX2_next_0 1 rfl rfl)
theorem dX2_next_4 : decode cX2_next 4 = .ok (.aload_n 0, 1) := dk_42 (dk_at dksX2_next_0 4 rfl rfl)
theorem dX2_next_5 : decode cX2_next 5 = .ok (.getfield 18, 3) := dk_180 0 18 (dk_at dksX2_next_0 5 rfl rfl)
theorem dX2_next_8 : decode cX2_next 8 = .ok (.iadd, 1) := dk_96 (dk_at dksX2_next_0 8 rfl rfl)
theorem dX2_next_9 : decode cX2_next 9 = .ok (.iconst 0, 1) := dk_3 (dk_at dksX2_next_0 9 rfl rfl)
theorem dX2_next_10 : decode cX2_next 10 = .ok (.iconst 4, 1) := dk_7 (dk_at dksX2_next_0 10 rfl rfl)
theorem dX2_next_11 : decode cX2_next 11 = .ok (.invokestatic 27, 3) := dk_184 0 27 (dk_at dksX2_next_0 11 rfl rfl)
theorem dX2_next_14 : decode cX2_next 14 = .ok (.ifCond .ne 7, 3) := dk_154 0 7 (dk_at dksX2_next_0 14 rfl rfl)
theorem dX2_next_17 : decode cX2_next 17 = .ok (.iconst 1, 1) := dk_4 (dk_at dksX2_next_0 17 rfl rfl)
theorem dX2_next_18 : decode cX2_next 18 = .ok (.goto 4, 3) := dk_167 0 4 (dk_at dksX2_next_0 18 rfl rfl)
theorem dX2_next_21 : decode cX2_next 21 = .ok (.iconst 0, 1) := dk_3 (dk_at dksX2_next_0 21 rfl rfl)
theorem dX2_next_22 : decode cX2_next 22 = .ok (.istore_n 1, 1) := dk_60 (dk_at dksX2_next_0 22 rfl rfl)
theorem dX2_next_23 : decode cX2_next 23 = .ok (.aload_n 0, 1) := dk_42 (dk_at dksX2_next_0 23 rfl rfl)
theorem dX2_next_24 : decode cX2_next 24 = .ok (.getfield 15, 3) := dk_180 0 15 (dk_at dksX2_next_1 0 rfl rfl)
theorem dX2_next_27 : decode cX2_next 27 = .ok (.aload_n 0, 1) := dk_42 (dk_at dksX2_next_1 3 rfl rfl)
theorem dX2_next_28 : decode cX2_next 28 = .ok (.getfield 21, 3) := dk_180 0 21 (dk_at dksX2_next_1 4 rfl rfl)
theorem dX2_next_31 : decode cX2_next 31 = .ok (.iadd, 1) := dk_96 (dk_at dksX2_next_1 7 rfl rfl)
theorem dX2_next_32 : decode cX2_next 32 = .ok (.iconst 0, 1) := dk_3 (dk_at dksX2_next_1 8 rfl rfl)
theorem dX2_next_33 : decode cX2_next 33 = .ok (.bipush 8, 2) := dk_16 8 (dk_at dksX2_next_1 9 rfl rfl)
theorem dX2_next_35 : decode cX2_next 35 = .ok (.invokestatic 27, 3) := dk_184 0 27 (dk_at dksX2_next_1 11 rfl rfl)
theorem dX2_next_38 : decode cX2_next 38 = .ok (.ifCond .ne 7, 3) := dk_154 0 7 (dk_at dksX2_next_1 14 rfl rfl)
theorem dX2_next_41 : decode cX2_next 41 = .ok (.iconst 1, 1) := dk_4 (dk_at dksX2_next_1 17 rfl rfl)
theorem dX2_next_42 : decode cX2_next 42 = .ok (.goto 4, 3) := dk_167 0 4 (dk_at dksX2_next_1 18 rfl rfl)
theorem dX2_next_45 : decode cX2_next 45 = .ok (.iconst 0, 1) := dk_3 (dk_at dksX2_next_1 21 rfl rfl)
theorem dX2_next_46 : decode cX2_next 46 = .ok (.istore_n 2, 1) := dk_61 (dk_at dksX2_next_1 22 rfl rfl)
theorem dX2_next_47 : decode cX2_next 47 = .ok (.aload_n 0, 1) := dk_42 (dk_at dksX2_next_1 23 rfl rfl)
theorem dX2_next_48 : decode cX2_next 48 = .ok (.iload_n 1, 1) := dk_27 (dk_at dksX2_next_2 0 rfl rfl)
theorem dX2_next_49 : decode cX2_next 49 = .ok (.ifCond .eq 11, 3) := dk_153 0 11 (dk_at dksX2_next_2 1 rfl rfl)
theorem dX2_next_52 : decode cX2_next 52 = .ok (.aload_n 0, 1) := dk_42 (dk_at dksX2_next_2 4 rfl rfl)
theorem dX2_next_53 : decode cX2_next 53 = .ok (.getfield 18, 3) := dk_180 0 18 (dk_at dksX2_next_2 5 rfl rfl)
theorem dX2_next_56 : decode cX2_next 56 = .ok (.ineg, 1) := dk_116 (dk_at dksX2_next_2 8 rfl rfl)
theorem dX2_next_57 : decode cX2_next 57 = .ok (.goto 7, 3) := dk_167 0 7 (dk_at dksX2_next_2 9 rfl rfl)
theorem dX2_next_60 : decode cX2_next 60 = .ok (.aload_n 0, 1) := dk_42 (dk_at dksX2_next_2 12 rfl rfl)
theorem dX2_next_61 : decode cX2_next 61 = .ok (.getfield 18, 3) := dk_180 0 18 (dk_at dksX2_next_2 13 rfl rfl)
theorem dX2_next_64 : decode cX2_next 64 = .ok (.putfield 18, 3) := dk_181 0 18 (dk_at dksX2_next_2 16 rfl rfl)
theorem dX2_next_67 : decode cX2_next 67 = .ok (.aload_n 0, 1) := dk_42 (dk_at dksX2_next_2 19 rfl rfl)
theorem dX2_next_68 : decode cX2_next 68 = .ok (.iload_n 2, 1) := dk_28 (dk_at dksX2_next_2 20 rfl rfl)
theorem dX2_next_69 : decode cX2_next 69 = .ok (.ifCond .eq 11, 3) := dk_153 0 11 (dk_at dksX2_next_2 21 rfl rfl)
theorem dX2_next_72 : decode cX2_next 72 = .ok (.aload_n 0, 1) := dk_42 (dk_at dksX2_next_3 0 rfl rfl)
theorem dX2_next_73 : decode cX2_next 73 = .ok (.getfield 21, 3) := dk_180 0 21 (dk_at dksX2_next_3 1 rfl rfl)
theorem dX2_next_76 : decode cX2_next 76 = .ok (.ineg, 1) := dk_116 (dk_at dksX2_next_3 4 rfl rfl)
theorem dX2_next_77 : decode cX2_next 77 = .ok (.goto 7, 3) := dk_167 0 7 (dk_at dksX2_next_3 5 rfl rfl)
theorem dX2_next_80 : decode cX2_next 80 = .ok (.aload_n 0, 1) := dk_42 (dk_at dksX2_next_3 8 rfl rfl)
theorem dX2_next_81 : decode cX2_next 81 = .ok (.getfield 21, 3) := dk_180 0 21 (dk_at dksX2_next_3 9 rfl rfl)
theorem dX2_next_84 : decode cX2_next 84 = .ok (.putfield 21, 3) := dk_181 0 21 (dk_at dksX2_next_3 12 rfl rfl)
theorem dX2_next_87 : decode cX2_next 87 = .ok (.aload_n 0, 1) := dk_42 (dk_at dksX2_next_3 15 rfl rfl)
theorem dX2_next_88 : decode cX2_next 88 = .ok (.dup, 1) := dk_89 (dk_at dksX2_next_3 16 rfl rfl)
theorem dX2_next_89 : decode cX2_next 89 = .ok (.getfield 24, 3) := dk_180 0 24 (dk_at dksX2_next_3 17 rfl rfl)
theorem dX2_next_92 : decode cX2_next 92 = .ok (.iload_n 1, 1) := dk_27 (dk_at dksX2_next_3 20 rfl rfl)
theorem dX2_next_93 : decode cX2_next 93 = .ok (.ifCond .ne 7, 3) := dk_154 0 7 (dk_at dksX2_next_3 21 rfl rfl)
theorem dX2_next_96 : decode cX2_next 96 = .ok (.iload_n 2, 1) := dk_28 (dk_at dksX2_next_4 0 rfl rfl)
theorem dX2_next_97 : decode cX2_next 97 = .ok (.ifCond .eq 7, 3) := dk_153 0 7 (dk_at dksX2_next_4 1 rfl rfl)
theorem dX2_next_100 : decode cX2_next 100 = .ok (.iconst 1, 1) := dk_4 (dk_at dksX2_next_4 4 rfl rfl)
theorem dX2_next_101 : decode cX2_next 101 = .ok (.goto 4, 3) := dk_167 0 4 (dk_at dksX2_next_4 5 rfl rfl)
theorem dX2_next_104 : decode cX2_next 104 = .ok (.iconst 0, 1) := dk_3 (dk_at dksX2_next_4 8 rfl rfl)
theorem dX2_next_105 : decode cX2_next 105 = .ok (.invokestatic 31, 3) := dk_184 0 31 (dk_at dksX2_next_4 9 rfl rfl)
theorem dX2_next_108 : decode cX2_next 108 = .ok (.iadd, 1) := dk_96 (dk_at dksX2_next_4 12 rfl rfl)
theorem dX2_next_109 : decode cX2_next 109 = .ok (.putfield 24, 3) := dk_181 0 24 (dk_at dksX2_next_4 13 rfl rfl)
theorem dX2_next_112 : decode cX2_next 112 = .ok (.bipush 9, 2) := dk_16 9 (dk_at dksX2_next_4 16 rfl rfl)
theorem dX2_next_114 : decode cX2_next 114 = .ok (.aload_n 0, 1) := dk_42 (dk_at dksX2_next_4 18 rfl rfl)
theorem dX2_next_115 : decode cX2_next 115 = .ok (.getfield 9, 3) := dk_180 0 9 (dk_at dksX2_next_4 19 rfl rfl)
theorem dX2_next_118 : decode cX2_next 118 = .ok (.aload_n 0, 1) := dk_42 (dk_at dksX2_next_4 22 rfl rfl)
theorem dX2_next_119 : decode cX2_next 119 = .ok (.getfield 18, 3) := dk_180 0 18 (dk_at dksX2_next_5 0 rfl rfl)
theorem dX2_next_122 : decode cX2_next 122 = .ok (.iadd, 1) := dk_96 (dk_at dksX2_next_5 3 rfl rfl)
theorem dX2_next_123 : decode cX2_next 123 = .ok (.imul, 1) := dk_104 (dk_at dksX2_next_5 4 rfl rfl)
theorem dX2_next_124 : decode cX2_next 124 = .ok (.aload_n 0, 1) := dk_42 (dk_at dksX2_next_5 5 rfl rfl)
theorem dX2_next_125 : decode cX2_next 125 = .ok (.getfield 15, 3) := dk_180 0 15 (dk_at dksX2_next_5 6 rfl rfl)
theorem dX2_next_128 : decode cX2_next 128 = .ok (.iadd, 1) := dk_96 (dk_at dksX2_next_5 9 rfl rfl)
theorem dX2_next_129 : decode cX2_next 129 = .ok (.aload_n 0, 1) := dk_42 (dk_at dksX2_next_5 10 rfl rfl)
theorem dX2_next_130 : decode cX2_next 130 = .ok (.getfield 21, 3) := dk_180 0 21 (dk_at dksX2_next_5 11 rfl rfl)
theorem dX2_next_133 : decode cX2_next 133 = .ok (.iadd, 1) := dk_96 (dk_at dksX2_next_5 14 rfl rfl)
theorem dX2_next_134 : decode cX2_next 134 = .ok (.ireturn, 1) := dk_172 (dk_at dksX2_next_5 15 rfl rfl)
abbrev cX2_goFrom : ByteArray := prog_2_method_5_code
def yX2_goFrom : MethodName := ⟨RX2, "goFrom", "(I)V"⟩
def dkwX2_goFrom_0 : List UInt8 := [42, 27, 16, 9, 108, 181, 0, 9, 42, 27, 16, 9, 112, 181, 0, 15, 177]
abbrev dktX2_goFrom_0 : List UInt8 := dkwX2_goFrom_0 ++ []
theorem dksX2_goFrom_0 : cX2_goFrom.data.toList.drop 0 = dktX2_goFrom_0 := by decide +kernel
theorem dX2_goFrom_0 : decode cX2_goFrom 0 = .ok (.aload_n 0, 1) := dk_42 (dk_at dksX2_goFrom_0 0 rfl rfl)
theorem dX2_goFrom_1 : decode cX2_goFrom 1 = .ok (.iload_n 1, 1) := dk_27 (dk_at dksX2_goFrom_0 1 rfl rfl)
theorem dX2_goFrom_2 : decode cX2_goFrom 2 = .ok (.bipush 9, 2) := dk_16 9 (dk_at dksX2_goFrom_0 2 rfl rfl)
theorem dX2_goFrom_4 : decode cX2_goFrom 4 = .ok (.idiv, 1) := dk_108 (dk_at dksX2_goFrom_0 4 rfl rfl)
theorem dX2_goFrom_5 : decode cX2_goFrom 5 = .ok (.putfield 9, 3) := dk_181 0 9 (dk_at dksX2_goFrom_0 5 rfl rfl)
theorem dX2_goFrom_8 : decode cX2_goFrom 8 = .ok (.aload_n 0, 1) := dk_42 (dk_at dksX2_goFrom_0 8 rfl rfl)
theorem dX2_goFrom_9 : decode cX2_goFrom 9 = .ok (.iload_n 1, 1) := dk_27 (dk_at dksX2_goFrom_0 9 rfl rfl)
theorem dX2_goFrom_10 : decode cX2_goFrom 10 = .ok (.bipush 9, 2) := dk_16 9 (dk_at dksX2_goFrom_0 10 rfl rfl)
theorem dX2_goFrom_12 : decode cX2_goFrom 12 = .ok (.irem, 1) := dk_112 (dk_at dksX2_goFrom_0 12 rfl rfl)
theorem dX2_goFrom_13 : decode cX2_goFrom 13 = .ok (.putfield 15, 3) := dk_181 0 15 (dk_at dksX2_goFrom_0 13 rfl rfl)
theorem dX2_goFrom_16 : decode cX2_goFrom 16 = .ok (.return_, 1) := dk_177 (dk_at dksX2_goFrom_0 16 rfl rfl)
abbrev cX2_go : ByteArray := prog_2_method_4_code
def yX2_go : MethodName := ⟨RX2, "go", "()V"⟩
def dkwX2_go_1 : List UInt8 := [181, 0, 15, 177]
abbrev dktX2_go_1 : List UInt8 := dkwX2_go_1 ++ []
def dkwX2_go_0 : List UInt8 := [42, 89, 180, 0, 9, 42, 180, 0, 18, 96, 181, 0, 9, 42, 89, 180, 0, 15, 42, 180, 0, 21, 96]
abbrev dktX2_go_0 : List UInt8 := dkwX2_go_0 ++ dktX2_go_1
theorem dksX2_go_0 : cX2_go.data.toList.drop 0 = dktX2_go_0 := by decide +kernel
theorem dksX2_go_1 : cX2_go.data.toList.drop 23 = dktX2_go_1 := dk_seg dksX2_go_0 23 rfl rfl
theorem dX2_go_0 : decode cX2_go 0 = .ok (.aload_n 0, 1) := dk_42 (dk_at dksX2_go_0 0 rfl rfl)
theorem dX2_go_1 : decode cX2_go 1 = .ok (.dup, 1) := dk_89 (dk_at dksX2_go_0 1 rfl rfl)
theorem dX2_go_2 : decode cX2_go 2 = .ok (.getfield 9, 3) := dk_180 0 9 (dk_at dksX2_go_0 2 rfl rfl)
theorem dX2_go_5 : decode cX2_go 5 = .ok (.aload_n 0, 1) := dk_42 (dk_at dksX2_go_0 5 rfl rfl)
theorem dX2_go_6 : decode cX2_go 6 = .ok (.getfield 18, 3) := dk_180 0 18 (dk_at dksX2_go_0 6 rfl rfl)
theorem dX2_go_9 : decode cX2_go 9 = .ok (.iadd, 1) := dk_96 (dk_at dksX2_go_0 9 rfl rfl)
theorem dX2_go_10 : decode cX2_go 10 = .ok (.putfield 9, 3) := dk_181 0 9 (dk_at dksX2_go_0 10 rfl rfl)
theorem dX2_go_13 : decode cX2_go 13 = .ok (.aload_n 0, 1) := dk_42 (dk_at dksX2_go_0 13 rfl rfl)
theorem dX2_go_14 : decode cX2_go 14 = .ok (.dup, 1) := dk_89 (dk_at dksX2_go_0 14 rfl rfl)
theorem dX2_go_15 : decode cX2_go 15 = .ok (.getfield 15, 3) := dk_180 0 15 (dk_at dksX2_go_0 15 rfl rfl)
theorem dX2_go_18 : decode cX2_go 18 = .ok (.aload_n 0, 1) := dk_42 (dk_at dksX2_go_0 18 rfl rfl)
theorem dX2_go_19 : decode cX2_go 19 = .ok (.getfield 21, 3) := dk_180 0 21 (dk_at dksX2_go_0 19 rfl rfl)
theorem dX2_go_22 : decode cX2_go 22 = .ok (.iadd, 1) := dk_96 (dk_at dksX2_go_0 22 rfl rfl)
theorem dX2_go_23 : decode cX2_go 23 = .ok (.putfield 15, 3) := dk_181 0 15 (dk_at dksX2_go_1 0 rfl rfl)
theorem dX2_go_26 : decode cX2_go 26 = .ok (.return_, 1) := dk_177 (dk_at dksX2_go_1 3 rfl rfl)
abbrev cX2_cell : ByteArray := prog_2_method_6_code
def yX2_cell : MethodName := ⟨RX2, "cell", "()I"⟩
def dkwX2_cell_0 : List UInt8 := [16, 9, 42, 180, 0, 9, 104, 42, 180, 0, 15, 96, 172]
abbrev dktX2_cell_0 : List UInt8 := dkwX2_cell_0 ++ []
theorem dksX2_cell_0 : cX2_cell.data.toList.drop 0 = dktX2_cell_0 := by decide +kernel
theorem dX2_cell_0 : decode cX2_cell 0 = .ok (.bipush 9, 2) := dk_16 9 (dk_at dksX2_cell_0 0 rfl rfl)
theorem dX2_cell_2 : decode cX2_cell 2 = .ok (.aload_n 0, 1) := dk_42 (dk_at dksX2_cell_0 2 rfl rfl)
theorem dX2_cell_3 : decode cX2_cell 3 = .ok (.getfield 9, 3) := dk_180 0 9 (dk_at dksX2_cell_0 3 rfl rfl)
theorem dX2_cell_6 : decode cX2_cell 6 = .ok (.imul, 1) := dk_104 (dk_at dksX2_cell_0 6 rfl rfl)
theorem dX2_cell_7 : decode cX2_cell 7 = .ok (.aload_n 0, 1) := dk_42 (dk_at dksX2_cell_0 7 rfl rfl)
theorem dX2_cell_8 : decode cX2_cell 8 = .ok (.getfield 15, 3) := dk_180 0 15 (dk_at dksX2_cell_0 8 rfl rfl)
theorem dX2_cell_11 : decode cX2_cell 11 = .ok (.iadd, 1) := dk_96 (dk_at dksX2_cell_0 11 rfl rfl)
theorem dX2_cell_12 : decode cX2_cell 12 = .ok (.ireturn, 1) := dk_172 (dk_at dksX2_cell_0 12 rfl rfl)
abbrev cX2_way : ByteArray := prog_2_method_7_code
def yX2_way : MethodName := ⟨RX2, "way", "()I"⟩
def dkwX2_way_3 : List UInt8 := [167, 0, 4, 8, 172]
abbrev dktX2_way_3 : List UInt8 := dkwX2_way_3 ++ []
def dkwX2_way_2 : List UInt8 := [167, 0, 26, 42, 180, 0, 21, 158, 0, 7, 6, 167, 0, 15, 42, 180, 0, 21, 154, 0, 7, 7]
abbrev dktX2_way_2 : List UInt8 := dkwX2_way_2 ++ dktX2_way_3
def dkwX2_way_1 : List UInt8 := [167, 0, 49, 42, 180, 0, 18, 154, 0, 19, 42, 180, 0, 21, 158, 0, 7, 5, 167, 0, 31, 16, 6]
abbrev dktX2_way_1 : List UInt8 := dkwX2_way_1 ++ dktX2_way_2
def dkwX2_way_0 : List UInt8 := [42, 180, 0, 18, 156, 0, 22, 42, 180, 0, 21, 156, 0, 8, 16, 7, 167, 0, 56, 42, 180, 0, 21]
abbrev dktX2_way_0 : List UInt8 := dkwX2_way_0 ++ dktX2_way_1
theorem dksX2_way_0 : cX2_way.data.toList.drop 0 = dktX2_way_0 := by decide +kernel
theorem dksX2_way_1 : cX2_way.data.toList.drop 23 = dktX2_way_1 := dk_seg dksX2_way_0 23 rfl rfl
theorem dksX2_way_2 : cX2_way.data.toList.drop 46 = dktX2_way_2 := dk_seg dksX2_way_1 23 rfl rfl
theorem dksX2_way_3 : cX2_way.data.toList.drop 68 = dktX2_way_3 := dk_seg dksX2_way_2 22 rfl rfl
theorem dX2_way_0 : decode cX2_way 0 = .ok (.aload_n 0, 1) := dk_42 (dk_at dksX2_way_0 0 rfl rfl)
theorem dX2_way_1 : decode cX2_way 1 = .ok (.getfield 18, 3) := dk_180 0 18 (dk_at dksX2_way_0 1 rfl rfl)
theorem dX2_way_4 : decode cX2_way 4 = .ok (.ifCond .ge 22, 3) := dk_156 0 22 (dk_at dksX2_way_0 4 rfl rfl)
theorem dX2_way_7 : decode cX2_way 7 = .ok (.aload_n 0, 1) := dk_42 (dk_at dksX2_way_0 7 rfl rfl)
theorem dX2_way_8 : decode cX2_way 8 = .ok (.getfield 21, 3) := dk_180 0 21 (dk_at dksX2_way_0 8 rfl rfl)
theorem dX2_way_11 : decode cX2_way 11 = .ok (.ifCond .ge 8, 3) := dk_156 0 8 (dk_at dksX2_way_0 11 rfl rfl)
theorem dX2_way_14 : decode cX2_way 14 = .ok (.bipush 7, 2) := dk_16 7 (dk_at dksX2_way_0 14 rfl rfl)
theorem dX2_way_16 : decode cX2_way 16 = .ok (.goto 56, 3) := dk_167 0 56 (dk_at dksX2_way_0 16 rfl rfl)
theorem dX2_way_19 : decode cX2_way 19 = .ok (.aload_n 0, 1) := dk_42 (dk_at dksX2_way_0 19 rfl rfl)
theorem dX2_way_20 : decode cX2_way 20 = .ok (.getfield 21, 3) := dk_180 0 21 (dk_at dksX2_way_0 20 rfl rfl)
theorem dX2_way_23 : decode cX2_way 23 = .ok (.goto 49, 3) := dk_167 0 49 (dk_at dksX2_way_1 0 rfl rfl)
theorem dX2_way_26 : decode cX2_way 26 = .ok (.aload_n 0, 1) := dk_42 (dk_at dksX2_way_1 3 rfl rfl)
theorem dX2_way_27 : decode cX2_way 27 = .ok (.getfield 18, 3) := dk_180 0 18 (dk_at dksX2_way_1 4 rfl rfl)
theorem dX2_way_30 : decode cX2_way 30 = .ok (.ifCond .ne 19, 3) := dk_154 0 19 (dk_at dksX2_way_1 7 rfl rfl)
theorem dX2_way_33 : decode cX2_way 33 = .ok (.aload_n 0, 1) := dk_42 (dk_at dksX2_way_1 10 rfl rfl)
theorem dX2_way_34 : decode cX2_way 34 = .ok (.getfield 21, 3) := dk_180 0 21 (dk_at dksX2_way_1 11 rfl rfl)
theorem dX2_way_37 : decode cX2_way 37 = .ok (.ifCond .le 7, 3) := dk_158 0 7 (dk_at dksX2_way_1 14 rfl rfl)
theorem dX2_way_40 : decode cX2_way 40 = .ok (.iconst 2, 1) := dk_5 (dk_at dksX2_way_1 17 rfl rfl)
theorem dX2_way_41 : decode cX2_way 41 = .ok (.goto 31, 3) := dk_167 0 31 (dk_at dksX2_way_1 18 rfl rfl)
theorem dX2_way_44 : decode cX2_way 44 = .ok (.bipush 6, 2) := dk_16 6 (dk_at dksX2_way_1 21 rfl rfl)
theorem dX2_way_46 : decode cX2_way 46 = .ok (.goto 26, 3) := dk_167 0 26 (dk_at dksX2_way_2 0 rfl rfl)
theorem dX2_way_49 : decode cX2_way 49 = .ok (.aload_n 0, 1) := dk_42 (dk_at dksX2_way_2 3 rfl rfl)
theorem dX2_way_50 : decode cX2_way 50 = .ok (.getfield 21, 3) := dk_180 0 21 (dk_at dksX2_way_2 4 rfl rfl)
theorem dX2_way_53 : decode cX2_way 53 = .ok (.ifCond .le 7, 3) := dk_158 0 7 (dk_at dksX2_way_2 7 rfl rfl)
theorem dX2_way_56 : decode cX2_way 56 = .ok (.iconst 3, 1) := dk_6 (dk_at dksX2_way_2 10 rfl rfl)
theorem dX2_way_57 : decode cX2_way 57 = .ok (.goto 15, 3) := dk_167 0 15 (dk_at dksX2_way_2 11 rfl rfl)
theorem dX2_way_60 : decode cX2_way 60 = .ok (.aload_n 0, 1) := dk_42 (dk_at dksX2_way_2 14 rfl rfl)
theorem dX2_way_61 : decode cX2_way 61 = .ok (.getfield 21, 3) := dk_180 0 21 (dk_at dksX2_way_2 15 rfl rfl)
theorem dX2_way_64 : decode cX2_way 64 = .ok (.ifCond .ne 7, 3) := dk_154 0 7 (dk_at dksX2_way_2 18 rfl rfl)
theorem dX2_way_67 : decode cX2_way 67 = .ok (.iconst 4, 1) := dk_7 (dk_at dksX2_way_2 21 rfl rfl)
theorem dX2_way_68 : decode cX2_way 68 = .ok (.goto 4, 3) := dk_167 0 4 (dk_at dksX2_way_3 0 rfl rfl)
theorem dX2_way_71 : decode cX2_way 71 = .ok (.iconst 5, 1) := dk_8 (dk_at dksX2_way_3 3 rfl rfl)
theorem dX2_way_72 : decode cX2_way 72 = .ok (.ireturn, 1) := dk_172 (dk_at dksX2_way_3 4 rfl rfl)
theorem q45 : (Jvm.Cond.initialized "BaizeCorps$Path") ∈ lw_all := lw_g (lw_at lw_m1 3 rfl) rfl
theorem q65 : (Jvm.Cond.instantiable "BaizeCorps$Path" (5 : Nat)) ∈ lw_all := lw_g (lw_at lw_m1 23 rfl) rfl
theorem q67 : (Jvm.Cond.instanceMethod ({ cls := "BaizeCorps$Path", name := "<init>", desc := "()V" } : Jvm.MethodName)) ∈ lw_all := lw_g (lw_at lw_m1 25 rfl) rfl
theorem q68 : (Jvm.Cond.code ({ cls := "BaizeCorps$Path", name := "<init>", desc := "()V" } : Jvm.MethodName) prog_2_method_1_code (1 : Nat) (Option.none : Option Jvm.ClassFile.FieldType)) ∈ lw_all := lw_g (lw_at lw_m1 26 rfl) rfl
theorem q69 : (Jvm.Cond.methodLink "BaizeCorps$Path" (3 : Nat) ({ cls := "java/lang/Object", name := "<init>", desc := "()V" } : Jvm.MethodName)) ∈ lw_all := lw_g (lw_at lw_m1 27 rfl) rfl
theorem q70 : (Jvm.Cond.fieldLink "BaizeCorps$Path" (9 : Nat) "BaizeCorps$Path" "row" "I") ∈ lw_all := lw_g (lw_at lw_m1 28 rfl) rfl
theorem q71 : (Jvm.Cond.fieldLink "BaizeCorps$Path" (15 : Nat) "BaizeCorps$Path" "column" "I") ∈ lw_all := lw_g (lw_at lw_m1 29 rfl) rfl
theorem q72 : (Jvm.Cond.fieldLink "BaizeCorps$Path" (18 : Nat) "BaizeCorps$Path" "down" "I") ∈ lw_all := lw_g (lw_at lw_m1 30 rfl) rfl
theorem q73 : (Jvm.Cond.fieldLink "BaizeCorps$Path" (21 : Nat) "BaizeCorps$Path" "right" "I") ∈ lw_all := lw_g (lw_at lw_m1 31 rfl) rfl
theorem q74 : (Jvm.Cond.fieldLink "BaizeCorps$Path" (24 : Nat) "BaizeCorps$Path" "cushions" "I") ∈ lw_all := lw_g (lw_at lw_m1 32 rfl) rfl
theorem q77 : (Jvm.Cond.lays "BaizeCorps$Path" "BaizeCorps$Path" "row" "I") ∈ lw_all := lw_g (lw_at lw_m1 35 rfl) rfl
theorem q78 : (Jvm.Cond.soleField "BaizeCorps$Path" "row") ∈ lw_all := lw_g (lw_at lw_m1 36 rfl) rfl
theorem q79 : (Jvm.Cond.lays "BaizeCorps$Path" "BaizeCorps$Path" "column" "I") ∈ lw_all := lw_g (lw_at lw_m1 37 rfl) rfl
theorem q80 : (Jvm.Cond.soleField "BaizeCorps$Path" "column") ∈ lw_all := lw_g (lw_at lw_m1 38 rfl) rfl
theorem q81 : (Jvm.Cond.lays "BaizeCorps$Path" "BaizeCorps$Path" "down" "I") ∈ lw_all := lw_g (lw_at lw_m1 39 rfl) rfl
theorem q82 : (Jvm.Cond.soleField "BaizeCorps$Path" "down") ∈ lw_all := lw_g (lw_at lw_m1 40 rfl) rfl
theorem q83 : (Jvm.Cond.lays "BaizeCorps$Path" "BaizeCorps$Path" "right" "I") ∈ lw_all := lw_g (lw_at lw_m1 41 rfl) rfl
theorem q84 : (Jvm.Cond.soleField "BaizeCorps$Path" "right") ∈ lw_all := lw_g (lw_at lw_m1 42 rfl) rfl
theorem q85 : (Jvm.Cond.lays "BaizeCorps$Path" "BaizeCorps$Path" "cushions" "I") ∈ lw_all := lw_g (lw_at lw_m1 43 rfl) rfl
theorem q86 : (Jvm.Cond.soleField "BaizeCorps$Path" "cushions") ∈ lw_all := lw_g (lw_at lw_m1 44 rfl) rfl
theorem q87 : (Jvm.Cond.superclass "BaizeCorps$Path" "java/lang/Object") ∈ lw_all := lw_g (lw_at lw_m1 45 rfl) rfl
theorem q277 : (Jvm.Cond.instanceMethod ({ cls := "BaizeCorps$Path", name := "send", desc := "(II)V" } : Jvm.MethodName)) ∈ lw_all := lw_g (lw_at lw_m1 235 rfl) rfl
theorem q278 : (Jvm.Cond.selects "BaizeCorps$Path" ({ cls := "BaizeCorps$Path", name := "send", desc := "(II)V" } : Jvm.MethodName) ({ cls := "BaizeCorps$Path", name := "send", desc := "(II)V" } : Jvm.MethodName)) ∈ lw_all := lw_g (lw_at lw_m1 236 rfl) rfl
theorem q279 : (Jvm.Cond.code ({ cls := "BaizeCorps$Path", name := "send", desc := "(II)V" } : Jvm.MethodName) prog_2_method_2_code (3 : Nat) (Option.none : Option Jvm.ClassFile.FieldType)) ∈ lw_all := lw_g (lw_at lw_m1 237 rfl) rfl
theorem q281 : (Jvm.Cond.instanceMethod ({ cls := "BaizeCorps$Path", name := "next", desc := "()I" } : Jvm.MethodName)) ∈ lw_all := lw_g (lw_at lw_m1 239 rfl) rfl
theorem q282 : (Jvm.Cond.selects "BaizeCorps$Path" ({ cls := "BaizeCorps$Path", name := "next", desc := "()I" } : Jvm.MethodName) ({ cls := "BaizeCorps$Path", name := "next", desc := "()I" } : Jvm.MethodName)) ∈ lw_all := lw_g (lw_at lw_m2 0 rfl) rfl
theorem q283 : (Jvm.Cond.code ({ cls := "BaizeCorps$Path", name := "next", desc := "()I" } : Jvm.MethodName) prog_2_method_3_code (3 : Nat) (Option.some Jvm.ClassFile.FieldType.int)) ∈ lw_all := lw_g (lw_at lw_m2 1 rfl) rfl
theorem q284 : (Jvm.Cond.methodLinkNest "BaizeCorps$Path" (27 : Nat) ({ cls := "BaizeCorps", name := "isIn", desc := "(III)Z" } : Jvm.MethodName) "BaizeCorps") ∈ lw_tbl := lw_at lw_m2 2 rfl
theorem q285 : (Jvm.Cond.methodLinkNest "BaizeCorps$Path" (31 : Nat) ({ cls := "BaizeCorps", name := "asNumber", desc := "(Z)I" } : Jvm.MethodName) "BaizeCorps") ∈ lw_tbl := lw_at lw_m2 3 rfl
theorem q290 : (Jvm.Cond.instanceMethod ({ cls := "BaizeCorps$Path", name := "goFrom", desc := "(I)V" } : Jvm.MethodName)) ∈ lw_all := lw_g (lw_at lw_m2 8 rfl) rfl
theorem q291 : (Jvm.Cond.selects "BaizeCorps$Path" ({ cls := "BaizeCorps$Path", name := "goFrom", desc := "(I)V" } : Jvm.MethodName) ({ cls := "BaizeCorps$Path", name := "goFrom", desc := "(I)V" } : Jvm.MethodName)) ∈ lw_all := lw_g (lw_at lw_m2 9 rfl) rfl
theorem q292 : (Jvm.Cond.code ({ cls := "BaizeCorps$Path", name := "goFrom", desc := "(I)V" } : Jvm.MethodName) prog_2_method_5_code (2 : Nat) (Option.none : Option Jvm.ClassFile.FieldType)) ∈ lw_all := lw_g (lw_at lw_m2 10 rfl) rfl
theorem q294 : (Jvm.Cond.instanceMethod ({ cls := "BaizeCorps$Path", name := "go", desc := "()V" } : Jvm.MethodName)) ∈ lw_all := lw_g (lw_at lw_m2 12 rfl) rfl
theorem q295 : (Jvm.Cond.selects "BaizeCorps$Path" ({ cls := "BaizeCorps$Path", name := "go", desc := "()V" } : Jvm.MethodName) ({ cls := "BaizeCorps$Path", name := "go", desc := "()V" } : Jvm.MethodName)) ∈ lw_all := lw_g (lw_at lw_m2 13 rfl) rfl
theorem q296 : (Jvm.Cond.code ({ cls := "BaizeCorps$Path", name := "go", desc := "()V" } : Jvm.MethodName) prog_2_method_4_code (1 : Nat) (Option.none : Option Jvm.ClassFile.FieldType)) ∈ lw_all := lw_g (lw_at lw_m2 14 rfl) rfl
theorem q349 : (Jvm.Cond.instanceMethod ({ cls := "BaizeCorps$Path", name := "cell", desc := "()I" } : Jvm.MethodName)) ∈ lw_all := lw_g (lw_at lw_m2 67 rfl) rfl
theorem q350 : (Jvm.Cond.selects "BaizeCorps$Path" ({ cls := "BaizeCorps$Path", name := "cell", desc := "()I" } : Jvm.MethodName) ({ cls := "BaizeCorps$Path", name := "cell", desc := "()I" } : Jvm.MethodName)) ∈ lw_all := lw_g (lw_at lw_m2 68 rfl) rfl
theorem q351 : (Jvm.Cond.code ({ cls := "BaizeCorps$Path", name := "cell", desc := "()I" } : Jvm.MethodName) prog_2_method_6_code (1 : Nat) (Option.some Jvm.ClassFile.FieldType.int)) ∈ lw_all := lw_g (lw_at lw_m2 69 rfl) rfl
theorem q357 : (Jvm.Cond.instanceMethod ({ cls := "BaizeCorps$Path", name := "way", desc := "()I" } : Jvm.MethodName)) ∈ lw_all := lw_g (lw_at lw_m2 75 rfl) rfl
theorem q358 : (Jvm.Cond.selects "BaizeCorps$Path" ({ cls := "BaizeCorps$Path", name := "way", desc := "()I" } : Jvm.MethodName) ({ cls := "BaizeCorps$Path", name := "way", desc := "()I" } : Jvm.MethodName)) ∈ lw_all := lw_g (lw_at lw_m2 76 rfl) rfl
theorem q359 : (Jvm.Cond.code ({ cls := "BaizeCorps$Path", name := "way", desc := "()I" } : Jvm.MethodName) prog_2_method_7_code (1 : Nat) (Option.some Jvm.ClassFile.FieldType.int)) ∈ lw_all := lw_g (lw_at lw_m2 77 rfl) rfl
theorem in_X2 : ∀ w ∈ wsX20, w ∈ lw_all := lw_in wsX20 [77, 79, 81, 83, 85] (by decide +kernel) (by decide +kernel)
/-! BaizeCorps$Table -/
set_option maxRecDepth 100000
def RX1 : String := "BaizeCorps$Table"
def TX1 : u_T := fun k => match k with
  | 0 => ("BaizeCorps$Table", "cells", "[I", true)
  | 1 => ("BaizeCorps$Table", "points", "I", false)
  | 2 => ("BaizeCorps$Table", "fouls", "I", false)
  | 3 => ("BaizeCorps$Table", "evening", "I", false)
  | 4 => ("BaizeCorps$Table", "sights", "I", false)
  | 5 => ("BaizeCorps$Table", "seenStep", "[I", true)
  | 6 => ("BaizeCorps$Table", "seenCell", "[I", true)
  | 7 => ("BaizeCorps$Table", "isKept", "Z", false)
  | 8 => ("BaizeCorps$Table", "touches", "I", false)
  | 9 => ("BaizeCorps$Table", "cushions", "I", false)
  | _ => ("BaizeCorps$Table", "path", "LBaizeCorps$Path;", true)
def tyX1 : Nat → FieldType := fun k => match k with
  | 0 => .array .int
  | 1 => .int
  | 2 => .int
  | 3 => .int
  | 4 => .int
  | 5 => .array .int
  | 6 => .array .int
  | 7 => .boolean
  | 8 => .int
  | 9 => .int
  | _ => .object "BaizeCorps$Path"
abbrev wsX10 : List Cond := u_ws RX1 TX1 11
theorem nmX1 : ∀ a, a < 11 → ∀ b, b < 11 → a ≠ b → (TX1 a).2.1 ≠ (TX1 b).2.1 := by decide +kernel
theorem tyX1_ok : ∀ k, k < 11 → parseFieldDescriptor (TX1 k).2.2.1 = some (tyX1 k) := by decide +kernel
abbrev cX1_init : ByteArray := prog_3_method_1_code
def yX1_init : MethodName := ⟨RX1, "<init>", "()V"⟩
def dkwX1_init_2 : List UInt8 := [180, 0, 9, 27, 27, 184, 0, 28, 79, 132, 1, 1, 167, 255, 238, 177]
abbrev dktX1_init_2 : List UInt8 := dkwX1_init_2 ++ []
def dkwX1_init_1 : List UInt8 := [181, 0, 18, 42, 187, 0, 21, 89, 183, 0, 23, 181, 0, 24, 3, 60, 27, 6, 162, 0, 19, 42]
abbrev dktX1_init_1 : List UInt8 := dkwX1_init_1 ++ dktX1_init_2
def dkwX1_init_0 : List UInt8 := [42, 183, 0, 3, 42, 6, 188, 10, 181, 0, 9, 42, 16, 8, 188, 10, 181, 0, 15, 42, 16, 8, 188, 10]
abbrev dktX1_init_0 : List UInt8 := dkwX1_init_0 ++ dktX1_init_1
theorem dksX1_init_0 : cX1_init.data.toList.drop 0 = dktX1_init_0 := by decide +kernel
theorem dksX1_init_1 : cX1_init.data.toList.drop 24 = dktX1_init_1 := dk_seg dksX1_init_0 24 rfl rfl
theorem dksX1_init_2 : cX1_init.data.toList.drop 46 = dktX1_init_2 := dk_seg dksX1_init_1 22 rfl rfl
theorem dX1_init_0 : decode cX1_init 0 = .ok (.aload_n 0, 1) := dk_42 (dk_at dksX1_init_0 0 rfl rfl)
theorem dX1_init_1 : decode cX1_init 1 = .ok (.invokespecial 3, 3) := dk_183 0 3 (dk_at dksX1_init_0 1 rfl rfl)
theorem dX1_init_4 : decode cX1_init 4 = .ok (.aload_n 0, 1) := dk_42 (dk_at dksX1_init_0 4 rfl rfl)
theorem dX1_init_5 : decode cX1_init 5 = .ok (.iconst 3, 1) := dk_6 (dk_at dksX1_init_0 5 rfl rfl)
theorem dX1_init_6 : decode cX1_init 6 = .ok (.newarray .int, 2) := dk_188_10 (dk_at dksX1_init_0 6 rfl rfl)
theorem dX1_init_8 : decode cX1_init 8 = .ok (.putfield 9, 3) := dk_181 0 9 (dk_at dksX1_init_0 8 rfl rfl)
theorem dX1_init_11 : decode cX1_init 11 = .ok (.aload_n 0, 1) := dk_42 (dk_at dksX1_init_0 11 rfl rfl)
theorem dX1_init_12 : decode cX1_init 12 = .ok (.bipush 8, 2) := dk_16 8 (dk_at dksX1_init_0 12 rfl rfl)
theorem dX1_init_14 : decode cX1_init 14 = .ok (.newarray .int, 2) := dk_188_10 (dk_at dksX1_init_0 14 rfl rfl)
theorem dX1_init_16 : decode cX1_init 16 = .ok (.putfield 15, 3) := dk_181 0 15 (dk_at dksX1_init_0 16 rfl rfl)
theorem dX1_init_19 : decode cX1_init 19 = .ok (.aload_n 0, 1) := dk_42 (dk_at dksX1_init_0 19 rfl rfl)
theorem dX1_init_20 : decode cX1_init 20 = .ok (.bipush 8, 2) := dk_16 8 (dk_at dksX1_init_0 20 rfl rfl)
theorem dX1_init_22 : decode cX1_init 22 = .ok (.newarray .int, 2) := dk_188_10 (dk_at dksX1_init_0 22 rfl rfl)
theorem dX1_init_24 : decode cX1_init 24 = .ok (.putfield 18, 3) := dk_181 0 18 (dk_at dksX1_init_1 0 rfl rfl)
theorem dX1_init_27 : decode cX1_init 27 = .ok (.aload_n 0, 1) := dk_42 (dk_at dksX1_init_1 3 rfl rfl)
theorem dX1_init_28 : decode cX1_init 28 = .ok (.new 21, 3) := dk_187 0 21 (dk_at dksX1_init_1 4 rfl rfl)
theorem dX1_init_31 : decode cX1_init 31 = .ok (.dup, 1) := dk_89 (dk_at dksX1_init_1 7 rfl rfl)
theorem dX1_init_32 : decode cX1_init 32 = .ok (.invokespecial 23, 3) := dk_183 0 23 (dk_at dksX1_init_1 8 rfl rfl)
theorem dX1_init_35 : decode cX1_init 35 = .ok (.putfield 24, 3) := dk_181 0 24 (dk_at dksX1_init_1 11 rfl rfl)
theorem dX1_init_38 : decode cX1_init 38 = .ok (.iconst 0, 1) := dk_3 (dk_at dksX1_init_1 14 rfl rfl)
theorem dX1_init_39 : decode cX1_init 39 = .ok (.istore_n 1, 1) := dk_60 (dk_at dksX1_init_1 15 rfl rfl)
theorem dX1_init_40 : decode cX1_init 40 = .ok (.iload_n 1, 1) := dk_27 (dk_at dksX1_init_1 16 rfl rfl)
theorem dX1_init_41 : decode cX1_init 41 = .ok (.iconst 3, 1) := dk_6 (dk_at dksX1_init_1 17 rfl rfl)
theorem dX1_init_42 : decode cX1_init 42 = .ok (.if_icmp .ge 19, 3) := dk_162 0 19 (dk_at dksX1_init_1 18 rfl rfl)
theorem dX1_init_45 : decode cX1_init 45 = .ok (.aload_n 0, 1) := dk_42 (dk_at dksX1_init_1 21 rfl rfl)
theorem dX1_init_46 : decode cX1_init 46 = .ok (.getfield 9, 3) := dk_180 0 9 (dk_at dksX1_init_2 0 rfl rfl)
theorem dX1_init_49 : decode cX1_init 49 = .ok (.iload_n 1, 1) := dk_27 (dk_at dksX1_init_2 3 rfl rfl)
theorem dX1_init_50 : decode cX1_init 50 = .ok (.iload_n 1, 1) := dk_27 (dk_at dksX1_init_2 4 rfl rfl)
theorem dX1_init_51 : decode cX1_init 51 = .ok (.invokestatic 28, 3) := dk_184 0 28 (dk_at dksX1_init_2 5 rfl rfl)
theorem dX1_init_54 : decode cX1_init 54 = .ok (.iastore, 1) := dk_79 (dk_at dksX1_init_2 8 rfl rfl)
theorem dX1_init_55 : decode cX1_init 55 = .ok (.iinc 1 1, 3) := dk_132 1 1 (dk_at dksX1_init_2 9 rfl rfl)
theorem dX1_init_58 : decode cX1_init 58 = .ok (.goto (-18), 3) := dk_167 255 238 (dk_at dksX1_init_2 12 rfl rfl)
theorem dX1_init_61 : decode cX1_init 61 = .ok (.return_, 1) := dk_177 (dk_at dksX1_init_2 15 rfl rfl)
abbrev cX1_ballOn : ByteArray := prog_3_method_3_code
def yX1_ballOn : MethodName := ⟨RX1, "ballOn", "(I)I"⟩
def dkwX1_ballOn_1 : List UInt8 := [167, 255, 236, 16, 250, 172]
abbrev dktX1_ballOn_1 : List UInt8 := dkwX1_ballOn_1 ++ []
def dkwX1_ballOn_0 : List UInt8 := [3, 61, 28, 6, 162, 0, 21, 42, 180, 0, 9, 28, 46, 27, 160, 0, 5, 28, 172, 132, 2, 1]
abbrev dktX1_ballOn_0 : List UInt8 := dkwX1_ballOn_0 ++ dktX1_ballOn_1
theorem dksX1_ballOn_0 : cX1_ballOn.data.toList.drop 0 = dktX1_ballOn_0 := by decide +kernel
theorem dksX1_ballOn_1 : cX1_ballOn.data.toList.drop 22 = dktX1_ballOn_1 := dk_seg dksX1_ballOn_0 22 rfl rfl
theorem dX1_ballOn_0 : decode cX1_ballOn 0 = .ok (.iconst 0, 1) := dk_3 (dk_at dksX1_ballOn_0 0 rfl rfl)
theorem dX1_ballOn_1 : decode cX1_ballOn 1 = .ok (.istore_n 2, 1) := dk_61 (dk_at dksX1_ballOn_0 1 rfl rfl)
theorem dX1_ballOn_2 : decode cX1_ballOn 2 = .ok (.iload_n 2, 1) := dk_28 (dk_at dksX1_ballOn_0 2 rfl rfl)
theorem dX1_ballOn_3 : decode cX1_ballOn 3 = .ok (.iconst 3, 1) := dk_6 (dk_at dksX1_ballOn_0 3 rfl rfl)
theorem dX1_ballOn_4 : decode cX1_ballOn 4 = .ok (.if_icmp .ge 21, 3) := dk_162 0 21 (dk_at dksX1_ballOn_0 4 rfl rfl)
theorem dX1_ballOn_7 : decode cX1_ballOn 7 = .ok (.aload_n 0, 1) := dk_42 (dk_at dksX1_ballOn_0 7 rfl rfl)
theorem dX1_ballOn_8 : decode cX1_ballOn 8 = .ok (.getfield 9, 3) := dk_180 0 9 (dk_at dksX1_ballOn_0 8 rfl rfl)
theorem dX1_ballOn_11 : decode cX1_ballOn 11 = .ok (.iload_n 2, 1) := dk_28 (dk_at dksX1_ballOn_0 11 rfl rfl)
theorem dX1_ballOn_12 : decode cX1_ballOn 12 = .ok (.iaload, 1) := dk_46 (dk_at dksX1_ballOn_0 12 rfl rfl)
theorem dX1_ballOn_13 : decode cX1_ballOn 13 = .ok (.iload_n 1, 1) := dk_27 (dk_at dksX1_ballOn_0 13 rfl rfl)
theorem dX1_ballOn_14 : decode cX1_ballOn 14 = .ok (.if_icmp .ne 5, 3) := dk_160 0 5 (dk_at dksX1_ballOn_0 14 rfl rfl)
theorem dX1_ballOn_17 : decode cX1_ballOn 17 = .ok (.iload_n 2, 1) := dk_28 (dk_at dksX1_ballOn_0 17 rfl rfl)
theorem dX1_ballOn_18 : decode cX1_ballOn 18 = .ok (.ireturn, 1) := dk_172 (dk_at dksX1_ballOn_0 18 rfl rfl)
theorem dX1_ballOn_19 : decode cX1_ballOn 19 = .ok (.iinc 2 1, 3) := dk_132 2 1 (dk_at dksX1_ballOn_0 19 rfl rfl)
theorem dX1_ballOn_22 : decode cX1_ballOn 22 = .ok (.goto (-20), 3) := dk_167 255 236 (dk_at dksX1_ballOn_1 0 rfl rfl)
theorem dX1_ballOn_25 : decode cX1_ballOn 25 = .ok (.bipush (-6), 2) := dk_16 250 (dk_at dksX1_ballOn_1 3 rfl rfl)
theorem dX1_ballOn_27 : decode cX1_ballOn 27 = .ok (.ireturn, 1) := dk_172 (dk_at dksX1_ballOn_1 5 rfl rfl)
abbrev cX1_copy : ByteArray := prog_3_method_2_code
def yX1_copy : MethodName := ⟨RX1, "copy", "(LBaizeCorps$Table;)V"⟩
def dkwX1_copy_3 : List UInt8 := [16, 8, 184, 0, 32, 42, 3, 181, 0, 51, 42, 3, 181, 0, 54, 177]
abbrev dktX1_copy_3 : List UInt8 := dkwX1_copy_3 ++ []
def dkwX1_copy_2 : List UInt8 := [180, 0, 15, 3, 42, 180, 0, 15, 3, 16, 8, 184, 0, 32, 43, 180, 0, 18, 3, 42, 180, 0, 18, 3]
abbrev dktX1_copy_2 : List UInt8 := dkwX1_copy_2 ++ dktX1_copy_3
def dkwX1_copy_1 : List UInt8 := [180, 0, 42, 181, 0, 42, 42, 43, 180, 0, 45, 181, 0, 45, 42, 43, 180, 0, 48, 181, 0, 48, 43]
abbrev dktX1_copy_1 : List UInt8 := dkwX1_copy_1 ++ dktX1_copy_2
def dkwX1_copy_0 : List UInt8 := [43, 180, 0, 9, 3, 42, 180, 0, 9, 3, 6, 184, 0, 32, 42, 43, 180, 0, 38, 181, 0, 38, 42, 43]
abbrev dktX1_copy_0 : List UInt8 := dkwX1_copy_0 ++ dktX1_copy_1
theorem dksX1_copy_0 : cX1_copy.data.toList.drop 0 = dktX1_copy_0 := by decide +kernel
theorem dksX1_copy_1 : cX1_copy.data.toList.drop 24 = dktX1_copy_1 := dk_seg dksX1_copy_0 24 rfl rfl
theorem dksX1_copy_2 : cX1_copy.data.toList.drop 47 = dktX1_copy_2 := dk_seg dksX1_copy_1 23 rfl rfl
theorem dksX1_copy_3 : cX1_copy.data.toList.drop 71 = dktX1_copy_3 := dk_seg dksX1_copy_2 24 rfl rfl
theorem dX1_copy_0 : decode cX1_copy 0 = .ok (.aload_n 1, 1) := dk_43 (dk_at dksX1_copy_0 0 rfl rfl)
theorem dX1_copy_1 : decode cX1_copy 1 = .ok (.getfield 9, 3) := dk_180 0 9 (dk_at dksX1_copy_0 1 rfl rfl)
theorem dX1_copy_4 : decode cX1_copy 4 = .ok (.iconst 0, 1) := dk_3 (dk_at dksX1_copy_0 4 rfl rfl)
theorem dX1_copy_5 : decode cX1_copy 5 = .ok (.aload_n 0, 1) := dk_42 (dk_at dksX1_copy_0 5 rfl rfl)
theorem dX1_copy_6 : decode cX1_copy 6 = .ok (.getfield 9, 3) := dk_180 0 9 (dk_at dksX1_copy_0 6 rfl rfl)
theorem dX1_copy_9 : decode cX1_copy 9 = .ok (.iconst 0, 1) := dk_3 (dk_at dksX1_copy_0 9 rfl rfl)
theorem dX1_copy_10 : decode cX1_copy 10 = .ok (.iconst 3, 1) := dk_6 (dk_at dksX1_copy_0 10 rfl rfl)
theorem dX1_copy_11 : decode cX1_copy 11 = .ok (.invokestatic 32, 3) := dk_184 0 32 (dk_at dksX1_copy_0 11 rfl rfl)
theorem dX1_copy_14 : decode cX1_copy 14 = .ok (.aload_n 0, 1) := dk_42 (dk_at dksX1_copy_0 14 rfl rfl)
theorem dX1_copy_15 : decode cX1_copy 15 = .ok (.aload_n 1, 1) := dk_43 (dk_at dksX1_copy_0 15 rfl rfl)
theorem dX1_copy_16 : decode cX1_copy 16 = .ok (.getfield 38, 3) := dk_180 0 38 (dk_at dksX1_copy_0 16 rfl rfl)
theorem dX1_copy_19 : decode cX1_copy 19 = .ok (.putfield 38, 3) := dk_181 0 38 (dk_at dksX1_copy_0 19 rfl rfl)
theorem dX1_copy_22 : decode cX1_copy 22 = .ok (.aload_n 0, 1) := dk_42 (dk_at dksX1_copy_0 22 rfl rfl)
theorem dX1_copy_23 : decode cX1_copy 23 = .ok (.aload_n 1, 1) := dk_43 (dk_at dksX1_copy_0 23 rfl rfl)
theorem dX1_copy_24 : decode cX1_copy 24 = .ok (.getfield 42, 3) := dk_180 0 42 (dk_at dksX1_copy_1 0 rfl rfl)
theorem dX1_copy_27 : decode cX1_copy 27 = .ok (.putfield 42, 3) := dk_181 0 42 (dk_at dksX1_copy_1 3 rfl rfl)
theorem dX1_copy_30 : decode cX1_copy 30 = .ok (.aload_n 0, 1) := dk_42 (dk_at dksX1_copy_1 6 rfl rfl)
theorem dX1_copy_31 : decode cX1_copy 31 = .ok (.aload_n 1, 1) := dk_43 (dk_at dksX1_copy_1 7 rfl rfl)
theorem dX1_copy_32 : decode cX1_copy 32 = .ok (.getfield 45, 3) := dk_180 0 45 (dk_at dksX1_copy_1 8 rfl rfl)
theorem dX1_copy_35 : decode cX1_copy 35 = .ok (.putfield 45, 3) := dk_181 0 45 (dk_at dksX1_copy_1 11 rfl rfl)
theorem dX1_copy_38 : decode cX1_copy 38 = .ok (.aload_n 0, 1) := dk_42 (dk_at dksX1_copy_1 14 rfl rfl)
theorem dX1_copy_39 : decode cX1_copy 39 = .ok (.aload_n 1, 1) := dk_43 (dk_at dksX1_copy_1 15 rfl rfl)
theorem dX1_copy_40 : decode cX1_copy 40 = .ok (.getfield 48, 3) := dk_180 0 48 (dk_at dksX1_copy_1 16 rfl rfl)
theorem dX1_copy_43 : decode cX1_copy 43 = .ok (.putfield 48, 3) := dk_181 0 48 (dk_at dksX1_copy_1 19 rfl rfl)
theorem dX1_copy_46 : decode cX1_copy 46 = .ok (.aload_n 1, 1) := dk_43 (dk_at dksX1_copy_1 22 rfl rfl)
theorem dX1_copy_47 : decode cX1_copy 47 = .ok (.getfield 15, 3) := dk_180 0 15 (dk_at dksX1_copy_2 0 rfl rfl)
theorem dX1_copy_50 : decode cX1_copy 50 = .ok (.iconst 0, 1) := dk_3 (dk_at dksX1_copy_2 3 rfl rfl)
theorem dX1_copy_51 : decode cX1_copy 51 = .ok (.aload_n 0, 1) := dk_42 (dk_at dksX1_copy_2 4 rfl rfl)
theorem dX1_copy_52 : decode cX1_copy 52 = .ok (.getfield 15, 3) := dk_180 0 15 (dk_at dksX1_copy_2 5 rfl rfl)
theorem dX1_copy_55 : decode cX1_copy 55 = .ok (.iconst 0, 1) := dk_3 (dk_at dksX1_copy_2 8 rfl rfl)
theorem dX1_copy_56 : decode cX1_copy 56 = .ok (.bipush 8, 2) := dk_16 8 (dk_at dksX1_copy_2 9 rfl rfl)
theorem dX1_copy_58 : decode cX1_copy 58 = .ok (.invokestatic 32, 3) := dk_184 0 32 (dk_at dksX1_copy_2 11 rfl rfl)
theorem dX1_copy_61 : decode cX1_copy 61 = .ok (.aload_n 1, 1) := dk_43 (dk_at dksX1_copy_2 14 rfl rfl)
theorem dX1_copy_62 : decode cX1_copy 62 = .ok (.getfield 18, 3) := dk_180 0 18 (dk_at dksX1_copy_2 15 rfl rfl)
theorem dX1_copy_65 : decode cX1_copy 65 = .ok (.iconst 0, 1) := dk_3 (dk_at dksX1_copy_2 18 rfl rfl)
theorem dX1_copy_66 : decode cX1_copy 66 = .ok (.aload_n 0, 1) := dk_42 (dk_at dksX1_copy_2 19 rfl rfl)
theorem dX1_copy_67 : decode cX1_copy 67 = .ok (.getfield 18, 3) := dk_180 0 18 (dk_at dksX1_copy_2 20 rfl rfl)
theorem dX1_copy_70 : decode cX1_copy 70 = .ok (.iconst 0, 1) := dk_3 (dk_at dksX1_copy_2 23 rfl rfl)
theorem dX1_copy_71 : decode cX1_copy 71 = .ok (.bipush 8, 2) := dk_16 8 (dk_at dksX1_copy_3 0 rfl rfl)
theorem dX1_copy_73 : decode cX1_copy 73 = .ok (.invokestatic 32, 3) := dk_184 0 32 (dk_at dksX1_copy_3 2 rfl rfl)
theorem dX1_copy_76 : decode cX1_copy 76 = .ok (.aload_n 0, 1) := dk_42 (dk_at dksX1_copy_3 5 rfl rfl)
theorem dX1_copy_77 : decode cX1_copy 77 = .ok (.iconst 0, 1) := dk_3 (dk_at dksX1_copy_3 6 rfl rfl)
theorem dX1_copy_78 : decode cX1_copy 78 = .ok (.putfield 51, 3) := dk_181 0 51 (dk_at dksX1_copy_3 7 rfl rfl)
theorem dX1_copy_81 : decode cX1_copy 81 = .ok (.aload_n 0, 1) := dk_42 (dk_at dksX1_copy_3 10 rfl rfl)
theorem dX1_copy_82 : decode cX1_copy 82 = .ok (.iconst 0, 1) := dk_3 (dk_at dksX1_copy_3 11 rfl rfl)
theorem dX1_copy_83 : decode cX1_copy 83 = .ok (.putfield 54, 3) := dk_181 0 54 (dk_at dksX1_copy_3 12 rfl rfl)
theorem dX1_copy_86 : decode cX1_copy 86 = .ok (.return_, 1) := dk_177 (dk_at dksX1_copy_3 15 rfl rfl)
abbrev cX1_nap : ByteArray := prog_3_method_7_code
def yX1_nap : MethodName := ⟨RX1, "nap", "()V"⟩
def dkwX1_nap_3 : List UInt8 := [4, 100, 167, 0, 4, 29, 79, 132, 2, 1, 167, 255, 185, 132, 1, 1, 167, 255, 171, 177]
abbrev dktX1_nap_3 : List UInt8 := dkwX1_nap_3 ++ []
def dkwX1_nap_2 : List UInt8 := [182, 0, 69, 156, 0, 7, 4, 167, 0, 4, 3, 54, 4, 42, 180, 0, 9, 28, 21, 4, 153, 0, 9, 29]
abbrev dktX1_nap_2 : List UInt8 := dkwX1_nap_2 ++ dktX1_nap_3
def dkwX1_nap_1 : List UInt8 := [155, 0, 34, 29, 16, 9, 112, 27, 160, 0, 26, 29, 4, 100, 184, 0, 80, 154, 0, 17, 42, 29, 4, 100]
abbrev dktX1_nap_1 : List UInt8 := dkwX1_nap_1 ++ dktX1_nap_2
def dkwX1_nap_0 : List UInt8 := [4, 60, 27, 16, 9, 162, 0, 85, 3, 61, 28, 6, 162, 0, 72, 42, 180, 0, 9, 28, 46, 62, 29]
abbrev dktX1_nap_0 : List UInt8 := dkwX1_nap_0 ++ dktX1_nap_1
theorem dksX1_nap_0 : cX1_nap.data.toList.drop 0 = dktX1_nap_0 := by decide +kernel
theorem dksX1_nap_1 : cX1_nap.data.toList.drop 23 = dktX1_nap_1 := dk_seg dksX1_nap_0 23 rfl rfl
theorem dksX1_nap_2 : cX1_nap.data.toList.drop 47 = dktX1_nap_2 := dk_seg dksX1_nap_1 24 rfl rfl
theorem dksX1_nap_3 : cX1_nap.data.toList.drop 71 = dktX1_nap_3 := dk_seg dksX1_nap_2 24 rfl rfl
theorem dX1_nap_0 : decode cX1_nap 0 = .ok (.iconst 1, 1) := dk_4 (dk_at dksX1_nap_0 0 rfl rfl)
theorem dX1_nap_1 : decode cX1_nap 1 = .ok (.istore_n 1, 1) := dk_60 (dk_at dksX1_nap_0 1 rfl rfl)
theorem dX1_nap_2 : decode cX1_nap 2 = .ok (.iload_n 1, 1) := dk_27 (dk_at dksX1_nap_0 2 rfl rfl)
theorem dX1_nap_3 : decode cX1_nap 3 = .ok (.bipush 9, 2) := dk_16 9 (dk_at dksX1_nap_0 3 rfl rfl)
theorem dX1_nap_5 : decode cX1_nap 5 = .ok (.if_icmp .ge 85, 3) := dk_162 0 85 (dk_at dksX1_nap_0 5 rfl rfl)
theorem dX1_nap_8 : decode cX1_nap 8 = .ok (.iconst 0, 1) := dk_3 (dk_at dksX1_nap_0 8 rfl rfl)
theorem dX1_nap_9 : decode cX1_nap 9 = .ok (.istore_n 2, 1) := dk_61 (dk_at dksX1_nap_0 9 rfl rfl)
theorem dX1_nap_10 : decode cX1_nap 10 = .ok (.iload_n 2, 1) := dk_28 (dk_at dksX1_nap_0 10 rfl rfl)
theorem dX1_nap_11 : decode cX1_nap 11 = .ok (.iconst 3, 1) := dk_6 (dk_at dksX1_nap_0 11 rfl rfl)
theorem dX1_nap_12 : decode cX1_nap 12 = .ok (.if_icmp .ge 72, 3) := dk_162 0 72 (dk_at dksX1_nap_0 12 rfl rfl)
theorem dX1_nap_15 : decode cX1_nap 15 = .ok (.aload_n 0, 1) := dk_42 (dk_at dksX1_nap_0 15 rfl rfl)
theorem dX1_nap_16 : decode cX1_nap 16 = .ok (.getfield 9, 3) := dk_180 0 9 (dk_at dksX1_nap_0 16 rfl rfl)
theorem dX1_nap_19 : decode cX1_nap 19 = .ok (.iload_n 2, 1) := dk_28 (dk_at dksX1_nap_0 19 rfl rfl)
theorem dX1_nap_20 : decode cX1_nap 20 = .ok (.iaload, 1) := dk_46 (dk_at dksX1_nap_0 20 rfl rfl)
theorem dX1_nap_21 : decode cX1_nap 21 = .ok (.istore_n 3, 1) := dk_62 (dk_at dksX1_nap_0 21 rfl rfl)
theorem dX1_nap_22 : decode cX1_nap 22 = .ok (.iload_n 3, 1) := dk_29 (dk_at dksX1_nap_0 22 rfl rfl)
theorem dX1_nap_23 : decode cX1_nap 23 = .ok (.ifCond .lt 34, 3) := dk_155 0 34 (dk_at dksX1_nap_1 0 rfl rfl)
theorem dX1_nap_26 : decode cX1_nap 26 = .ok (.iload_n 3, 1) := dk_29 (dk_at dksX1_nap_1 3 rfl rfl)
theorem dX1_nap_27 : decode cX1_nap 27 = .ok (.bipush 9, 2) := dk_16 9 (dk_at dksX1_nap_1 4 rfl rfl)
theorem dX1_nap_29 : decode cX1_nap 29 = .ok (.irem, 1) := dk_112 (dk_at dksX1_nap_1 6 rfl rfl)
theorem dX1_nap_30 : decode cX1_nap 30 = .ok (.iload_n 1, 1) := dk_27 (dk_at dksX1_nap_1 7 rfl rfl)
theorem dX1_nap_31 : decode cX1_nap 31 = .ok (.if_icmp .ne 26, 3) := dk_160 0 26 (dk_at dksX1_nap_1 8 rfl rfl)
theorem dX1_nap_34 : decode cX1_nap 34 = .ok (.iload_n 3, 1) := dk_29 (dk_at dksX1_nap_1 11 rfl rfl)
theorem dX1_nap_35 : decode cX1_nap 35 = .ok (.iconst 1, 1) := dk_4 (dk_at dksX1_nap_1 12 rfl rfl)
theorem dX1_nap_36 : decode cX1_nap 36 = .ok (.isub, 1) := dk_100 (dk_at dksX1_nap_1 13 rfl rfl)
theorem dX1_nap_37 : decode cX1_nap 37 = .ok (.invokestatic 80, 3) := dk_184 0 80 (dk_at dksX1_nap_1 14 rfl rfl)
theorem dX1_nap_40 : decode cX1_nap 40 = .ok (.ifCond .ne 17, 3) := dk_154 0 17 (dk_at dksX1_nap_1 17 rfl rfl)
theorem dX1_nap_43 : decode cX1_nap 43 = .ok (.aload_n 0, 1) := dk_42 (dk_at dksX1_nap_1 20 rfl rfl)
theorem dX1_nap_44 : decode cX1_nap 44 = .ok (.iload_n 3, 1) := dk_29 (dk_at dksX1_nap_1 21 rfl rfl)
theorem dX1_nap_45 : decode cX1_nap 45 = .ok (.iconst 1, 1) := dk_4 (dk_at dksX1_nap_1 22 rfl rfl)
theorem dX1_nap_46 : decode cX1_nap 46 = .ok (.isub, 1) := dk_100 (dk_at dksX1_nap_1 23 rfl rfl)
theorem dX1_nap_47 : decode cX1_nap 47 = .ok (.invokevirtual 69, 3) := dk_182 0 69 (dk_at dksX1_nap_2 0 rfl rfl)
theorem dX1_nap_50 : decode cX1_nap 50 = .ok (.ifCond .ge 7, 3) := dk_156 0 7 (dk_at dksX1_nap_2 3 rfl rfl)
theorem dX1_nap_53 : decode cX1_nap 53 = .ok (.iconst 1, 1) := dk_4 (dk_at dksX1_nap_2 6 rfl rfl)
theorem dX1_nap_54 : decode cX1_nap 54 = .ok (.goto 4, 3) := dk_167 0 4 (dk_at dksX1_nap_2 7 rfl rfl)
theorem dX1_nap_57 : decode cX1_nap 57 = .ok (.iconst 0, 1) := dk_3 (dk_at dksX1_nap_2 10 rfl rfl)
theorem dX1_nap_58 : decode cX1_nap 58 = .ok (.istore 4, 2) := dk_54 4 (dk_at dksX1_nap_2 11 rfl rfl)
theorem dX1_nap_60 : decode cX1_nap 60 = .ok (.aload_n 0, 1) := dk_42 (dk_at dksX1_nap_2 13 rfl rfl)
theorem dX1_nap_61 : decode cX1_nap 61 = .ok (.getfield 9, 3) := dk_180 0 9 (dk_at dksX1_nap_2 14 rfl rfl)
theorem dX1_nap_64 : decode cX1_nap 64 = .ok (.iload_n 2, 1) := dk_28 (dk_at dksX1_nap_2 17 rfl rfl)
theorem dX1_nap_65 : decode cX1_nap 65 = .ok (.iload 4, 2) := dk_21 4 (dk_at dksX1_nap_2 18 rfl rfl)
theorem dX1_nap_67 : decode cX1_nap 67 = .ok (.ifCond .eq 9, 3) := dk_153 0 9 (dk_at dksX1_nap_2 20 rfl rfl)
theorem dX1_nap_70 : decode cX1_nap 70 = .ok (.iload_n 3, 1) := dk_29 (dk_at dksX1_nap_2 23 rfl rfl)
theorem dX1_nap_71 : decode cX1_nap 71 = .ok (.iconst 1, 1) := dk_4 (dk_at dksX1_nap_3 0 rfl rfl)
theorem dX1_nap_72 : decode cX1_nap 72 = .ok (.isub, 1) := dk_100 (dk_at dksX1_nap_3 1 rfl rfl)
theorem dX1_nap_73 : decode cX1_nap 73 = .ok (.goto 4, 3) := dk_167 0 4 (dk_at dksX1_nap_3 2 rfl rfl)
theorem dX1_nap_76 : decode cX1_nap 76 = .ok (.iload_n 3, 1) := dk_29 (dk_at dksX1_nap_3 5 rfl rfl)
theorem dX1_nap_77 : decode cX1_nap 77 = .ok (.iastore, 1) := dk_79 (dk_at dksX1_nap_3 6 rfl rfl)
theorem dX1_nap_78 : decode cX1_nap 78 = .ok (.iinc 2 1, 3) := dk_132 2 1 (dk_at dksX1_nap_3 7 rfl rfl)
theorem dX1_nap_81 : decode cX1_nap 81 = .ok (.goto (-71), 3) := dk_167 255 185 (dk_at dksX1_nap_3 10 rfl rfl)
theorem dX1_nap_84 : decode cX1_nap 84 = .ok (.iinc 1 1, 3) := dk_132 1 1 (dk_at dksX1_nap_3 13 rfl rfl)
theorem dX1_nap_87 : decode cX1_nap 87 = .ok (.goto (-85), 3) := dk_167 255 171 (dk_at dksX1_nap_3 16 rfl rfl)
theorem dX1_nap_90 : decode cX1_nap 90 = .ok (.return_, 1) := dk_177 (dk_at dksX1_nap_3 19 rfl rfl)
abbrev cX1_pass : ByteArray := prog_3_method_8_code
def yX1_pass : MethodName := ⟨RX1, "pass", "()I"⟩
def dkwX1_pass_0 : List UInt8 := [42, 180, 0, 45, 16, 99, 160, 0, 5, 6, 172, 42, 89, 180, 0, 45, 4, 96, 181, 0, 45, 3, 172]
abbrev dktX1_pass_0 : List UInt8 := dkwX1_pass_0 ++ []
theorem dksX1_pass_0 : cX1_pass.data.toList.drop 0 = dktX1_pass_0 := by decide +kernel
theorem dX1_pass_0 : decode cX1_pass 0 = .ok (.aload_n 0, 1) := dk_42 (dk_at dksX1_pass_0 0 rfl rfl)
theorem dX1_pass_1 : decode cX1_pass 1 = .ok (.getfield 45, 3) := dk_180 0 45 (dk_at dksX1_pass_0 1 rfl rfl)
theorem dX1_pass_4 : decode cX1_pass 4 = .ok (.bipush 99, 2) := dk_16 99 (dk_at dksX1_pass_0 4 rfl rfl)
theorem dX1_pass_6 : decode cX1_pass 6 = .ok (.if_icmp .ne 5, 3) := dk_160 0 5 (dk_at dksX1_pass_0 6 rfl rfl)
theorem dX1_pass_9 : decode cX1_pass 9 = .ok (.iconst 3, 1) := dk_6 (dk_at dksX1_pass_0 9 rfl rfl)
theorem dX1_pass_10 : decode cX1_pass 10 = .ok (.ireturn, 1) := dk_172 (dk_at dksX1_pass_0 10 rfl rfl)
theorem dX1_pass_11 : decode cX1_pass 11 = .ok (.aload_n 0, 1) := dk_42 (dk_at dksX1_pass_0 11 rfl rfl)
theorem dX1_pass_12 : decode cX1_pass 12 = .ok (.dup, 1) := dk_89 (dk_at dksX1_pass_0 12 rfl rfl)
theorem dX1_pass_13 : decode cX1_pass 13 = .ok (.getfield 45, 3) := dk_180 0 45 (dk_at dksX1_pass_0 13 rfl rfl)
theorem dX1_pass_16 : decode cX1_pass 16 = .ok (.iconst 1, 1) := dk_4 (dk_at dksX1_pass_0 16 rfl rfl)
theorem dX1_pass_17 : decode cX1_pass 17 = .ok (.iadd, 1) := dk_96 (dk_at dksX1_pass_0 17 rfl rfl)
theorem dX1_pass_18 : decode cX1_pass 18 = .ok (.putfield 45, 3) := dk_181 0 45 (dk_at dksX1_pass_0 18 rfl rfl)
theorem dX1_pass_21 : decode cX1_pass 21 = .ok (.iconst 0, 1) := dk_3 (dk_at dksX1_pass_0 21 rfl rfl)
theorem dX1_pass_22 : decode cX1_pass 22 = .ok (.ireturn, 1) := dk_172 (dk_at dksX1_pass_0 22 rfl rfl)
abbrev cX1_bringUp : ByteArray := prog_3_method_6_code
def yX1_bringUp : MethodName := ⟨RX1, "bringUp", "(I)I"⟩
def dkwX1_bringUp_1 : List UInt8 := [42, 180, 0, 9, 27, 27, 184, 0, 28, 79, 3, 172]
abbrev dktX1_bringUp_1 : List UInt8 := dkwX1_bringUp_1 ++ []
def dkwX1_bringUp_0 : List UInt8 := [42, 180, 0, 9, 27, 46, 155, 0, 5, 4, 172, 42, 27, 184, 0, 28, 182, 0, 69, 155, 0, 5, 5, 172]
abbrev dktX1_bringUp_0 : List UInt8 := dkwX1_bringUp_0 ++ dktX1_bringUp_1
theorem dksX1_bringUp_0 : cX1_bringUp.data.toList.drop 0 = dktX1_bringUp_0 := by decide +kernel
theorem dksX1_bringUp_1 : cX1_bringUp.data.toList.drop 24 = dktX1_bringUp_1 := dk_seg dksX1_bringUp_0 24 rfl rfl
theorem dX1_bringUp_0 : decode cX1_bringUp 0 = .ok (.aload_n 0, 1) := dk_42 (dk_at dksX1_bringUp_0 0 rfl rfl)
theorem dX1_bringUp_1 : decode cX1_bringUp 1 = .ok (.getfield 9, 3) := dk_180 0 9 (dk_at dksX1_bringUp_0 1 rfl rfl)
theorem dX1_bringUp_4 : decode cX1_bringUp 4 = .ok (.iload_n 1, 1) := dk_27 (dk_at dksX1_bringUp_0 4 rfl rfl)
theorem dX1_bringUp_5 : decode cX1_bringUp 5 = .ok (.iaload, 1) := dk_46 (dk_at dksX1_bringUp_0 5 rfl rfl)
theorem dX1_bringUp_6 : decode cX1_bringUp 6 = .ok (.ifCond .lt 5, 3) := dk_155 0 5 (dk_at dksX1_bringUp_0 6 rfl rfl)
theorem dX1_bringUp_9 : decode cX1_bringUp 9 = .ok (.iconst 1, 1) := dk_4 (dk_at dksX1_bringUp_0 9 rfl rfl)
theorem dX1_bringUp_10 : decode cX1_bringUp 10 = .ok (.ireturn, 1) := dk_172 (dk_at dksX1_bringUp_0 10 rfl rfl)
theorem dX1_bringUp_11 : decode cX1_bringUp 11 = .ok (.aload_n 0, 1) := dk_42 (dk_at dksX1_bringUp_0 11 rfl rfl)
theorem dX1_bringUp_12 : decode cX1_bringUp 12 = .ok (.iload_n 1, 1) := dk_27 (dk_at dksX1_bringUp_0 12 rfl rfl)
theorem dX1_bringUp_13 : decode cX1_bringUp 13 = .ok (.invokestatic 28, 3) := dk_184 0 28 (dk_at dksX1_bringUp_0 13 rfl rfl)
theorem dX1_bringUp_16 : decode cX1_bringUp 16 = .ok (.invokevirtual 69, 3) := dk_182 0 69 (dk_at dksX1_bringUp_0 16 rfl rfl)
theorem dX1_bringUp_19 : decode cX1_bringUp 19 = .ok (.ifCond .lt 5, 3) := dk_155 0 5 (dk_at dksX1_bringUp_0 19 rfl rfl)
theorem dX1_bringUp_22 : decode cX1_bringUp 22 = .ok (.iconst 2, 1) := dk_5 (dk_at dksX1_bringUp_0 22 rfl rfl)
theorem dX1_bringUp_23 : decode cX1_bringUp 23 = .ok (.ireturn, 1) := dk_172 (dk_at dksX1_bringUp_0 23 rfl rfl)
theorem dX1_bringUp_24 : decode cX1_bringUp 24 = .ok (.aload_n 0, 1) := dk_42 (dk_at dksX1_bringUp_1 0 rfl rfl)
theorem dX1_bringUp_25 : decode cX1_bringUp 25 = .ok (.getfield 9, 3) := dk_180 0 9 (dk_at dksX1_bringUp_1 1 rfl rfl)
theorem dX1_bringUp_28 : decode cX1_bringUp 28 = .ok (.iload_n 1, 1) := dk_27 (dk_at dksX1_bringUp_1 4 rfl rfl)
theorem dX1_bringUp_29 : decode cX1_bringUp 29 = .ok (.iload_n 1, 1) := dk_27 (dk_at dksX1_bringUp_1 5 rfl rfl)
theorem dX1_bringUp_30 : decode cX1_bringUp 30 = .ok (.invokestatic 28, 3) := dk_184 0 28 (dk_at dksX1_bringUp_1 6 rfl rfl)
theorem dX1_bringUp_33 : decode cX1_bringUp 33 = .ok (.iastore, 1) := dk_79 (dk_at dksX1_bringUp_1 9 rfl rfl)
theorem dX1_bringUp_34 : decode cX1_bringUp 34 = .ok (.iconst 0, 1) := dk_3 (dk_at dksX1_bringUp_1 10 rfl rfl)
theorem dX1_bringUp_35 : decode cX1_bringUp 35 = .ok (.ireturn, 1) := dk_172 (dk_at dksX1_bringUp_1 11 rfl rfl)
abbrev cX1_stroke : ByteArray := prog_3_method_5_code
def yX1_stroke : MethodName := ⟨RX1, "stroke", "(III)I"⟩
def dkwX1_stroke_11 : List UInt8 := [180, 0, 54, 42, 180, 0, 24, 180, 0, 72, 96, 181, 0, 54, 3, 172]
abbrev dktX1_stroke_11 : List UInt8 := dkwX1_stroke_11 ++ []
def dkwX1_stroke_10 : List UInt8 := [167, 0, 4, 3, 184, 0, 57, 96, 181, 0, 42, 42, 89, 180, 0, 51, 21, 5, 96, 181, 0, 51, 42, 89]
abbrev dktX1_stroke_10 : List UInt8 := dkwX1_stroke_10 ++ dktX1_stroke_11
def dkwX1_stroke_9 : List UInt8 := [6, 167, 0, 4, 3, 96, 181, 0, 38, 42, 89, 180, 0, 42, 42, 180, 0, 9, 27, 46, 156, 0, 7, 4]
abbrev dktX1_stroke_9 : List UInt8 := dkwX1_stroke_9 ++ dktX1_stroke_10
def dkwX1_stroke_8 : List UInt8 := [181, 0, 38, 42, 89, 180, 0, 38, 42, 180, 0, 9, 21, 4, 46, 156, 0, 13, 21, 4, 27, 159, 0, 7]
abbrev dktX1_stroke_8 : List UInt8 := dkwX1_stroke_8 ++ dktX1_stroke_9
def dkwX1_stroke_7 : List UInt8 := [132, 6, 255, 167, 255, 130, 42, 89, 180, 0, 38, 21, 5, 4, 164, 0, 7, 5, 167, 0, 4, 3, 96]
abbrev dktX1_stroke_7 : List UInt8 := dkwX1_stroke_7 ++ dktX1_stroke_8
def dkwX1_stroke_6 : List UInt8 := [167, 0, 5, 21, 7, 79, 21, 7, 184, 0, 80, 153, 0, 7, 3, 167, 0, 5, 21, 6, 54, 6]
abbrev dktX1_stroke_6 : List UInt8 := dkwX1_stroke_6 ++ dktX1_stroke_7
def dkwX1_stroke_5 : List UInt8 := [180, 0, 24, 182, 0, 77, 42, 180, 0, 9, 21, 4, 21, 7, 184, 0, 80, 153, 0, 8, 16, 250]
abbrev dktX1_stroke_5 : List UInt8 := dkwX1_stroke_5 ++ dktX1_stroke_6
def dkwX1_stroke_4 : List UInt8 := [181, 0, 42, 132, 5, 1, 21, 8, 54, 4, 42, 180, 0, 24, 21, 7, 182, 0, 73, 167, 0, 48, 42]
abbrev dktX1_stroke_4 : List UInt8 := dkwX1_stroke_4 ++ dktX1_stroke_5
def dkwX1_stroke_3 : List UInt8 := [154, 0, 17, 42, 180, 0, 24, 180, 0, 72, 154, 0, 7, 4, 167, 0, 4, 3, 184, 0, 57, 96]
abbrev dktX1_stroke_3 : List UInt8 := dkwX1_stroke_3 ++ dktX1_stroke_4
def dkwX1_stroke_2 : List UInt8 := [54, 7, 42, 21, 7, 182, 0, 69, 54, 8, 21, 8, 155, 0, 54, 42, 89, 180, 0, 42, 21, 5]
abbrev dktX1_stroke_2 : List UInt8 := dkwX1_stroke_2 ++ dktX1_stroke_3
def dkwX1_stroke_1 : List UInt8 := [180, 0, 9, 27, 46, 28, 182, 0, 61, 29, 54, 6, 21, 6, 158, 0, 127, 42, 180, 0, 24, 182, 0, 65]
abbrev dktX1_stroke_1 : List UInt8 := dkwX1_stroke_1 ++ dktX1_stroke_2
def dkwX1_stroke_0 : List UInt8 := [42, 180, 0, 9, 27, 46, 156, 0, 5, 4, 172, 27, 54, 4, 3, 54, 5, 42, 180, 0, 24, 42]
abbrev dktX1_stroke_0 : List UInt8 := dkwX1_stroke_0 ++ dktX1_stroke_1
theorem dksX1_stroke_0 : cX1_stroke.data.toList.drop 0 = dktX1_stroke_0 := by decide +kernel
theorem dksX1_stroke_1 : cX1_stroke.data.toList.drop 22 = dktX1_stroke_1 := dk_seg dksX1_stroke_0 22 rfl rfl
theorem dksX1_stroke_2 : cX1_stroke.data.toList.drop 46 = dktX1_stroke_2 := dk_seg dksX1_stroke_1 24 rfl rfl
theorem dksX1_stroke_3 : cX1_stroke.data.toList.drop 68 = dktX1_stroke_3 := dk_seg dksX1_stroke_2 22 rfl rfl
theorem dksX1_stroke_4 : cX1_stroke.data.toList.drop 90 = dktX1_stroke_4 := dk_seg dksX1_stroke_3 22 rfl rfl
theorem dksX1_stroke_5 : cX1_stroke.data.toList.drop 113 = dktX1_stroke_5 := dk_seg dksX1_stroke_4 23 rfl rfl
theorem dksX1_stroke_6 : cX1_stroke.data.toList.drop 135 = dktX1_stroke_6 := dk_seg dksX1_stroke_5 22 rfl rfl
theorem dksX1_stroke_7 : cX1_stroke.data.toList.drop 157 = dktX1_stroke_7 := dk_seg dksX1_stroke_6 22 rfl rfl
theorem dksX1_stroke_8 : cX1_stroke.data.toList.drop 180 = dktX1_stroke_8 := dk_seg dksX1_stroke_7 23 rfl rfl
theorem dksX1_stroke_9 : cX1_stroke.data.toList.drop 204 = dktX1_stroke_9 := dk_seg dksX1_stroke_8 24 rfl rfl
theorem dksX1_stroke_10 : cX1_stroke.data.toList.drop 228 = dktX1_stroke_10 := dk_seg dksX1_stroke_9 24 rfl rfl
theorem dksX1_stroke_11 : cX1_stroke.data.toList.drop 252 = dktX1_stroke_11 := dk_seg dksX1_stroke_10 24 rfl rfl
theorem dX1_stroke_0 : decode cX1_stroke 0 = .ok (.aload_n 0, 1) := dk_42 (dk_at dksX1_stroke_0 0 rfl rfl)
theorem dX1_stroke_1 : decode cX1_stroke 1 = .ok (.getfield 9, 3) := dk_180 0 9 (dk_at dksX1_stroke_0 1 rfl rfl)
theorem dX1_stroke_4 : decode cX1_stroke 4 = .ok (.iload_n 1, 1) := dk_27 (dk_at dksX1_stroke_0 4 rfl rfl)
theorem dX1_stroke_5 : decode cX1_stroke 5 = .ok (.iaload, 1) := dk_46 (dk_at dksX1_stroke_0 5 rfl rfl)
theorem dX1_stroke_6 : decode cX1_stroke 6 = .ok (.ifCond .ge 5, 3) := dk_156 0 5 (dk_at dksX1_stroke_0 6 rfl rfl)
theorem dX1_stroke_9 : decode cX1_stroke 9 = .ok (.iconst 1, 1) := dk_4 (dk_at dksX1_stroke_0 9 rfl rfl)
theorem dX1_stroke_10 : decode cX1_stroke 10 = .ok (.ireturn, 1) := dk_172 (dk_at dksX1_stroke_0 10 rfl rfl)
theorem dX1_stroke_11 : decode cX1_stroke 11 = .ok (.iload_n 1, 1) := dk_27 (dk_at dksX1_stroke_0 11 rfl rfl)
theorem dX1_stroke_12 : decode cX1_stroke 12 = .ok (.istore 4, 2) := dk_54 4 (dk_at dksX1_stroke_0 12 rfl rfl)
theorem dX1_stroke_14 : decode cX1_stroke 14 = .ok (.iconst 0, 1) := dk_3 (dk_at dksX1_stroke_0 14 rfl rfl)
theorem dX1_stroke_15 : decode cX1_stroke 15 = .ok (.istore 5, 2) := dk_54 5 (dk_at dksX1_stroke_0 15 rfl rfl)
theorem dX1_stroke_17 : decode cX1_stroke 17 = .ok (.aload_n 0, 1) := dk_42 (dk_at dksX1_stroke_0 17 rfl rfl)
theorem dX1_stroke_18 : decode cX1_stroke 18 = .ok (.getfield 24, 3) := dk_180 0 24 (dk_at dksX1_stroke_0 18 rfl rfl)
theorem dX1_stroke_21 : decode cX1_stroke 21 = .ok (.aload_n 0, 1) := dk_42 (dk_at dksX1_stroke_0 21 rfl rfl)
theorem dX1_stroke_22 : decode cX1_stroke 22 = .ok (.getfield 9, 3) := dk_180 0 9 (dk_at dksX1_stroke_1 0 rfl rfl)
theorem dX1_stroke_25 : decode cX1_stroke 25 = .ok (.iload_n 1, 1) := dk_27 (dk_at dksX1_stroke_1 3 rfl rfl)
theorem dX1_stroke_26 : decode cX1_stroke 26 = .ok (.iaload, 1) := dk_46 (dk_at dksX1_stroke_1 4 rfl rfl)
theorem dX1_stroke_27 : decode cX1_stroke 27 = .ok (.iload_n 2, 1) := dk_28 (dk_at dksX1_stroke_1 5 rfl rfl)
theorem dX1_stroke_28 : decode cX1_stroke 28 = .ok (.invokevirtual 61, 3) := dk_182 0 61 (dk_at dksX1_stroke_1 6 rfl rfl)
theorem dX1_stroke_31 : decode cX1_stroke 31 = .ok (.iload_n 3, 1) := dk_29 (dk_at dksX1_stroke_1 9 rfl rfl)
theorem dX1_stroke_32 : decode cX1_stroke 32 = .ok (.istore 6, 2) := dk_54 6 (dk_at dksX1_stroke_1 10 rfl rfl)
theorem dX1_stroke_34 : decode cX1_stroke 34 = .ok (.iload 6, 2) := dk_21 6 (dk_at dksX1_stroke_1 12 rfl rfl)
theorem dX1_stroke_36 : decode cX1_stroke 36 = .ok (.ifCond .le 127, 3) := dk_158 0 127 (dk_at dksX1_stroke_1 14 rfl rfl)
theorem dX1_stroke_39 : decode cX1_stroke 39 = .ok (.aload_n 0, 1) := dk_42 (dk_at dksX1_stroke_1 17 rfl rfl)
theorem dX1_stroke_40 : decode cX1_stroke 40 = .ok (.getfield 24, 3) := dk_180 0 24 (dk_at dksX1_stroke_1 18 rfl rfl)
theorem dX1_stroke_43 : decode cX1_stroke 43 = .ok (.invokevirtual 65, 3) := dk_182 0 65 (dk_at dksX1_stroke_1 21 rfl rfl)
theorem dX1_stroke_46 : decode cX1_stroke 46 = .ok (.istore 7, 2) := dk_54 7 (dk_at dksX1_stroke_2 0 rfl rfl)
theorem dX1_stroke_48 : decode cX1_stroke 48 = .ok (.aload_n 0, 1) := dk_42 (dk_at dksX1_stroke_2 2 rfl rfl)
theorem dX1_stroke_49 : decode cX1_stroke 49 = .ok (.iload 7, 2) := dk_21 7 (dk_at dksX1_stroke_2 3 rfl rfl)
theorem dX1_stroke_51 : decode cX1_stroke 51 = .ok (.invokevirtual 69, 3) := dk_182 0 69 (dk_at dksX1_stroke_2 5 rfl rfl)
theorem dX1_stroke_54 : decode cX1_stroke 54 = .ok (.istore 8, 2) := dk_54 8 (dk_at dksX1_stroke_2 8 rfl rfl)
theorem dX1_stroke_56 : decode cX1_stroke 56 = .ok (.iload 8, 2) := dk_21 8 (dk_at dksX1_stroke_2 10 rfl rfl)
theorem dX1_stroke_58 : decode cX1_stroke 58 = .ok (.ifCond .lt 54, 3) := dk_155 0 54 (dk_at dksX1_stroke_2 12 rfl rfl)
theorem dX1_stroke_61 : decode cX1_stroke 61 = .ok (.aload_n 0, 1) := dk_42 (dk_at dksX1_stroke_2 15 rfl rfl)
theorem dX1_stroke_62 : decode cX1_stroke 62 = .ok (.dup, 1) := dk_89 (dk_at dksX1_stroke_2 16 rfl rfl)
theorem dX1_stroke_63 : decode cX1_stroke 63 = .ok (.getfield 42, 3) := dk_180 0 42 (dk_at dksX1_stroke_2 17 rfl rfl)
theorem dX1_stroke_66 : decode cX1_stroke 66 = .ok (.iload 5, 2) := dk_21 5 (dk_at dksX1_stroke_2 20 rfl rfl)
theorem dX1_stroke_68 : decode cX1_stroke 68 = .ok (.ifCond .ne 17, 3) := dk_154 0 17 (dk_at dksX1_stroke_3 0 rfl rfl)
theorem dX1_stroke_71 : decode cX1_stroke 71 = .ok (.aload_n 0, 1) := dk_42 (dk_at dksX1_stroke_3 3 rfl rfl)
theorem dX1_stroke_72 : decode cX1_stroke 72 = .ok (.getfield 24, 3) := dk_180 0 24 (dk_at dksX1_stroke_3 4 rfl rfl)
theorem dX1_stroke_75 : decode cX1_stroke 75 = .ok (.getfield 72, 3) := dk_180 0 72 (dk_at dksX1_stroke_3 7 rfl rfl)
theorem dX1_stroke_78 : decode cX1_stroke 78 = .ok (.ifCond .ne 7, 3) := dk_154 0 7 (dk_at dksX1_stroke_3 10 rfl rfl)
theorem dX1_stroke_81 : decode cX1_stroke 81 = .ok (.iconst 1, 1) := dk_4 (dk_at dksX1_stroke_3 13 rfl rfl)
theorem dX1_stroke_82 : decode cX1_stroke 82 = .ok (.goto 4, 3) := dk_167 0 4 (dk_at dksX1_stroke_3 14 rfl rfl)
theorem dX1_stroke_85 : decode cX1_stroke 85 = .ok (.iconst 0, 1) := dk_3 (dk_at dksX1_stroke_3 17 rfl rfl)
theorem dX1_stroke_86 : decode cX1_stroke 86 = .ok (.invokestatic 57, 3) := dk_184 0 57 (dk_at dksX1_stroke_3 18 rfl rfl)
theorem dX1_stroke_89 : decode cX1_stroke 89 = .ok (.iadd, 1) := dk_96 (dk_at dksX1_stroke_3 21 rfl rfl)
theorem dX1_stroke_90 : decode cX1_stroke 90 = .ok (.putfield 42, 3) := dk_181 0 42 (dk_at dksX1_stroke_4 0 rfl rfl)
theorem dX1_stroke_93 : decode cX1_stroke 93 = .ok (.iinc 5 1, 3) := dk_132 5 1 (dk_at dksX1_stroke_4 3 rfl rfl)
theorem dX1_stroke_96 : decode cX1_stroke 96 = .ok (.iload 8, 2) := dk_21 8 (dk_at dksX1_stroke_4 6 rfl rfl)
theorem dX1_stroke_98 : decode cX1_stroke 98 = .ok (.istore 4, 2) := dk_54 4 (dk_at dksX1_stroke_4 8 rfl rfl)
theorem dX1_stroke_100 : decode cX1_stroke 100 = .ok (.aload_n 0, 1) := dk_42 (dk_at dksX1_stroke_4 10 rfl rfl)
theorem dX1_stroke_101 : decode cX1_stroke 101 = .ok (.getfield 24, 3) := dk_180 0 24 (dk_at dksX1_stroke_4 11 rfl rfl)
theorem dX1_stroke_104 : decode cX1_stroke 104 = .ok (.iload 7, 2) := dk_21 7 (dk_at dksX1_stroke_4 14 rfl rfl)
theorem dX1_stroke_106 : decode cX1_stroke 106 = .ok (.invokevirtual 73, 3) := dk_182 0 73 (dk_at dksX1_stroke_4 16 rfl rfl)
theorem dX1_stroke_109 : decode cX1_stroke 109 = .ok (.goto 48, 3) := dk_167 0 48 (dk_at dksX1_stroke_4 19 rfl rfl)
theorem dX1_stroke_112 : decode cX1_stroke 112 = .ok (.aload_n 0, 1) := dk_42 (dk_at dksX1_stroke_4 22 rfl rfl)
theorem dX1_stroke_113 : decode cX1_stroke 113 = .ok (.getfield 24, 3) := dk_180 0 24 (dk_at dksX1_stroke_5 0 rfl rfl)
theorem dX1_stroke_116 : decode cX1_stroke 116 = .ok (.invokevirtual 77, 3) := dk_182 0 77 (dk_at dksX1_stroke_5 3 rfl rfl)
theorem dX1_stroke_119 : decode cX1_stroke 119 = .ok (.aload_n 0, 1) := dk_42 (dk_at dksX1_stroke_5 6 rfl rfl)
theorem dX1_stroke_120 : decode cX1_stroke 120 = .ok (.getfield 9, 3) := dk_180 0 9 (dk_at dksX1_stroke_5 7 rfl rfl)
theorem dX1_stroke_123 : decode cX1_stroke 123 = .ok (.iload 4, 2) := dk_21 4 (dk_at dksX1_stroke_5 10 rfl rfl)
theorem dX1_stroke_125 : decode cX1_stroke 125 = .ok (.iload 7, 2) := dk_21 7 (dk_at dksX1_stroke_5 12 rfl rfl)
theorem dX1_stroke_127 : decode cX1_stroke 127 = .ok (.invokestatic 80, 3) := dk_184 0 80 (dk_at dksX1_stroke_5 14 rfl rfl)
theorem dX1_stroke_130 : decode cX1_stroke 130 = .ok (.ifCond .eq 8, 3) := dk_153 0 8 (dk_at dksX1_stroke_5 17 rfl rfl)
theorem dX1_stroke_133 : decode cX1_stroke 133 = .ok (.bipush (-6), 2) := dk_16 250 (dk_at dksX1_stroke_5 20 rfl rfl)
theorem dX1_stroke_135 : decode cX1_stroke 135 = .ok (.goto 5, 3) := dk_167 0 5 (dk_at dksX1_stroke_6 0 rfl rfl)
theorem dX1_stroke_138 : decode cX1_stroke 138 = .ok (.iload 7, 2) := dk_21 7 (dk_at dksX1_stroke_6 3 rfl rfl)
theorem dX1_stroke_140 : decode cX1_stroke 140 = .ok (.iastore, 1) := dk_79 (dk_at dksX1_stroke_6 5 rfl rfl)
theorem dX1_stroke_141 : decode cX1_stroke 141 = .ok (.iload 7, 2) := dk_21 7 (dk_at dksX1_stroke_6 6 rfl rfl)
theorem dX1_stroke_143 : decode cX1_stroke 143 = .ok (.invokestatic 80, 3) := dk_184 0 80 (dk_at dksX1_stroke_6 8 rfl rfl)
theorem dX1_stroke_146 : decode cX1_stroke 146 = .ok (.ifCond .eq 7, 3) := dk_153 0 7 (dk_at dksX1_stroke_6 11 rfl rfl)
theorem dX1_stroke_149 : decode cX1_stroke 149 = .ok (.iconst 0, 1) := dk_3 (dk_at dksX1_stroke_6 14 rfl rfl)
theorem dX1_stroke_150 : decode cX1_stroke 150 = .ok (.goto 5, 3) := dk_167 0 5 (dk_at dksX1_stroke_6 15 rfl rfl)
theorem dX1_stroke_153 : decode cX1_stroke 153 = .ok (.iload 6, 2) := dk_21 6 (dk_at dksX1_stroke_6 18 rfl rfl)
theorem dX1_stroke_155 : decode cX1_stroke 155 = .ok (.istore 6, 2) := dk_54 6 (dk_at dksX1_stroke_6 20 rfl rfl)
theorem dX1_stroke_157 : decode cX1_stroke 157 = .ok (.iinc 6 (-1), 3) := dk_132 6 255 (dk_at dksX1_stroke_7 0 rfl rfl)
theorem dX1_stroke_160 : decode cX1_stroke 160 = .ok (.goto (-126), 3) := dk_167 255 130 (dk_at dksX1_stroke_7 3 rfl rfl)
theorem dX1_stroke_163 : decode cX1_stroke 163 = .ok (.aload_n 0, 1) := dk_42 (dk_at dksX1_stroke_7 6 rfl rfl)
theorem dX1_stroke_164 : decode cX1_stroke 164 = .ok (.dup, 1) := dk_89 (dk_at dksX1_stroke_7 7 rfl rfl)
theorem dX1_stroke_165 : decode cX1_stroke 165 = .ok (.getfield 38, 3) := dk_180 0 38 (dk_at dksX1_stroke_7 8 rfl rfl)
theorem dX1_stroke_168 : decode cX1_stroke 168 = .ok (.iload 5, 2) := dk_21 5 (dk_at dksX1_stroke_7 11 rfl rfl)
theorem dX1_stroke_170 : decode cX1_stroke 170 = .ok (.iconst 1, 1) := dk_4 (dk_at dksX1_stroke_7 13 rfl rfl)
theorem dX1_stroke_171 : decode cX1_stroke 171 = .ok (.if_icmp .le 7, 3) := dk_164 0 7 (dk_at dksX1_stroke_7 14 rfl rfl)
theorem dX1_stroke_174 : decode cX1_stroke 174 = .ok (.iconst 2, 1) := dk_5 (dk_at dksX1_stroke_7 17 rfl rfl)
theorem dX1_stroke_175 : decode cX1_stroke 175 = .ok (.goto 4, 3) := dk_167 0 4 (dk_at dksX1_stroke_7 18 rfl rfl)
theorem dX1_stroke_178 : decode cX1_stroke 178 = .ok (.iconst 0, 1) := dk_3 (dk_at dksX1_stroke_7 21 rfl rfl)
theorem dX1_stroke_179 : decode cX1_stroke 179 = .ok (.iadd, 1) := dk_96 (dk_at dksX1_stroke_7 22 rfl rfl)
theorem dX1_stroke_180 : decode cX1_stroke 180 = .ok (.putfield 38, 3) := dk_181 0 38 (dk_at dksX1_stroke_8 0 rfl rfl)
theorem dX1_stroke_183 : decode cX1_stroke 183 = .ok (.aload_n 0, 1) := dk_42 (dk_at dksX1_stroke_8 3 rfl rfl)
theorem dX1_stroke_184 : decode cX1_stroke 184 = .ok (.dup, 1) := dk_89 (dk_at dksX1_stroke_8 4 rfl rfl)
theorem dX1_stroke_185 : decode cX1_stroke 185 = .ok (.getfield 38, 3) := dk_180 0 38 (dk_at dksX1_stroke_8 5 rfl rfl)
theorem dX1_stroke_188 : decode cX1_stroke 188 = .ok (.aload_n 0, 1) := dk_42 (dk_at dksX1_stroke_8 8 rfl rfl)
theorem dX1_stroke_189 : decode cX1_stroke 189 = .ok (.getfield 9, 3) := dk_180 0 9 (dk_at dksX1_stroke_8 9 rfl rfl)
theorem dX1_stroke_192 : decode cX1_stroke 192 = .ok (.iload 4, 2) := dk_21 4 (dk_at dksX1_stroke_8 12 rfl rfl)
theorem dX1_stroke_194 : decode cX1_stroke 194 = .ok (.iaload, 1) := dk_46 (dk_at dksX1_stroke_8 14 rfl rfl)
theorem dX1_stroke_195 : decode cX1_stroke 195 = .ok (.ifCond .ge 13, 3) := dk_156 0 13 (dk_at dksX1_stroke_8 15 rfl rfl)
theorem dX1_stroke_198 : decode cX1_stroke 198 = .ok (.iload 4, 2) := dk_21 4 (dk_at dksX1_stroke_8 18 rfl rfl)
theorem dX1_stroke_200 : decode cX1_stroke 200 = .ok (.iload_n 1, 1) := dk_27 (dk_at dksX1_stroke_8 20 rfl rfl)
theorem dX1_stroke_201 : decode cX1_stroke 201 = .ok (.if_icmp .eq 7, 3) := dk_159 0 7 (dk_at dksX1_stroke_8 21 rfl rfl)
theorem dX1_stroke_204 : decode cX1_stroke 204 = .ok (.iconst 3, 1) := dk_6 (dk_at dksX1_stroke_9 0 rfl rfl)
theorem dX1_stroke_205 : decode cX1_stroke 205 = .ok (.goto 4, 3) := dk_167 0 4 (dk_at dksX1_stroke_9 1 rfl rfl)
theorem dX1_stroke_208 : decode cX1_stroke 208 = .ok (.iconst 0, 1) := dk_3 (dk_at dksX1_stroke_9 4 rfl rfl)
theorem dX1_stroke_209 : decode cX1_stroke 209 = .ok (.iadd, 1) := dk_96 (dk_at dksX1_stroke_9 5 rfl rfl)
theorem dX1_stroke_210 : decode cX1_stroke 210 = .ok (.putfield 38, 3) := dk_181 0 38 (dk_at dksX1_stroke_9 6 rfl rfl)
theorem dX1_stroke_213 : decode cX1_stroke 213 = .ok (.aload_n 0, 1) := dk_42 (dk_at dksX1_stroke_9 9 rfl rfl)
theorem dX1_stroke_214 : decode cX1_stroke 214 = .ok (.dup, 1) := dk_89 (dk_at dksX1_stroke_9 10 rfl rfl)
theorem dX1_stroke_215 : decode cX1_stroke 215 = .ok (.getfield 42, 3) := dk_180 0 42 (dk_at dksX1_stroke_9 11 rfl rfl)
theorem dX1_stroke_218 : decode cX1_stroke 218 = .ok (.aload_n 0, 1) := dk_42 (dk_at dksX1_stroke_9 14 rfl rfl)
theorem dX1_stroke_219 : decode cX1_stroke 219 = .ok (.getfield 9, 3) := dk_180 0 9 (dk_at dksX1_stroke_9 15 rfl rfl)
theorem dX1_stroke_222 : decode cX1_stroke 222 = .ok (.iload_n 1, 1) := dk_27 (dk_at dksX1_stroke_9 18 rfl rfl)
theorem dX1_stroke_223 : decode cX1_stroke 223 = .ok (.iaload, 1) := dk_46 (dk_at dksX1_stroke_9 19 rfl rfl)
theorem dX1_stroke_224 : decode cX1_stroke 224 = .ok (.ifCond .ge 7, 3) := dk_156 0 7 (dk_at dksX1_stroke_9 20 rfl rfl)
theorem dX1_stroke_227 : decode cX1_stroke 227 = .ok (.iconst 1, 1) := dk_4 (dk_at dksX1_stroke_9 23 rfl rfl)
theorem dX1_stroke_228 : decode cX1_stroke 228 = .ok (.goto 4, 3) := dk_167 0 4 (dk_at dksX1_stroke_10 0 rfl rfl)
theorem dX1_stroke_231 : decode cX1_stroke 231 = .ok (.iconst 0, 1) := dk_3 (dk_at dksX1_stroke_10 3 rfl rfl)
theorem dX1_stroke_232 : decode cX1_stroke 232 = .ok (.invokestatic 57, 3) := dk_184 0 57 (dk_at dksX1_stroke_10 4 rfl rfl)
theorem dX1_stroke_235 : decode cX1_stroke 235 = .ok (.iadd, 1) := dk_96 (dk_at dksX1_stroke_10 7 rfl rfl)
theorem dX1_stroke_236 : decode cX1_stroke 236 = .ok (.putfield 42, 3) := dk_181 0 42 (dk_at dksX1_stroke_10 8 rfl rfl)
theorem dX1_stroke_239 : decode cX1_stroke 239 = .ok (.aload_n 0, 1) := dk_42 (dk_at dksX1_stroke_10 11 rfl rfl)
theorem dX1_stroke_240 : decode cX1_stroke 240 = .ok (.dup, 1) := dk_89 (dk_at dksX1_stroke_10 12 rfl rfl)
theorem dX1_stroke_241 : decode cX1_stroke 241 = .ok (.getfield 51, 3) := dk_180 0 51 (dk_at dksX1_stroke_10 13 rfl rfl)
theorem dX1_stroke_244 : decode cX1_stroke 244 = .ok (.iload 5, 2) := dk_21 5 (dk_at dksX1_stroke_10 16 rfl rfl)
theorem dX1_stroke_246 : decode cX1_stroke 246 = .ok (.iadd, 1) := dk_96 (dk_at dksX1_stroke_10 18 rfl rfl)
theorem dX1_stroke_247 : decode cX1_stroke 247 = .ok (.putfield 51, 3) := dk_181 0 51 (dk_at dksX1_stroke_10 19 rfl rfl)
theorem dX1_stroke_250 : decode cX1_stroke 250 = .ok (.aload_n 0, 1) := dk_42 (dk_at dksX1_stroke_10 22 rfl rfl)
theorem dX1_stroke_251 : decode cX1_stroke 251 = .ok (.dup, 1) := dk_89 (dk_at dksX1_stroke_10 23 rfl rfl)
theorem dX1_stroke_252 : decode cX1_stroke 252 = .ok (.getfield 54, 3) := dk_180 0 54 (dk_at dksX1_stroke_11 0 rfl rfl)
theorem dX1_stroke_255 : decode cX1_stroke 255 = .ok (.aload_n 0, 1) := dk_42 (dk_at dksX1_stroke_11 3 rfl rfl)
theorem dX1_stroke_256 : decode cX1_stroke 256 = .ok (.getfield 24, 3) := dk_180 0 24 (dk_at dksX1_stroke_11 4 rfl rfl)
theorem dX1_stroke_259 : decode cX1_stroke 259 = .ok (.getfield 72, 3) := dk_180 0 72 (dk_at dksX1_stroke_11 7 rfl rfl)
theorem dX1_stroke_262 : decode cX1_stroke 262 = .ok (.iadd, 1) := dk_96 (dk_at dksX1_stroke_11 10 rfl rfl)
theorem dX1_stroke_263 : decode cX1_stroke 263 = .ok (.putfield 54, 3) := dk_181 0 54 (dk_at dksX1_stroke_11 11 rfl rfl)
theorem dX1_stroke_266 : decode cX1_stroke 266 = .ok (.iconst 0, 1) := dk_3 (dk_at dksX1_stroke_11 14 rfl rfl)
theorem dX1_stroke_267 : decode cX1_stroke 267 = .ok (.ireturn, 1) := dk_172 (dk_at dksX1_stroke_11 15 rfl rfl)
abbrev cX1_countDown : ByteArray := prog_3_method_4_code
def yX1_countDown : MethodName := ⟨RX1, "countDown", "()I"⟩
def dkwX1_countDown_2 : List UInt8 := [27, 172]
abbrev dktX1_countDown_2 : List UInt8 := dkwX1_countDown_2 ++ []
def dkwX1_countDown_1 : List UInt8 := [54, 5, 27, 21, 5, 156, 0, 7, 4, 167, 0, 4, 3, 184, 0, 57, 96, 60, 132, 4, 1, 167, 255, 225]
abbrev dktX1_countDown_1 : List UInt8 := dkwX1_countDown_1 ++ dktX1_countDown_2
def dkwX1_countDown_0 : List UInt8 := [3, 60, 42, 180, 0, 9, 77, 44, 190, 62, 3, 54, 4, 21, 4, 29, 162, 0, 31, 44, 21, 4, 46]
abbrev dktX1_countDown_0 : List UInt8 := dkwX1_countDown_0 ++ dktX1_countDown_1
theorem dksX1_countDown_0 : cX1_countDown.data.toList.drop 0 = dktX1_countDown_0 := by decide +kernel
theorem dksX1_countDown_1 : cX1_countDown.data.toList.drop 23 = dktX1_countDown_1 := dk_seg dksX1_countDown_0 23 rfl rfl
theorem dksX1_countDown_2 : cX1_countDown.data.toList.drop 47 = dktX1_countDown_2 := dk_seg dksX1_countDown_1 24 rfl rfl
theorem dX1_countDown_0 : decode cX1_countDown 0 = .ok (.iconst 0, 1) := dk_3 (dk_at dksX1_countDown_0 0 rfl rfl)
theorem dX1_countDown_1 : decode cX1_countDown 1 = .ok (.istore_n 1, 1) := dk_60 (dk_at dksX1_countDown_0 1 rfl rfl)
theorem dX1_countDown_2 : decode cX1_countDown 2 = .ok (.aload_n 0, 1) := dk_42 (dk_at dksX1_countDown_0 2 rfl rfl)
theorem dX1_countDown_3 : decode cX1_countDown 3 = .ok (.getfield 9, 3) := dk_180 0 9 (dk_at dksX1_countDown_0 3 rfl rfl)
theorem dX1_countDown_6 : decode cX1_countDown 6 = .ok (.astore_n 2, 1) := dk_77 (dk_at dksX1_countDown_0 6 rfl rfl)
theorem dX1_countDown_7 : decode cX1_countDown 7 = .ok (.aload_n 2, 1) := dk_44 (dk_at dksX1_countDown_0 7 rfl rfl)
theorem dX1_countDown_8 : decode cX1_countDown 8 = .ok (.arraylength, 1) := dk_190 (dk_at dksX1_countDown_0 8 rfl rfl)
theorem dX1_countDown_9 : decode cX1_countDown 9 = .ok (.istore_n 3, 1) := dk_62 (dk_at dksX1_countDown_0 9 rfl rfl)
theorem dX1_countDown_10 : decode cX1_countDown 10 = .ok (.iconst 0, 1) := dk_3 (dk_at dksX1_countDown_0 10 rfl rfl)
theorem dX1_countDown_11 : decode cX1_countDown 11 = .ok (.istore 4, 2) := dk_54 4 (dk_at dksX1_countDown_0 11 rfl rfl)
theorem dX1_countDown_13 : decode cX1_countDown 13 = .ok (.iload 4, 2) := dk_21 4 (dk_at dksX1_countDown_0 13 rfl rfl)
theorem dX1_countDown_15 : decode cX1_countDown 15 = .ok (.iload_n 3, 1) := dk_29 (dk_at dksX1_countDown_0 15 rfl rfl)
theorem dX1_countDown_16 : decode cX1_countDown 16 = .ok (.if_icmp .ge 31, 3) := dk_162 0 31 (dk_at dksX1_countDown_0 16 rfl rfl)
theorem dX1_countDown_19 : decode cX1_countDown 19 = .ok (.aload_n 2, 1) := dk_44 (dk_at dksX1_countDown_0 19 rfl rfl)
theorem dX1_countDown_20 : decode cX1_countDown 20 = .ok (.iload 4, 2) := dk_21 4 (dk_at dksX1_countDown_0 20 rfl rfl)
theorem dX1_countDown_22 : decode cX1_countDown 22 = .ok (.iaload, 1) := dk_46 (dk_at dksX1_countDown_0 22 rfl rfl)
theorem dX1_countDown_23 : decode cX1_countDown 23 = .ok (.istore 5, 2) := dk_54 5 (dk_at dksX1_countDown_1 0 rfl rfl)
theorem dX1_countDown_25 : decode cX1_countDown 25 = .ok (.iload_n 1, 1) := dk_27 (dk_at dksX1_countDown_1 2 rfl rfl)
theorem dX1_countDown_26 : decode cX1_countDown 26 = .ok (.iload 5, 2) := dk_21 5 (dk_at dksX1_countDown_1 3 rfl rfl)
theorem dX1_countDown_28 : decode cX1_countDown 28 = .ok (.ifCond .ge 7, 3) := dk_156 0 7 (dk_at dksX1_countDown_1 5 rfl rfl)
theorem dX1_countDown_31 : decode cX1_countDown 31 = .ok (.iconst 1, 1) := dk_4 (dk_at dksX1_countDown_1 8 rfl rfl)
theorem dX1_countDown_32 : decode cX1_countDown 32 = .ok (.goto 4, 3) := dk_167 0 4 (dk_at dksX1_countDown_1 9 rfl rfl)
theorem dX1_countDown_35 : decode cX1_countDown 35 = .ok (.iconst 0, 1) := dk_3 (dk_at dksX1_countDown_1 12 rfl rfl)
theorem dX1_countDown_36 : decode cX1_countDown 36 = .ok (.invokestatic 57, 3) := dk_184 0 57 (dk_at dksX1_countDown_1 13 rfl rfl)
theorem dX1_countDown_39 : decode cX1_countDown 39 = .ok (.iadd, 1) := dk_96 (dk_at dksX1_countDown_1 16 rfl rfl)
theorem dX1_countDown_40 : decode cX1_countDown 40 = .ok (.istore_n 1, 1) := dk_60 (dk_at dksX1_countDown_1 17 rfl rfl)
theorem dX1_countDown_41 : decode cX1_countDown 41 = .ok (.iinc 4 1, 3) := dk_132 4 1 (dk_at dksX1_countDown_1 18 rfl rfl)
theorem dX1_countDown_44 : decode cX1_countDown 44 = .ok (.goto (-31), 3) := dk_167 255 225 (dk_at dksX1_countDown_1 21 rfl rfl)
theorem dX1_countDown_47 : decode cX1_countDown 47 = .ok (.iload_n 1, 1) := dk_27 (dk_at dksX1_countDown_2 0 rfl rfl)
theorem dX1_countDown_48 : decode cX1_countDown 48 = .ok (.ireturn, 1) := dk_172 (dk_at dksX1_countDown_2 1 rfl rfl)
theorem q44 : (Jvm.Cond.initialized "BaizeCorps$Table") ∈ lw_all := lw_g (lw_at lw_m1 2 rfl) rfl
theorem q59 : (Jvm.Cond.instantiable "BaizeCorps$Table" (11 : Nat)) ∈ lw_all := lw_g (lw_at lw_m1 17 rfl) rfl
theorem q61 : (Jvm.Cond.instanceMethod ({ cls := "BaizeCorps$Table", name := "<init>", desc := "()V" } : Jvm.MethodName)) ∈ lw_all := lw_g (lw_at lw_m1 19 rfl) rfl
theorem q62 : (Jvm.Cond.code ({ cls := "BaizeCorps$Table", name := "<init>", desc := "()V" } : Jvm.MethodName) prog_3_method_1_code (2 : Nat) (Option.none : Option Jvm.ClassFile.FieldType)) ∈ lw_all := lw_g (lw_at lw_m1 20 rfl) rfl
theorem q63 : (Jvm.Cond.methodLink "BaizeCorps$Table" (3 : Nat) ({ cls := "java/lang/Object", name := "<init>", desc := "()V" } : Jvm.MethodName)) ∈ lw_all := lw_g (lw_at lw_m1 21 rfl) rfl
theorem q64 : (Jvm.Cond.classLink "BaizeCorps$Table" (21 : Nat) "BaizeCorps$Path") ∈ lw_all := lw_g (lw_at lw_m1 22 rfl) rfl
theorem q66 : (Jvm.Cond.methodLinkNest "BaizeCorps$Table" (23 : Nat) ({ cls := "BaizeCorps$Path", name := "<init>", desc := "()V" } : Jvm.MethodName) "BaizeCorps") ∈ lw_tbl := lw_at lw_m1 24 rfl
theorem q75 : (Jvm.Cond.fieldLinkNest "BaizeCorps$Table" (72 : Nat) "BaizeCorps$Path" "cushions" "I" "BaizeCorps") ∈ lw_tbl := lw_at lw_m1 33 rfl
theorem q89 : (Jvm.Cond.methodLinkNest "BaizeCorps$Table" (28 : Nat) ({ cls := "BaizeCorps", name := "spotOf", desc := "(I)I" } : Jvm.MethodName) "BaizeCorps") ∈ lw_tbl := lw_at lw_m1 47 rfl
theorem q92 : (Jvm.Cond.fieldLink "BaizeCorps$Table" (9 : Nat) "BaizeCorps$Table" "cells" "[I") ∈ lw_all := lw_g (lw_at lw_m1 50 rfl) rfl
theorem q94 : (Jvm.Cond.fieldLink "BaizeCorps$Table" (38 : Nat) "BaizeCorps$Table" "points" "I") ∈ lw_all := lw_g (lw_at lw_m1 52 rfl) rfl
theorem q96 : (Jvm.Cond.fieldLink "BaizeCorps$Table" (42 : Nat) "BaizeCorps$Table" "fouls" "I") ∈ lw_all := lw_g (lw_at lw_m1 54 rfl) rfl
theorem q98 : (Jvm.Cond.fieldLink "BaizeCorps$Table" (45 : Nat) "BaizeCorps$Table" "evening" "I") ∈ lw_all := lw_g (lw_at lw_m1 56 rfl) rfl
theorem q100 : (Jvm.Cond.fieldLink "BaizeCorps$Table" (48 : Nat) "BaizeCorps$Table" "sights" "I") ∈ lw_all := lw_g (lw_at lw_m1 58 rfl) rfl
theorem q102 : (Jvm.Cond.fieldLink "BaizeCorps$Table" (15 : Nat) "BaizeCorps$Table" "seenStep" "[I") ∈ lw_all := lw_g (lw_at lw_m1 60 rfl) rfl
theorem q104 : (Jvm.Cond.fieldLink "BaizeCorps$Table" (18 : Nat) "BaizeCorps$Table" "seenCell" "[I") ∈ lw_all := lw_g (lw_at lw_m1 62 rfl) rfl
theorem q107 : (Jvm.Cond.fieldLink "BaizeCorps$Table" (51 : Nat) "BaizeCorps$Table" "touches" "I") ∈ lw_all := lw_g (lw_at lw_m1 65 rfl) rfl
theorem q109 : (Jvm.Cond.fieldLink "BaizeCorps$Table" (54 : Nat) "BaizeCorps$Table" "cushions" "I") ∈ lw_all := lw_g (lw_at lw_m1 67 rfl) rfl
theorem q111 : (Jvm.Cond.fieldLink "BaizeCorps$Table" (24 : Nat) "BaizeCorps$Table" "path" "LBaizeCorps$Path;") ∈ lw_all := lw_g (lw_at lw_m1 69 rfl) rfl
theorem q112 : (Jvm.Cond.laysFinal "BaizeCorps$Table" "BaizeCorps$Table" "cells" "[I") ∈ lw_all := lw_g (lw_at lw_m1 70 rfl) rfl
theorem q113 : (Jvm.Cond.soleField "BaizeCorps$Table" "cells") ∈ lw_all := lw_g (lw_at lw_m1 71 rfl) rfl
theorem q114 : (Jvm.Cond.lays "BaizeCorps$Table" "BaizeCorps$Table" "points" "I") ∈ lw_all := lw_g (lw_at lw_m1 72 rfl) rfl
theorem q115 : (Jvm.Cond.soleField "BaizeCorps$Table" "points") ∈ lw_all := lw_g (lw_at lw_m1 73 rfl) rfl
theorem q116 : (Jvm.Cond.lays "BaizeCorps$Table" "BaizeCorps$Table" "fouls" "I") ∈ lw_all := lw_g (lw_at lw_m1 74 rfl) rfl
theorem q117 : (Jvm.Cond.soleField "BaizeCorps$Table" "fouls") ∈ lw_all := lw_g (lw_at lw_m1 75 rfl) rfl
theorem q118 : (Jvm.Cond.lays "BaizeCorps$Table" "BaizeCorps$Table" "evening" "I") ∈ lw_all := lw_g (lw_at lw_m1 76 rfl) rfl
theorem q119 : (Jvm.Cond.soleField "BaizeCorps$Table" "evening") ∈ lw_all := lw_g (lw_at lw_m1 77 rfl) rfl
theorem q120 : (Jvm.Cond.lays "BaizeCorps$Table" "BaizeCorps$Table" "sights" "I") ∈ lw_all := lw_g (lw_at lw_m1 78 rfl) rfl
theorem q121 : (Jvm.Cond.soleField "BaizeCorps$Table" "sights") ∈ lw_all := lw_g (lw_at lw_m1 79 rfl) rfl
theorem q122 : (Jvm.Cond.laysFinal "BaizeCorps$Table" "BaizeCorps$Table" "seenStep" "[I") ∈ lw_all := lw_g (lw_at lw_m1 80 rfl) rfl
theorem q123 : (Jvm.Cond.soleField "BaizeCorps$Table" "seenStep") ∈ lw_all := lw_g (lw_at lw_m1 81 rfl) rfl
theorem q124 : (Jvm.Cond.laysFinal "BaizeCorps$Table" "BaizeCorps$Table" "seenCell" "[I") ∈ lw_all := lw_g (lw_at lw_m1 82 rfl) rfl
theorem q125 : (Jvm.Cond.soleField "BaizeCorps$Table" "seenCell") ∈ lw_all := lw_g (lw_at lw_m1 83 rfl) rfl
theorem q126 : (Jvm.Cond.lays "BaizeCorps$Table" "BaizeCorps$Table" "isKept" "Z") ∈ lw_all := lw_g (lw_at lw_m1 84 rfl) rfl
theorem q127 : (Jvm.Cond.soleField "BaizeCorps$Table" "isKept") ∈ lw_all := lw_g (lw_at lw_m1 85 rfl) rfl
theorem q128 : (Jvm.Cond.lays "BaizeCorps$Table" "BaizeCorps$Table" "touches" "I") ∈ lw_all := lw_g (lw_at lw_m1 86 rfl) rfl
theorem q129 : (Jvm.Cond.soleField "BaizeCorps$Table" "touches") ∈ lw_all := lw_g (lw_at lw_m1 87 rfl) rfl
theorem q130 : (Jvm.Cond.lays "BaizeCorps$Table" "BaizeCorps$Table" "cushions" "I") ∈ lw_all := lw_g (lw_at lw_m1 88 rfl) rfl
theorem q131 : (Jvm.Cond.soleField "BaizeCorps$Table" "cushions") ∈ lw_all := lw_g (lw_at lw_m1 89 rfl) rfl
theorem q132 : (Jvm.Cond.laysFinal "BaizeCorps$Table" "BaizeCorps$Table" "path" "LBaizeCorps$Path;") ∈ lw_all := lw_g (lw_at lw_m1 90 rfl) rfl
theorem q133 : (Jvm.Cond.soleField "BaizeCorps$Table" "path") ∈ lw_all := lw_g (lw_at lw_m1 91 rfl) rfl
theorem q134 : (Jvm.Cond.superclass "BaizeCorps$Table" "java/lang/Object") ∈ lw_all := lw_g (lw_at lw_m1 92 rfl) rfl
theorem q213 : (Jvm.Cond.instanceMethod ({ cls := "BaizeCorps$Table", name := "ballOn", desc := "(I)I" } : Jvm.MethodName)) ∈ lw_all := lw_g (lw_at lw_m1 171 rfl) rfl
theorem q214 : (Jvm.Cond.selects "BaizeCorps$Table" ({ cls := "BaizeCorps$Table", name := "ballOn", desc := "(I)I" } : Jvm.MethodName) ({ cls := "BaizeCorps$Table", name := "ballOn", desc := "(I)I" } : Jvm.MethodName)) ∈ lw_all := lw_g (lw_at lw_m1 172 rfl) rfl
theorem q215 : (Jvm.Cond.code ({ cls := "BaizeCorps$Table", name := "ballOn", desc := "(I)I" } : Jvm.MethodName) prog_3_method_3_code (3 : Nat) (Option.some Jvm.ClassFile.FieldType.int)) ∈ lw_all := lw_g (lw_at lw_m1 173 rfl) rfl
theorem q248 : (Jvm.Cond.instanceMethod ({ cls := "BaizeCorps$Table", name := "copy", desc := "(LBaizeCorps$Table;)V" } : Jvm.MethodName)) ∈ lw_all := lw_g (lw_at lw_m1 206 rfl) rfl
theorem q249 : (Jvm.Cond.selects "BaizeCorps$Table" ({ cls := "BaizeCorps$Table", name := "copy", desc := "(LBaizeCorps$Table;)V" } : Jvm.MethodName) ({ cls := "BaizeCorps$Table", name := "copy", desc := "(LBaizeCorps$Table;)V" } : Jvm.MethodName)) ∈ lw_all := lw_g (lw_at lw_m1 207 rfl) rfl
theorem q250 : (Jvm.Cond.code ({ cls := "BaizeCorps$Table", name := "copy", desc := "(LBaizeCorps$Table;)V" } : Jvm.MethodName) prog_3_method_2_code (2 : Nat) (Option.none : Option Jvm.ClassFile.FieldType)) ∈ lw_all := lw_g (lw_at lw_m1 208 rfl) rfl
theorem q251 : (Jvm.Cond.methodLink "BaizeCorps$Table" (32 : Nat) ({ cls := "java/lang/System", name := "arraycopy", desc := "(Ljava/lang/Object;ILjava/lang/Object;II)V" } : Jvm.MethodName)) ∈ lw_all := lw_g (lw_at lw_m1 209 rfl) rfl
theorem q259 : (Jvm.Cond.instanceMethod ({ cls := "BaizeCorps$Table", name := "nap", desc := "()V" } : Jvm.MethodName)) ∈ lw_all := lw_g (lw_at lw_m1 217 rfl) rfl
theorem q260 : (Jvm.Cond.selects "BaizeCorps$Table" ({ cls := "BaizeCorps$Table", name := "nap", desc := "()V" } : Jvm.MethodName) ({ cls := "BaizeCorps$Table", name := "nap", desc := "()V" } : Jvm.MethodName)) ∈ lw_all := lw_g (lw_at lw_m1 218 rfl) rfl
theorem q261 : (Jvm.Cond.code ({ cls := "BaizeCorps$Table", name := "nap", desc := "()V" } : Jvm.MethodName) prog_3_method_7_code (5 : Nat) (Option.none : Option Jvm.ClassFile.FieldType)) ∈ lw_all := lw_g (lw_at lw_m1 219 rfl) rfl
theorem q262 : (Jvm.Cond.methodLinkNest "BaizeCorps$Table" (80 : Nat) ({ cls := "BaizeCorps", name := "isPocket", desc := "(I)Z" } : Jvm.MethodName) "BaizeCorps") ∈ lw_tbl := lw_at lw_m1 220 rfl
theorem q263 : (Jvm.Cond.methodLink "BaizeCorps$Table" (69 : Nat) ({ cls := "BaizeCorps$Table", name := "ballOn", desc := "(I)I" } : Jvm.MethodName)) ∈ lw_all := lw_g (lw_at lw_m1 221 rfl) rfl
theorem q265 : (Jvm.Cond.instanceMethod ({ cls := "BaizeCorps$Table", name := "pass", desc := "()I" } : Jvm.MethodName)) ∈ lw_all := lw_g (lw_at lw_m1 223 rfl) rfl
theorem q266 : (Jvm.Cond.selects "BaizeCorps$Table" ({ cls := "BaizeCorps$Table", name := "pass", desc := "()I" } : Jvm.MethodName) ({ cls := "BaizeCorps$Table", name := "pass", desc := "()I" } : Jvm.MethodName)) ∈ lw_all := lw_g (lw_at lw_m1 224 rfl) rfl
theorem q267 : (Jvm.Cond.code ({ cls := "BaizeCorps$Table", name := "pass", desc := "()I" } : Jvm.MethodName) prog_3_method_8_code (1 : Nat) (Option.some Jvm.ClassFile.FieldType.int)) ∈ lw_all := lw_g (lw_at lw_m1 225 rfl) rfl
theorem q269 : (Jvm.Cond.instanceMethod ({ cls := "BaizeCorps$Table", name := "bringUp", desc := "(I)I" } : Jvm.MethodName)) ∈ lw_all := lw_g (lw_at lw_m1 227 rfl) rfl
theorem q270 : (Jvm.Cond.selects "BaizeCorps$Table" ({ cls := "BaizeCorps$Table", name := "bringUp", desc := "(I)I" } : Jvm.MethodName) ({ cls := "BaizeCorps$Table", name := "bringUp", desc := "(I)I" } : Jvm.MethodName)) ∈ lw_all := lw_g (lw_at lw_m1 228 rfl) rfl
theorem q271 : (Jvm.Cond.code ({ cls := "BaizeCorps$Table", name := "bringUp", desc := "(I)I" } : Jvm.MethodName) prog_3_method_6_code (2 : Nat) (Option.some Jvm.ClassFile.FieldType.int)) ∈ lw_all := lw_g (lw_at lw_m1 229 rfl) rfl
theorem q273 : (Jvm.Cond.instanceMethod ({ cls := "BaizeCorps$Table", name := "stroke", desc := "(III)I" } : Jvm.MethodName)) ∈ lw_all := lw_g (lw_at lw_m1 231 rfl) rfl
theorem q274 : (Jvm.Cond.selects "BaizeCorps$Table" ({ cls := "BaizeCorps$Table", name := "stroke", desc := "(III)I" } : Jvm.MethodName) ({ cls := "BaizeCorps$Table", name := "stroke", desc := "(III)I" } : Jvm.MethodName)) ∈ lw_all := lw_g (lw_at lw_m1 232 rfl) rfl
theorem q275 : (Jvm.Cond.code ({ cls := "BaizeCorps$Table", name := "stroke", desc := "(III)I" } : Jvm.MethodName) prog_3_method_5_code (9 : Nat) (Option.some Jvm.ClassFile.FieldType.int)) ∈ lw_all := lw_g (lw_at lw_m1 233 rfl) rfl
theorem q276 : (Jvm.Cond.methodLink "BaizeCorps$Table" (61 : Nat) ({ cls := "BaizeCorps$Path", name := "send", desc := "(II)V" } : Jvm.MethodName)) ∈ lw_all := lw_g (lw_at lw_m1 234 rfl) rfl
theorem q280 : (Jvm.Cond.methodLink "BaizeCorps$Table" (65 : Nat) ({ cls := "BaizeCorps$Path", name := "next", desc := "()I" } : Jvm.MethodName)) ∈ lw_all := lw_g (lw_at lw_m1 238 rfl) rfl
theorem q288 : (Jvm.Cond.methodLinkNest "BaizeCorps$Table" (57 : Nat) ({ cls := "BaizeCorps", name := "asNumber", desc := "(Z)I" } : Jvm.MethodName) "BaizeCorps") ∈ lw_tbl := lw_at lw_m2 6 rfl
theorem q289 : (Jvm.Cond.methodLink "BaizeCorps$Table" (73 : Nat) ({ cls := "BaizeCorps$Path", name := "goFrom", desc := "(I)V" } : Jvm.MethodName)) ∈ lw_all := lw_g (lw_at lw_m2 7 rfl) rfl
theorem q293 : (Jvm.Cond.methodLink "BaizeCorps$Table" (77 : Nat) ({ cls := "BaizeCorps$Path", name := "go", desc := "()V" } : Jvm.MethodName)) ∈ lw_all := lw_g (lw_at lw_m2 11 rfl) rfl
theorem q310 : (Jvm.Cond.instanceMethod ({ cls := "BaizeCorps$Table", name := "countDown", desc := "()I" } : Jvm.MethodName)) ∈ lw_all := lw_g (lw_at lw_m2 28 rfl) rfl
theorem q311 : (Jvm.Cond.selects "BaizeCorps$Table" ({ cls := "BaizeCorps$Table", name := "countDown", desc := "()I" } : Jvm.MethodName) ({ cls := "BaizeCorps$Table", name := "countDown", desc := "()I" } : Jvm.MethodName)) ∈ lw_all := lw_g (lw_at lw_m2 29 rfl) rfl
theorem q312 : (Jvm.Cond.code ({ cls := "BaizeCorps$Table", name := "countDown", desc := "()I" } : Jvm.MethodName) prog_3_method_4_code (6 : Nat) (Option.some Jvm.ClassFile.FieldType.int)) ∈ lw_all := lw_g (lw_at lw_m2 30 rfl) rfl
theorem in_X1 : ∀ w ∈ wsX10, w ∈ lw_all := lw_in wsX10 [112, 114, 116, 118, 120, 122, 124, 126, 128, 130, 132] (by decide +kernel) (by decide +kernel)
theorem q42 : (Jvm.Cond.initialized "BaizeCorpsLaw") ∈ lw_all := lw_g (lw_at lw_m1 0 rfl) rfl
set_option maxRecDepth 100000
theorem q50 : (Jvm.Cond.classLink "BaizeCorpsLaw" (7 : Nat) "BaizeCorps") ∈ lw_all := lw_g (lw_at lw_m1 8 rfl) rfl
theorem q52 : (Jvm.Cond.methodLink "BaizeCorpsLaw" (9 : Nat) ({ cls := "BaizeCorps", name := "<init>", desc := "()V" } : Jvm.MethodName)) ∈ lw_all := lw_g (lw_at lw_m1 10 rfl) rfl
theorem q196 : (Jvm.Cond.methodLink "BaizeCorpsLaw" (13 : Nat) ({ cls := "BaizeCorps", name := "ball", desc := "(II)I" } : Jvm.MethodName)) ∈ lw_all := lw_g (lw_at lw_m1 154 rfl) rfl
theorem q216 : (Jvm.Cond.methodLink "BaizeCorpsLaw" (18 : Nat) ({ cls := "BaizeCorps", name := "score", desc := "(II)I" } : Jvm.MethodName)) ∈ lw_all := lw_g (lw_at lw_m1 174 rfl) rfl
theorem q220 : (Jvm.Cond.methodLink "BaizeCorpsLaw" (22 : Nat) ({ cls := "BaizeCorps", name := "say", desc := "(I)I" } : Jvm.MethodName)) ∈ lw_all := lw_g (lw_at lw_m1 178 rfl) rfl
theorem q224 : (Jvm.Cond.methodLink "BaizeCorpsLaw" (27 : Nat) ({ cls := "BaizeCorps", name := "wipe", desc := "()I" } : Jvm.MethodName)) ∈ lw_all := lw_g (lw_at lw_m1 182 rfl) rfl
theorem q228 : (Jvm.Cond.methodLink "BaizeCorpsLaw" (32 : Nat) ({ cls := "BaizeCorps", name := "fault", desc := "()I" } : Jvm.MethodName)) ∈ lw_all := lw_g (lw_at lw_m1 186 rfl) rfl
theorem q239 : (Jvm.Cond.methodLink "BaizeCorpsLaw" (36 : Nat) ({ cls := "BaizeCorps", name := "judge", desc := "(I)I" } : Jvm.MethodName)) ∈ lw_all := lw_g (lw_at lw_m1 197 rfl) rfl
theorem q297 : (Jvm.Cond.methodLink "BaizeCorpsLaw" (40 : Nat) ({ cls := "BaizeCorps", name := "behind", desc := "(I)I" } : Jvm.MethodName)) ∈ lw_all := lw_g (lw_at lw_m2 15 rfl) rfl
theorem q305 : (Jvm.Cond.methodLink "BaizeCorpsLaw" (44 : Nat) ({ cls := "BaizeCorps", name := "table", desc := "(I)I" } : Jvm.MethodName)) ∈ lw_all := lw_g (lw_at lw_m2 23 rfl) rfl
theorem q313 : (Jvm.Cond.methodLink "BaizeCorpsLaw" (48 : Nat) ({ cls := "BaizeCorps", name := "candour", desc := "(I)I" } : Jvm.MethodName)) ∈ lw_all := lw_g (lw_at lw_m2 31 rfl) rfl
theorem q317 : (Jvm.Cond.methodLink "BaizeCorpsLaw" (52 : Nat) ({ cls := "BaizeCorps", name := "done", desc := "()I" } : Jvm.MethodName)) ∈ lw_all := lw_g (lw_at lw_m2 35 rfl) rfl
theorem q321 : (Jvm.Cond.methodLink "BaizeCorpsLaw" (56 : Nat) ({ cls := "BaizeCorps", name := "hint", desc := "(IIII)I" } : Jvm.MethodName)) ∈ lw_all := lw_g (lw_at lw_m2 39 rfl) rfl
theorem q336 : (Jvm.Cond.methodLink "BaizeCorpsLaw" (61 : Nat) ({ cls := "BaizeCorps", name := "alone", desc := "(IIII)I" } : Jvm.MethodName)) ∈ lw_all := lw_g (lw_at lw_m2 54 rfl) rfl
theorem q360 : (Jvm.Cond.methodLink "BaizeCorpsLaw" (65 : Nat) ({ cls := "BaizeCorps", name := "strokes", desc := "(III)I" } : Jvm.MethodName)) ∈ lw_all := lw_g (lw_at lw_m2 78 rfl) rfl
theorem q371 : (Jvm.Cond.methodLink "BaizeCorpsLaw" (70 : Nat) ({ cls := "BaizeCorps", name := "seen", desc := "(II)I" } : Jvm.MethodName)) ∈ lw_all := lw_g (lw_at lw_m2 89 rfl) rfl
theorem q375 : (Jvm.Cond.methodLink "BaizeCorpsLaw" (74 : Nat) ({ cls := "BaizeCorps", name := "forget", desc := "()I" } : Jvm.MethodName)) ∈ lw_all := lw_g (lw_at lw_m2 93 rfl) rfl
theorem q379 : (Jvm.Cond.methodLink "BaizeCorpsLaw" (78 : Nat) ({ cls := "BaizeCorps", name := "sent", desc := "(I)I" } : Jvm.MethodName)) ∈ lw_all := lw_g (lw_at lw_m2 97 rfl) rfl
theorem q391 : (Jvm.Cond.methodLink "BaizeCorpsLaw" (82 : Nat) ({ cls := "BaizeCorps", name := "ask", desc := "(I)I" } : Jvm.MethodName)) ∈ lw_all := lw_g (lw_at lw_m2 109 rfl) rfl
theorem q398 : (Jvm.Cond.methodLink "BaizeCorpsLaw" (86 : Nat) ({ cls := "BaizeCorps", name := "chalk", desc := "(III)I" } : Jvm.MethodName)) ∈ lw_all := lw_g (lw_at lw_m2 116 rfl) rfl
theorem q409 : (Jvm.Cond.methodLink "BaizeCorpsLaw" (90 : Nat) ({ cls := "BaizeCorps", name := "match", desc := "(IIIIII)J" } : Jvm.MethodName)) ∈ lw_all := lw_g (lw_at lw_m2 127 rfl) rfl
theorem q424 : (Jvm.Cond.methodLink "BaizeCorpsLaw" (95 : Nat) ({ cls := "BaizeCorps", name := "season", desc := "(III)I" } : Jvm.MethodName)) ∈ lw_all := lw_g (lw_at lw_m2 142 rfl) rfl
theorem q434 : (Jvm.Cond.methodLink "BaizeCorpsLaw" (99 : Nat) ({ cls := "BaizeCorps", name := "image", desc := "(I)I" } : Jvm.MethodName)) ∈ lw_all := lw_g (lw_at lw_m2 152 rfl) rfl
theorem q438 : (Jvm.Cond.methodLink "BaizeCorpsLaw" (103 : Nat) ({ cls := "BaizeCorps", name := "restore", desc := "(I)I" } : Jvm.MethodName)) ∈ lw_all := lw_g (lw_at lw_m2 156 rfl) rfl
theorem q442 : (Jvm.Cond.methodLink "BaizeCorpsLaw" (107 : Nat) ({ cls := "BaizeCorps", name := "told", desc := "(I)I" } : Jvm.MethodName)) ∈ lw_all := lw_g (lw_at lw_m2 160 rfl) rfl
theorem q446 : (Jvm.Cond.classLink "BaizeCorpsLaw" (10 : Nat) "BaizeCorpsModel") ∈ lw_all := lw_g (lw_at lw_m2 164 rfl) rfl
theorem q448 : (Jvm.Cond.methodLink "BaizeCorpsLaw" (12 : Nat) ({ cls := "BaizeCorpsModel", name := "<init>", desc := "()V" } : Jvm.MethodName)) ∈ lw_all := lw_g (lw_at lw_m2 166 rfl) rfl
theorem q582 : (Jvm.Cond.methodLink "BaizeCorpsLaw" (17 : Nat) ({ cls := "BaizeCorpsModel", name := "ball", desc := "(II)I" } : Jvm.MethodName)) ∈ lw_all := lw_g (lw_at lw_m3 60 rfl) rfl
theorem q607 : (Jvm.Cond.methodLink "BaizeCorpsLaw" (21 : Nat) ({ cls := "BaizeCorpsModel", name := "score", desc := "(II)I" } : Jvm.MethodName)) ∈ lw_all := lw_g (lw_at lw_m3 85 rfl) rfl
theorem q612 : (Jvm.Cond.methodLink "BaizeCorpsLaw" (26 : Nat) ({ cls := "BaizeCorpsModel", name := "say", desc := "(I)I" } : Jvm.MethodName)) ∈ lw_all := lw_g (lw_at lw_m3 90 rfl) rfl
theorem q618 : (Jvm.Cond.methodLink "BaizeCorpsLaw" (31 : Nat) ({ cls := "BaizeCorpsModel", name := "wipe", desc := "()I" } : Jvm.MethodName)) ∈ lw_all := lw_g (lw_at lw_m3 96 rfl) rfl
theorem q622 : (Jvm.Cond.methodLink "BaizeCorpsLaw" (35 : Nat) ({ cls := "BaizeCorpsModel", name := "fault", desc := "()I" } : Jvm.MethodName)) ∈ lw_all := lw_g (lw_at lw_m3 100 rfl) rfl
theorem q652 : (Jvm.Cond.methodLink "BaizeCorpsLaw" (39 : Nat) ({ cls := "BaizeCorpsModel", name := "judge", desc := "(I)I" } : Jvm.MethodName)) ∈ lw_all := lw_g (lw_at lw_m3 130 rfl) rfl
theorem q722 : (Jvm.Cond.methodLink "BaizeCorpsLaw" (43 : Nat) ({ cls := "BaizeCorpsModel", name := "behind", desc := "(I)I" } : Jvm.MethodName)) ∈ lw_all := lw_g (lw_at lw_m3 200 rfl) rfl
theorem q726 : (Jvm.Cond.methodLink "BaizeCorpsLaw" (47 : Nat) ({ cls := "BaizeCorpsModel", name := "table", desc := "(I)I" } : Jvm.MethodName)) ∈ lw_all := lw_g (lw_at lw_m3 204 rfl) rfl
theorem q735 : (Jvm.Cond.methodLink "BaizeCorpsLaw" (51 : Nat) ({ cls := "BaizeCorpsModel", name := "candour", desc := "(I)I" } : Jvm.MethodName)) ∈ lw_all := lw_g (lw_at lw_m3 213 rfl) rfl
theorem q739 : (Jvm.Cond.methodLink "BaizeCorpsLaw" (55 : Nat) ({ cls := "BaizeCorpsModel", name := "done", desc := "()I" } : Jvm.MethodName)) ∈ lw_all := lw_g (lw_at lw_m3 217 rfl) rfl
theorem q743 : (Jvm.Cond.methodLink "BaizeCorpsLaw" (60 : Nat) ({ cls := "BaizeCorpsModel", name := "hint", desc := "(IIII)I" } : Jvm.MethodName)) ∈ lw_all := lw_g (lw_at lw_m3 221 rfl) rfl
theorem q751 : (Jvm.Cond.methodLink "BaizeCorpsLaw" (64 : Nat) ({ cls := "BaizeCorpsModel", name := "alone", desc := "(IIII)I" } : Jvm.MethodName)) ∈ lw_all := lw_g (lw_at lw_m3 229 rfl) rfl
theorem q770 : (Jvm.Cond.methodLink "BaizeCorpsLaw" (69 : Nat) ({ cls := "BaizeCorpsModel", name := "strokes", desc := "(III)I" } : Jvm.MethodName)) ∈ lw_all := lw_g (lw_at lw_m4 8 rfl) rfl
theorem q786 : (Jvm.Cond.methodLink "BaizeCorpsLaw" (73 : Nat) ({ cls := "BaizeCorpsModel", name := "seen", desc := "(II)I" } : Jvm.MethodName)) ∈ lw_all := lw_g (lw_at lw_m4 24 rfl) rfl
theorem q791 : (Jvm.Cond.methodLink "BaizeCorpsLaw" (77 : Nat) ({ cls := "BaizeCorpsModel", name := "forget", desc := "()I" } : Jvm.MethodName)) ∈ lw_all := lw_g (lw_at lw_m4 29 rfl) rfl
theorem q795 : (Jvm.Cond.methodLink "BaizeCorpsLaw" (81 : Nat) ({ cls := "BaizeCorpsModel", name := "sent", desc := "(I)I" } : Jvm.MethodName)) ∈ lw_all := lw_g (lw_at lw_m4 33 rfl) rfl
theorem q807 : (Jvm.Cond.methodLink "BaizeCorpsLaw" (85 : Nat) ({ cls := "BaizeCorpsModel", name := "ask", desc := "(I)I" } : Jvm.MethodName)) ∈ lw_all := lw_g (lw_at lw_m4 45 rfl) rfl
theorem q815 : (Jvm.Cond.methodLink "BaizeCorpsLaw" (89 : Nat) ({ cls := "BaizeCorpsModel", name := "chalk", desc := "(III)I" } : Jvm.MethodName)) ∈ lw_all := lw_g (lw_at lw_m4 53 rfl) rfl
theorem q830 : (Jvm.Cond.methodLink "BaizeCorpsLaw" (94 : Nat) ({ cls := "BaizeCorpsModel", name := "match", desc := "(IIIIII)J" } : Jvm.MethodName)) ∈ lw_all := lw_g (lw_at lw_m4 68 rfl) rfl
theorem q846 : (Jvm.Cond.methodLink "BaizeCorpsLaw" (98 : Nat) ({ cls := "BaizeCorpsModel", name := "season", desc := "(III)I" } : Jvm.MethodName)) ∈ lw_all := lw_g (lw_at lw_m4 84 rfl) rfl
theorem q857 : (Jvm.Cond.methodLink "BaizeCorpsLaw" (102 : Nat) ({ cls := "BaizeCorpsModel", name := "image", desc := "(I)I" } : Jvm.MethodName)) ∈ lw_all := lw_g (lw_at lw_m4 95 rfl) rfl
theorem q873 : (Jvm.Cond.methodLink "BaizeCorpsLaw" (106 : Nat) ({ cls := "BaizeCorpsModel", name := "restore", desc := "(I)I" } : Jvm.MethodName)) ∈ lw_all := lw_g (lw_at lw_m4 111 rfl) rfl
theorem q877 : (Jvm.Cond.methodLink "BaizeCorpsLaw" (110 : Nat) ({ cls := "BaizeCorpsModel", name := "told", desc := "(I)I" } : Jvm.MethodName)) ∈ lw_all := lw_g (lw_at lw_m4 115 rfl) rfl
