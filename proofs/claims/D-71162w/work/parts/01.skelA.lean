-- ===== PART A: goes FIRST, ahead of the names: the tables' words, and 'selects' of the private methods out of them =====
/-- a private method of a class that the tables say can be made, by its rows of tables_1 -/
def lw_okq (q : MethodName × Nat) : Prop := (q.1.cls ≠ "java/lang/invoke/MethodHandle" ∧ q.1.cls ≠ "java/lang/invoke/VarHandle") ∧ Cond.instantiable q.1.cls q.2 ∈ tables_1 ∧ Cond.privateMethod q.1 ∈ tables_1 ∧ Cond.instanceMethod q.1 ∈ tables_1
set_option maxRecDepth 100000
theorem lw_t1 {w : Cond} (h : w ∈ tables_1_1) : w ∈ tables_1 := List.mem_append_left _ h
theorem lw_t2 {w : Cond} (h : w ∈ tables_1_2) : w ∈ tables_1 := List.mem_append_right _ (List.mem_append_left _ h)
theorem lw_t3 {w : Cond} (h : w ∈ tables_1_3) : w ∈ tables_1 := List.mem_append_right _ (List.mem_append_right _ (List.mem_append_left _ h))
theorem lw_t4 {w : Cond} (h : w ∈ tables_1_4) : w ∈ tables_1 := List.mem_append_right _ (List.mem_append_right _ (List.mem_append_right _ h))
theorem lw_p0 : lw_okq (⟨"BaizeCorps", "faultOf", "()I"⟩, 18) := ⟨⟨by decide +kernel, by decide +kernel⟩, lw_t1 (List.mem_of_getElem? (i := 9) rfl), lw_t1 (List.mem_of_getElem? (i := 191) rfl), lw_t1 (List.mem_of_getElem? (i := 192) rfl)⟩
theorem lw_p1 : lw_okq (⟨"BaizeCorps", "goCrises", "()I"⟩, 18) := ⟨⟨by decide +kernel, by decide +kernel⟩, lw_t1 (List.mem_of_getElem? (i := 9) rfl), lw_t1 (List.mem_of_getElem? (i := 202) rfl), lw_t1 (List.mem_of_getElem? (i := 203) rfl)⟩
theorem lw_p2 : lw_okq (⟨"BaizeCorps", "act", "(I)I"⟩, 18) := ⟨⟨by decide +kernel, by decide +kernel⟩, lw_t1 (List.mem_of_getElem? (i := 9) rfl), lw_t1 (List.mem_of_getElem? (i := 213) rfl), lw_t1 (List.mem_of_getElem? (i := 214) rfl)⟩
theorem lw_p3 : lw_okq (⟨"BaizeCorps", "barOfCrises", "()I"⟩, 18) := ⟨⟨by decide +kernel, by decide +kernel⟩, lw_t1 (List.mem_of_getElem? (i := 9) rfl), lw_t2 (List.mem_of_getElem? (i := 20) rfl), lw_t2 (List.mem_of_getElem? (i := 21) rfl)⟩
theorem lw_p4 : lw_okq (⟨"BaizeCorps", "forceBy", "(IIII)I"⟩, 18) := ⟨⟨by decide +kernel, by decide +kernel⟩, lw_t1 (List.mem_of_getElem? (i := 9) rfl), lw_t2 (List.mem_of_getElem? (i := 45) rfl), lw_t2 (List.mem_of_getElem? (i := 46) rfl)⟩
theorem lw_p5 : lw_okq (⟨"BaizeCorps", "walkAlone", "(III)V"⟩, 18) := ⟨⟨by decide +kernel, by decide +kernel⟩, lw_t1 (List.mem_of_getElem? (i := 9) rfl), lw_t2 (List.mem_of_getElem? (i := 63) rfl), lw_t2 (List.mem_of_getElem? (i := 64) rfl)⟩
theorem lw_p6 : lw_okq (⟨"BaizeCorps", "reachFrom", "(I)V"⟩, 18) := ⟨⟨by decide +kernel, by decide +kernel⟩, lw_t1 (List.mem_of_getElem? (i := 9) rfl), lw_t2 (List.mem_of_getElem? (i := 86) rfl), lw_t2 (List.mem_of_getElem? (i := 87) rfl)⟩
theorem lw_p7 : lw_okq (⟨"BaizeCorps", "canBe", "(I)Z"⟩, 18) := ⟨⟨by decide +kernel, by decide +kernel⟩, lw_t1 (List.mem_of_getElem? (i := 9) rfl), lw_t2 (List.mem_of_getElem? (i := 102) rfl), lw_t2 (List.mem_of_getElem? (i := 103) rfl)⟩
theorem lw_p8 : lw_okq (⟨"BaizeCorps", "cellAfter", "(II)I"⟩, 18) := ⟨⟨by decide +kernel, by decide +kernel⟩, lw_t1 (List.mem_of_getElem? (i := 9) rfl), lw_t2 (List.mem_of_getElem? (i := 106) rfl), lw_t2 (List.mem_of_getElem? (i := 107) rfl)⟩
theorem lw_p9 : lw_okq (⟨"BaizeCorps", "firstOf", "(II)I"⟩, 18) := ⟨⟨by decide +kernel, by decide +kernel⟩, lw_t1 (List.mem_of_getElem? (i := 9) rfl), lw_t2 (List.mem_of_getElem? (i := 121) rfl), lw_t2 (List.mem_of_getElem? (i := 122) rfl)⟩
theorem lw_p10 : lw_okq (⟨"BaizeCorpsModel", "ballOn", "(I)I"⟩, 42) := ⟨⟨by decide +kernel, by decide +kernel⟩, lw_t2 (List.mem_of_getElem? (i := 165) rfl), lw_t3 (List.mem_of_getElem? (i := 82) rfl), lw_t3 (List.mem_of_getElem? (i := 83) rfl)⟩
theorem lw_p11 : lw_okq (⟨"BaizeCorpsModel", "readOn", "(II)I"⟩, 42) := ⟨⟨by decide +kernel, by decide +kernel⟩, lw_t2 (List.mem_of_getElem? (i := 165) rfl), lw_t3 (List.mem_of_getElem? (i := 105) rfl), lw_t3 (List.mem_of_getElem? (i := 106) rfl)⟩
theorem lw_p12 : lw_okq (⟨"BaizeCorpsModel", "begin", "(I)I"⟩, 42) := ⟨⟨by decide +kernel, by decide +kernel⟩, lw_t2 (List.mem_of_getElem? (i := 165) rfl), lw_t3 (List.mem_of_getElem? (i := 109) rfl), lw_t3 (List.mem_of_getElem? (i := 110) rfl)⟩
theorem lw_p13 : lw_okq (⟨"BaizeCorpsModel", "close", "(I)I"⟩, 42) := ⟨⟨by decide +kernel, by decide +kernel⟩, lw_t2 (List.mem_of_getElem? (i := 165) rfl), lw_t3 (List.mem_of_getElem? (i := 115) rfl), lw_t3 (List.mem_of_getElem? (i := 116) rfl)⟩
theorem lw_p14 : lw_okq (⟨"BaizeCorpsModel", "deed", "(I)I"⟩, 42) := ⟨⟨by decide +kernel, by decide +kernel⟩, lw_t2 (List.mem_of_getElem? (i := 165) rfl), lw_t3 (List.mem_of_getElem? (i := 119) rfl), lw_t3 (List.mem_of_getElem? (i := 120) rfl)⟩
theorem lw_p15 : lw_okq (⟨"BaizeCorpsModel", "force", "(I)I"⟩, 42) := ⟨⟨by decide +kernel, by decide +kernel⟩, lw_t2 (List.mem_of_getElem? (i := 165) rfl), lw_t3 (List.mem_of_getElem? (i := 125) rfl), lw_t3 (List.mem_of_getElem? (i := 126) rfl)⟩
def lw_privs_1 : List (MethodName × Nat) := [(⟨"BaizeCorps", "faultOf", "()I"⟩, 18), (⟨"BaizeCorps", "goCrises", "()I"⟩, 18), (⟨"BaizeCorps", "act", "(I)I"⟩, 18), (⟨"BaizeCorps", "barOfCrises", "()I"⟩, 18), (⟨"BaizeCorps", "forceBy", "(IIII)I"⟩, 18), (⟨"BaizeCorps", "walkAlone", "(III)V"⟩, 18), (⟨"BaizeCorps", "reachFrom", "(I)V"⟩, 18), (⟨"BaizeCorps", "canBe", "(I)Z"⟩, 18), (⟨"BaizeCorps", "cellAfter", "(II)I"⟩, 18), (⟨"BaizeCorps", "firstOf", "(II)I"⟩, 18), (⟨"BaizeCorpsModel", "ballOn", "(I)I"⟩, 42), (⟨"BaizeCorpsModel", "readOn", "(II)I"⟩, 42), (⟨"BaizeCorpsModel", "begin", "(I)I"⟩, 42), (⟨"BaizeCorpsModel", "close", "(I)I"⟩, 42), (⟨"BaizeCorpsModel", "deed", "(I)I"⟩, 42), (⟨"BaizeCorpsModel", "force", "(I)I"⟩, 42)]
theorem lw_r1 : ∀ q ∈ lw_privs_1, lw_okq q := List.forall_mem_cons.mpr ⟨lw_p0, List.forall_mem_cons.mpr ⟨lw_p1, List.forall_mem_cons.mpr ⟨lw_p2, List.forall_mem_cons.mpr ⟨lw_p3, List.forall_mem_cons.mpr ⟨lw_p4, List.forall_mem_cons.mpr ⟨lw_p5, List.forall_mem_cons.mpr ⟨lw_p6, List.forall_mem_cons.mpr ⟨lw_p7, List.forall_mem_cons.mpr ⟨lw_p8, List.forall_mem_cons.mpr ⟨lw_p9, List.forall_mem_cons.mpr ⟨lw_p10, List.forall_mem_cons.mpr ⟨lw_p11, List.forall_mem_cons.mpr ⟨lw_p12, List.forall_mem_cons.mpr ⟨lw_p13, List.forall_mem_cons.mpr ⟨lw_p14, List.forall_mem_cons.mpr ⟨lw_p15, fun _ h => absurd h List.not_mem_nil⟩⟩⟩⟩⟩⟩⟩⟩⟩⟩⟩⟩⟩⟩⟩⟩
theorem lw_p16 : lw_okq (⟨"BaizeCorpsModel", "refusal", "()I"⟩, 42) := ⟨⟨by decide +kernel, by decide +kernel⟩, lw_t2 (List.mem_of_getElem? (i := 165) rfl), lw_t3 (List.mem_of_getElem? (i := 135) rfl), lw_t3 (List.mem_of_getElem? (i := 136) rfl)⟩
theorem lw_p17 : lw_okq (⟨"BaizeCorpsModel", "keepNow", "()V"⟩, 42) := ⟨⟨by decide +kernel, by decide +kernel⟩, lw_t2 (List.mem_of_getElem? (i := 165) rfl), lw_t3 (List.mem_of_getElem? (i := 139) rfl), lw_t3 (List.mem_of_getElem? (i := 140) rfl)⟩
theorem lw_p18 : lw_okq (⟨"BaizeCorpsModel", "goCrises", "()V"⟩, 42) := ⟨⟨by decide +kernel, by decide +kernel⟩, lw_t2 (List.mem_of_getElem? (i := 165) rfl), lw_t3 (List.mem_of_getElem? (i := 144) rfl), lw_t3 (List.mem_of_getElem? (i := 145) rfl)⟩
theorem lw_p19 : lw_okq (⟨"BaizeCorpsModel", "whyNot", "(II)I"⟩, 42) := ⟨⟨by decide +kernel, by decide +kernel⟩, lw_t2 (List.mem_of_getElem? (i := 165) rfl), lw_t3 (List.mem_of_getElem? (i := 148) rfl), lw_t3 (List.mem_of_getElem? (i := 149) rfl)⟩
theorem lw_p20 : lw_okq (⟨"BaizeCorpsModel", "happen", "(IIII)V"⟩, 42) := ⟨⟨by decide +kernel, by decide +kernel⟩, lw_t2 (List.mem_of_getElem? (i := 165) rfl), lw_t3 (List.mem_of_getElem? (i := 152) rfl), lw_t3 (List.mem_of_getElem? (i := 153) rfl)⟩
theorem lw_p21 : lw_okq (⟨"BaizeCorpsModel", "stroke", "(III)V"⟩, 42) := ⟨⟨by decide +kernel, by decide +kernel⟩, lw_t2 (List.mem_of_getElem? (i := 165) rfl), lw_t3 (List.mem_of_getElem? (i := 156) rfl), lw_t3 (List.mem_of_getElem? (i := 157) rfl)⟩
theorem lw_p22 : lw_okq (⟨"BaizeCorpsModel", "send", "(III)V"⟩, 42) := ⟨⟨by decide +kernel, by decide +kernel⟩, lw_t2 (List.mem_of_getElem? (i := 165) rfl), lw_t3 (List.mem_of_getElem? (i := 160) rfl), lw_t3 (List.mem_of_getElem? (i := 161) rfl)⟩
theorem lw_p23 : lw_okq (⟨"BaizeCorpsModel", "step", "(I)V"⟩, 42) := ⟨⟨by decide +kernel, by decide +kernel⟩, lw_t2 (List.mem_of_getElem? (i := 165) rfl), lw_t3 (List.mem_of_getElem? (i := 164) rfl), lw_t3 (List.mem_of_getElem? (i := 165) rfl)⟩
theorem lw_p24 : lw_okq (⟨"BaizeCorpsModel", "touch", "(II)V"⟩, 42) := ⟨⟨by decide +kernel, by decide +kernel⟩, lw_t2 (List.mem_of_getElem? (i := 165) rfl), lw_t3 (List.mem_of_getElem? (i := 182) rfl), lw_t3 (List.mem_of_getElem? (i := 183) rfl)⟩
theorem lw_p25 : lw_okq (⟨"BaizeCorpsModel", "nap", "()V"⟩, 42) := ⟨⟨by decide +kernel, by decide +kernel⟩, lw_t2 (List.mem_of_getElem? (i := 165) rfl), lw_t3 (List.mem_of_getElem? (i := 186) rfl), lw_t3 (List.mem_of_getElem? (i := 187) rfl)⟩
theorem lw_p26 : lw_okq (⟨"BaizeCorpsModel", "drift", "(I)V"⟩, 42) := ⟨⟨by decide +kernel, by decide +kernel⟩, lw_t2 (List.mem_of_getElem? (i := 165) rfl), lw_t3 (List.mem_of_getElem? (i := 193) rfl), lw_t3 (List.mem_of_getElem? (i := 194) rfl)⟩
theorem lw_p27 : lw_okq (⟨"BaizeCorpsModel", "back", "(I)I"⟩, 42) := ⟨⟨by decide +kernel, by decide +kernel⟩, lw_t2 (List.mem_of_getElem? (i := 165) rfl), lw_t3 (List.mem_of_getElem? (i := 197) rfl), lw_t3 (List.mem_of_getElem? (i := 198) rfl)⟩
theorem lw_p28 : lw_okq (⟨"BaizeCorpsModel", "downMany", "()I"⟩, 42) := ⟨⟨by decide +kernel, by decide +kernel⟩, lw_t2 (List.mem_of_getElem? (i := 165) rfl), lw_t3 (List.mem_of_getElem? (i := 210) rfl), lw_t3 (List.mem_of_getElem? (i := 211) rfl)⟩
theorem lw_p29 : lw_okq (⟨"BaizeCorpsModel", "stepsBy", "(IIII)I"⟩, 42) := ⟨⟨by decide +kernel, by decide +kernel⟩, lw_t2 (List.mem_of_getElem? (i := 165) rfl), lw_t3 (List.mem_of_getElem? (i := 226) rfl), lw_t3 (List.mem_of_getElem? (i := 227) rfl)⟩
theorem lw_p30 : lw_okq (⟨"BaizeCorpsModel", "metMany", "(I)I"⟩, 42) := ⟨⟨by decide +kernel, by decide +kernel⟩, lw_t2 (List.mem_of_getElem? (i := 165) rfl), lw_t4 (List.mem_of_getElem? (i := 5) rfl), lw_t4 (List.mem_of_getElem? (i := 6) rfl)⟩
theorem lw_p31 : lw_okq (⟨"BaizeCorpsModel", "findFar", "(I)Z"⟩, 42) := ⟨⟨by decide +kernel, by decide +kernel⟩, lw_t2 (List.mem_of_getElem? (i := 165) rfl), lw_t4 (List.mem_of_getElem? (i := 13) rfl), lw_t4 (List.mem_of_getElem? (i := 14) rfl)⟩
def lw_privs_2 : List (MethodName × Nat) := [(⟨"BaizeCorpsModel", "refusal", "()I"⟩, 42), (⟨"BaizeCorpsModel", "keepNow", "()V"⟩, 42), (⟨"BaizeCorpsModel", "goCrises", "()V"⟩, 42), (⟨"BaizeCorpsModel", "whyNot", "(II)I"⟩, 42), (⟨"BaizeCorpsModel", "happen", "(IIII)V"⟩, 42), (⟨"BaizeCorpsModel", "stroke", "(III)V"⟩, 42), (⟨"BaizeCorpsModel", "send", "(III)V"⟩, 42), (⟨"BaizeCorpsModel", "step", "(I)V"⟩, 42), (⟨"BaizeCorpsModel", "touch", "(II)V"⟩, 42), (⟨"BaizeCorpsModel", "nap", "()V"⟩, 42), (⟨"BaizeCorpsModel", "drift", "(I)V"⟩, 42), (⟨"BaizeCorpsModel", "back", "(I)I"⟩, 42), (⟨"BaizeCorpsModel", "downMany", "()I"⟩, 42), (⟨"BaizeCorpsModel", "stepsBy", "(IIII)I"⟩, 42), (⟨"BaizeCorpsModel", "metMany", "(I)I"⟩, 42), (⟨"BaizeCorpsModel", "findFar", "(I)Z"⟩, 42)]
theorem lw_r2 : ∀ q ∈ lw_privs_2, lw_okq q := List.forall_mem_cons.mpr ⟨lw_p16, List.forall_mem_cons.mpr ⟨lw_p17, List.forall_mem_cons.mpr ⟨lw_p18, List.forall_mem_cons.mpr ⟨lw_p19, List.forall_mem_cons.mpr ⟨lw_p20, List.forall_mem_cons.mpr ⟨lw_p21, List.forall_mem_cons.mpr ⟨lw_p22, List.forall_mem_cons.mpr ⟨lw_p23, List.forall_mem_cons.mpr ⟨lw_p24, List.forall_mem_cons.mpr ⟨lw_p25, List.forall_mem_cons.mpr ⟨lw_p26, List.forall_mem_cons.mpr ⟨lw_p27, List.forall_mem_cons.mpr ⟨lw_p28, List.forall_mem_cons.mpr ⟨lw_p29, List.forall_mem_cons.mpr ⟨lw_p30, List.forall_mem_cons.mpr ⟨lw_p31, fun _ h => absurd h List.not_mem_nil⟩⟩⟩⟩⟩⟩⟩⟩⟩⟩⟩⟩⟩⟩⟩⟩
theorem lw_p32 : lw_okq (⟨"BaizeCorpsModel", "wayTo", "(II)I"⟩, 42) := ⟨⟨by decide +kernel, by decide +kernel⟩, lw_t2 (List.mem_of_getElem? (i := 165) rfl), lw_t4 (List.mem_of_getElem? (i := 17) rfl), lw_t4 (List.mem_of_getElem? (i := 18) rfl)⟩
theorem lw_p33 : lw_okq (⟨"BaizeCorpsModel", "leadsTo", "(III)Z"⟩, 42) := ⟨⟨by decide +kernel, by decide +kernel⟩, lw_t2 (List.mem_of_getElem? (i := 165) rfl), lw_t4 (List.mem_of_getElem? (i := 21) rfl), lw_t4 (List.mem_of_getElem? (i := 22) rfl)⟩
theorem lw_p34 : lw_okq (⟨"BaizeCorpsModel", "findFits", "()V"⟩, 42) := ⟨⟨by decide +kernel, by decide +kernel⟩, lw_t2 (List.mem_of_getElem? (i := 165) rfl), lw_t4 (List.mem_of_getElem? (i := 38) rfl), lw_t4 (List.mem_of_getElem? (i := 39) rfl)⟩
theorem lw_p35 : lw_okq (⟨"BaizeCorpsModel", "isFit", "(I)Z"⟩, 42) := ⟨⟨by decide +kernel, by decide +kernel⟩, lw_t2 (List.mem_of_getElem? (i := 165) rfl), lw_t4 (List.mem_of_getElem? (i := 42) rfl), lw_t4 (List.mem_of_getElem? (i := 43) rfl)⟩
theorem lw_p36 : lw_okq (⟨"BaizeCorpsModel", "mostNow", "()I"⟩, 42) := ⟨⟨by decide +kernel, by decide +kernel⟩, lw_t2 (List.mem_of_getElem? (i := 165) rfl), lw_t4 (List.mem_of_getElem? (i := 50) rfl), lw_t4 (List.mem_of_getElem? (i := 51) rfl)⟩
theorem lw_p37 : lw_okq (⟨"BaizeCorpsModel", "leastTake", "(II)I"⟩, 42) := ⟨⟨by decide +kernel, by decide +kernel⟩, lw_t2 (List.mem_of_getElem? (i := 165) rfl), lw_t4 (List.mem_of_getElem? (i := 59) rfl), lw_t4 (List.mem_of_getElem? (i := 60) rfl)⟩
theorem lw_p38 : lw_okq (⟨"BaizeCorpsModel", "findChance", "(IIII)V"⟩, 42) := ⟨⟨by decide +kernel, by decide +kernel⟩, lw_t2 (List.mem_of_getElem? (i := 165) rfl), lw_t4 (List.mem_of_getElem? (i := 75) rfl), lw_t4 (List.mem_of_getElem? (i := 76) rfl)⟩
theorem lw_p39 : lw_okq (⟨"BaizeCorpsModel", "passAll", "()V"⟩, 42) := ⟨⟨by decide +kernel, by decide +kernel⟩, lw_t2 (List.mem_of_getElem? (i := 165) rfl), lw_t4 (List.mem_of_getElem? (i := 100) rfl), lw_t4 (List.mem_of_getElem? (i := 101) rfl)⟩
theorem lw_p40 : lw_okq (⟨"BaizeCorpsModel", "pass", "(I)I"⟩, 42) := ⟨⟨by decide +kernel, by decide +kernel⟩, lw_t2 (List.mem_of_getElem? (i := 165) rfl), lw_t4 (List.mem_of_getElem? (i := 104) rfl), lw_t4 (List.mem_of_getElem? (i := 105) rfl)⟩
theorem lw_p41 : lw_okq (⟨"BaizeCorpsModel", "passRow", "([II)V"⟩, 42) := ⟨⟨by decide +kernel, by decide +kernel⟩, lw_t2 (List.mem_of_getElem? (i := 165) rfl), lw_t4 (List.mem_of_getElem? (i := 108) rfl), lw_t4 (List.mem_of_getElem? (i := 109) rfl)⟩
def lw_privs_3 : List (MethodName × Nat) := [(⟨"BaizeCorpsModel", "wayTo", "(II)I"⟩, 42), (⟨"BaizeCorpsModel", "leadsTo", "(III)Z"⟩, 42), (⟨"BaizeCorpsModel", "findFits", "()V"⟩, 42), (⟨"BaizeCorpsModel", "isFit", "(I)Z"⟩, 42), (⟨"BaizeCorpsModel", "mostNow", "()I"⟩, 42), (⟨"BaizeCorpsModel", "leastTake", "(II)I"⟩, 42), (⟨"BaizeCorpsModel", "findChance", "(IIII)V"⟩, 42), (⟨"BaizeCorpsModel", "passAll", "()V"⟩, 42), (⟨"BaizeCorpsModel", "pass", "(I)I"⟩, 42), (⟨"BaizeCorpsModel", "passRow", "([II)V"⟩, 42)]
theorem lw_r3 : ∀ q ∈ lw_privs_3, lw_okq q := List.forall_mem_cons.mpr ⟨lw_p32, List.forall_mem_cons.mpr ⟨lw_p33, List.forall_mem_cons.mpr ⟨lw_p34, List.forall_mem_cons.mpr ⟨lw_p35, List.forall_mem_cons.mpr ⟨lw_p36, List.forall_mem_cons.mpr ⟨lw_p37, List.forall_mem_cons.mpr ⟨lw_p38, List.forall_mem_cons.mpr ⟨lw_p39, List.forall_mem_cons.mpr ⟨lw_p40, List.forall_mem_cons.mpr ⟨lw_p41, fun _ h => absurd h List.not_mem_nil⟩⟩⟩⟩⟩⟩⟩⟩⟩⟩
def lw_privs : List (MethodName × Nat) := lw_privs_1 ++ (lw_privs_2 ++ (lw_privs_3))
def lw_tbl : List Cond := k2_sels lw_privs ++ tables_1
theorem lw_privs_ok : ∀ q ∈ lw_privs, lw_okq q := by
  show ∀ q ∈ lw_privs_1 ++ (lw_privs_2 ++ (lw_privs_3)), lw_okq q
  exact List.forall_mem_append.mpr ⟨lw_r1, List.forall_mem_append.mpr ⟨lw_r2, lw_r3⟩⟩
-- ===== ONE list of words for every method: the tables' words that hold all through a run =====
def lw_all : List Cond := lw_tbl.filter goodWord
/-- a word of the tables by its place: claim/WORDS.tsv -/
theorem lw_w {w : Cond} (i : Nat) (h : lw_tbl[i]? = some w) (g : goodWord w = true) : w ∈ lw_all := List.mem_filter.mpr ⟨List.mem_of_getElem? h, g⟩
theorem lw_all_tbl {w : Cond} (h : w ∈ lw_all) : w ∈ lw_tbl := (List.mem_filter.mp h).1
theorem lw_self : GoodIn lw_all lw_all := fun w h => ⟨h, good_of_word (List.mem_filter.mp h).2⟩
/-- a class's field words, by their places -/
theorem lw_in (ws : List Cond) (ps : List Nat) (hp : ws = ps.filterMap (fun i => lw_tbl[i]?)) (hg : ws.all goodWord = true) : ∀ w ∈ ws, w ∈ lw_all := by
  intro w h
  have h1 := List.all_eq_true.mp hg w h
  rw [hp] at h
  obtain ⟨i, -, hi⟩ := List.mem_filterMap.mp h
  exact lw_w i hi h1
/-- the words of a contract for the method y with code b, L locals, answer r -/
abbrev ws_ (y : MethodName) (b : ByteArray) (L : Nat) (r : Option FieldType) : List Cond := Cond.code y b L r :: lw_all
theorem lw_meth {y : MethodName} {b : ByteArray} {L : Nat} {r : Option FieldType} (h : Cond.code y b L r ∈ lw_all) : GoodIn lw_all (ws_ y b L r) := by
  intro w hw
  rcases List.mem_cons.mp hw with e | e
  · rw [e]
    exact lw_self _ h
  · exact lw_self _ e
theorem lw_app {a c : List Cond} (ha : ∀ w ∈ a, w ∈ lw_all) (hc : GoodIn lw_all c) : GoodIn lw_all (a ++ c) := by
  intro w hw
  rcases List.mem_append.mp hw with e | e
  · exact lw_self w (ha w e)
  · exact hc w e
/-- what a call through an object asks: cwV n hts (lw_V ..) -/
theorem lw_V {own : String} {idx : Nat} {C : String} {y : MethodName} {b : ByteArray} {L : Nat} {r : Option FieldType} (h1 : Cond.methodLink own idx y ∈ lw_all) (h2 : Cond.instanceMethod y ∈ lw_all) (h3 : Cond.selects C y y ∈ lw_all) (h4 : Cond.initialized C ∈ lw_all) (h5 : Cond.code y b L r ∈ lw_all) : GoodIn lw_all (wsV own idx C y (ws_ y b L r)) := by
  refine lw_app ?_ (lw_meth h5)
  intro w hw
  simp only [List.mem_cons, List.not_mem_nil, or_false] at hw
  rcases hw with e | e | e | e
  · rw [e]; exact h1
  · rw [e]; exact h2
  · rw [e]; exact h3
  · rw [e]; exact h4
/-- what a static call asks: va_cwS n hts (lw_S ..) -/
theorem lw_S {own : String} {idx : Nat} {y : MethodName} {b : ByteArray} {L : Nat} {r : Option FieldType} (h1 : Cond.methodLink own idx y ∈ lw_all) (h2 : Cond.static y ∈ lw_all) (h3 : Cond.initialized y.cls ∈ lw_all) (h4 : Cond.code y b L r ∈ lw_all) : GoodIn lw_all (va_wsS own idx y (ws_ y b L r)) := by
  refine lw_app ?_ (lw_meth h4)
  intro w hw
  simp only [List.mem_cons, List.not_mem_nil, or_false] at hw
  rcases hw with e | e | e
  · rw [e]; exact h1
  · rw [e]; exact h2
  · rw [e]; exact h3
/-- the words of a contract for a method WITH HANDLERS (hh: its table) -/
abbrev wsW_ (y : MethodName) (b : ByteArray) (L : Nat) (r : Option FieldType) (hh : List (Nat × Nat × Nat × Nat)) : List Cond := Cond.codeWith y b L r hh :: lw_all
theorem lw_methW {y : MethodName} {b : ByteArray} {L : Nat} {r : Option FieldType} {hh : List (Nat × Nat × Nat × Nat)} (h : Cond.codeWith y b L r hh ∈ lw_all) : GoodIn lw_all (wsW_ y b L r hh) := by
  intro w hw
  rcases List.mem_cons.mp hw with e | e
  · rw [e]
    exact lw_self _ h
  · exact lw_self _ e
/-- any list of words by their places (lw_in), good -/
theorem lw_good {ws : List Cond} (h : ∀ w ∈ ws, w ∈ lw_all) : GoodIn lw_all ws := fun w hw => lw_self w (h w hw)
/-- what a call of a method with handlers asks: vx_cwVW n hts (lw_VW ..), vx_cwSW n hts (lw_SW ..) -/
theorem lw_VW {own : String} {idx : Nat} {C : String} {y : MethodName} {b : ByteArray} {L : Nat} {r : Option FieldType} {hh : List (Nat × Nat × Nat × Nat)} (h1 : Cond.methodLink own idx y ∈ lw_all) (h2 : Cond.instanceMethod y ∈ lw_all) (h3 : Cond.selects C y y ∈ lw_all) (h4 : Cond.initialized C ∈ lw_all) (h5 : Cond.codeWith y b L r hh ∈ lw_all) : GoodIn lw_all (wsV own idx C y (wsW_ y b L r hh)) := by
  refine lw_app ?_ (lw_methW h5)
  intro w hw
  simp only [List.mem_cons, List.not_mem_nil, or_false] at hw
  rcases hw with e | e | e | e
  · rw [e]; exact h1
  · rw [e]; exact h2
  · rw [e]; exact h3
  · rw [e]; exact h4
theorem lw_SW {own : String} {idx : Nat} {y : MethodName} {b : ByteArray} {L : Nat} {r : Option FieldType} {hh : List (Nat × Nat × Nat × Nat)} (h1 : Cond.methodLink own idx y ∈ lw_all) (h2 : Cond.static y ∈ lw_all) (h3 : Cond.initialized y.cls ∈ lw_all) (h4 : Cond.codeWith y b L r hh ∈ lw_all) : GoodIn lw_all (va_wsS own idx y (wsW_ y b L r hh)) := by
  refine lw_app ?_ (lw_methW h4)
  intro w hw
  simp only [List.mem_cons, List.not_mem_nil, or_false] at hw
  rcases hw with e | e | e
  · rw [e]; exact h1
  · rw [e]; exact h2
  · rw [e]; exact h3
/-- a word by its place in its run of the tables -/
theorem lw_at {r : List Cond} (hr : ∀ w ∈ r, w ∈ lw_tbl) {w : Cond} (i : Nat) (h : r[i]? = some w) : w ∈ lw_tbl := hr w (List.mem_of_getElem? h)
theorem lw_g {w : Cond} (h : w ∈ lw_tbl) (g : goodWord w = true) : w ∈ lw_all := List.mem_filter.mpr ⟨h, g⟩
theorem lw_ms : ∀ w ∈ k2_sels lw_privs, w ∈ lw_tbl := fun w h => show w ∈ k2_sels lw_privs ++ tables_1 from List.mem_append_left _ h
theorem lw_m1 : ∀ w ∈ tables_1_1, w ∈ lw_tbl := fun w h => show w ∈ k2_sels lw_privs ++ tables_1 from List.mem_append_right (k2_sels lw_privs) (show w ∈ tables_1 from List.mem_append_left _ h)
theorem lw_m2 : ∀ w ∈ tables_1_2, w ∈ lw_tbl := fun w h => show w ∈ k2_sels lw_privs ++ tables_1 from List.mem_append_right (k2_sels lw_privs) (show w ∈ tables_1 from List.mem_append_right _ (List.mem_append_left _ h))
theorem lw_m3 : ∀ w ∈ tables_1_3, w ∈ lw_tbl := fun w h => show w ∈ k2_sels lw_privs ++ tables_1 from List.mem_append_right (k2_sels lw_privs) (show w ∈ tables_1 from List.mem_append_right _ (List.mem_append_right _ (List.mem_append_left _ h)))
theorem lw_m4 : ∀ w ∈ tables_1_4, w ∈ lw_tbl := fun w h => show w ∈ k2_sels lw_privs ++ tables_1 from List.mem_append_right (k2_sels lw_privs) (show w ∈ tables_1 from List.mem_append_right _ (List.mem_append_right _ (List.mem_append_right _ h)))
theorem qs0 : (Cond.selects "BaizeCorps" ⟨"BaizeCorps", "faultOf", "()I"⟩ ⟨"BaizeCorps", "faultOf", "()I"⟩) ∈ lw_all := lw_g (lw_at lw_ms 0 rfl) rfl
theorem qs1 : (Cond.selects "BaizeCorps" ⟨"BaizeCorps", "goCrises", "()I"⟩ ⟨"BaizeCorps", "goCrises", "()I"⟩) ∈ lw_all := lw_g (lw_at lw_ms 1 rfl) rfl
theorem qs2 : (Cond.selects "BaizeCorps" ⟨"BaizeCorps", "act", "(I)I"⟩ ⟨"BaizeCorps", "act", "(I)I"⟩) ∈ lw_all := lw_g (lw_at lw_ms 2 rfl) rfl
theorem qs3 : (Cond.selects "BaizeCorps" ⟨"BaizeCorps", "barOfCrises", "()I"⟩ ⟨"BaizeCorps", "barOfCrises", "()I"⟩) ∈ lw_all := lw_g (lw_at lw_ms 3 rfl) rfl
theorem qs4 : (Cond.selects "BaizeCorps" ⟨"BaizeCorps", "forceBy", "(IIII)I"⟩ ⟨"BaizeCorps", "forceBy", "(IIII)I"⟩) ∈ lw_all := lw_g (lw_at lw_ms 4 rfl) rfl
theorem qs5 : (Cond.selects "BaizeCorps" ⟨"BaizeCorps", "walkAlone", "(III)V"⟩ ⟨"BaizeCorps", "walkAlone", "(III)V"⟩) ∈ lw_all := lw_g (lw_at lw_ms 5 rfl) rfl
theorem qs6 : (Cond.selects "BaizeCorps" ⟨"BaizeCorps", "reachFrom", "(I)V"⟩ ⟨"BaizeCorps", "reachFrom", "(I)V"⟩) ∈ lw_all := lw_g (lw_at lw_ms 6 rfl) rfl
theorem qs7 : (Cond.selects "BaizeCorps" ⟨"BaizeCorps", "canBe", "(I)Z"⟩ ⟨"BaizeCorps", "canBe", "(I)Z"⟩) ∈ lw_all := lw_g (lw_at lw_ms 7 rfl) rfl
theorem qs8 : (Cond.selects "BaizeCorps" ⟨"BaizeCorps", "cellAfter", "(II)I"⟩ ⟨"BaizeCorps", "cellAfter", "(II)I"⟩) ∈ lw_all := lw_g (lw_at lw_ms 8 rfl) rfl
theorem qs9 : (Cond.selects "BaizeCorps" ⟨"BaizeCorps", "firstOf", "(II)I"⟩ ⟨"BaizeCorps", "firstOf", "(II)I"⟩) ∈ lw_all := lw_g (lw_at lw_ms 9 rfl) rfl
theorem qs10 : (Cond.selects "BaizeCorpsModel" ⟨"BaizeCorpsModel", "ballOn", "(I)I"⟩ ⟨"BaizeCorpsModel", "ballOn", "(I)I"⟩) ∈ lw_all := lw_g (lw_at lw_ms 10 rfl) rfl
theorem qs11 : (Cond.selects "BaizeCorpsModel" ⟨"BaizeCorpsModel", "readOn", "(II)I"⟩ ⟨"BaizeCorpsModel", "readOn", "(II)I"⟩) ∈ lw_all := lw_g (lw_at lw_ms 11 rfl) rfl
theorem qs12 : (Cond.selects "BaizeCorpsModel" ⟨"BaizeCorpsModel", "begin", "(I)I"⟩ ⟨"BaizeCorpsModel", "begin", "(I)I"⟩) ∈ lw_all := lw_g (lw_at lw_ms 12 rfl) rfl
theorem qs13 : (Cond.selects "BaizeCorpsModel" ⟨"BaizeCorpsModel", "close", "(I)I"⟩ ⟨"BaizeCorpsModel", "close", "(I)I"⟩) ∈ lw_all := lw_g (lw_at lw_ms 13 rfl) rfl
theorem qs14 : (Cond.selects "BaizeCorpsModel" ⟨"BaizeCorpsModel", "deed", "(I)I"⟩ ⟨"BaizeCorpsModel", "deed", "(I)I"⟩) ∈ lw_all := lw_g (lw_at lw_ms 14 rfl) rfl
theorem qs15 : (Cond.selects "BaizeCorpsModel" ⟨"BaizeCorpsModel", "force", "(I)I"⟩ ⟨"BaizeCorpsModel", "force", "(I)I"⟩) ∈ lw_all := lw_g (lw_at lw_ms 15 rfl) rfl
theorem qs16 : (Cond.selects "BaizeCorpsModel" ⟨"BaizeCorpsModel", "refusal", "()I"⟩ ⟨"BaizeCorpsModel", "refusal", "()I"⟩) ∈ lw_all := lw_g (lw_at lw_ms 16 rfl) rfl
theorem qs17 : (Cond.selects "BaizeCorpsModel" ⟨"BaizeCorpsModel", "keepNow", "()V"⟩ ⟨"BaizeCorpsModel", "keepNow", "()V"⟩) ∈ lw_all := lw_g (lw_at lw_ms 17 rfl) rfl
theorem qs18 : (Cond.selects "BaizeCorpsModel" ⟨"BaizeCorpsModel", "goCrises", "()V"⟩ ⟨"BaizeCorpsModel", "goCrises", "()V"⟩) ∈ lw_all := lw_g (lw_at lw_ms 18 rfl) rfl
theorem qs19 : (Cond.selects "BaizeCorpsModel" ⟨"BaizeCorpsModel", "whyNot", "(II)I"⟩ ⟨"BaizeCorpsModel", "whyNot", "(II)I"⟩) ∈ lw_all := lw_g (lw_at lw_ms 19 rfl) rfl
theorem qs20 : (Cond.selects "BaizeCorpsModel" ⟨"BaizeCorpsModel", "happen", "(IIII)V"⟩ ⟨"BaizeCorpsModel", "happen", "(IIII)V"⟩) ∈ lw_all := lw_g (lw_at lw_ms 20 rfl) rfl
theorem qs21 : (Cond.selects "BaizeCorpsModel" ⟨"BaizeCorpsModel", "stroke", "(III)V"⟩ ⟨"BaizeCorpsModel", "stroke", "(III)V"⟩) ∈ lw_all := lw_g (lw_at lw_ms 21 rfl) rfl
theorem qs22 : (Cond.selects "BaizeCorpsModel" ⟨"BaizeCorpsModel", "send", "(III)V"⟩ ⟨"BaizeCorpsModel", "send", "(III)V"⟩) ∈ lw_all := lw_g (lw_at lw_ms 22 rfl) rfl
theorem qs23 : (Cond.selects "BaizeCorpsModel" ⟨"BaizeCorpsModel", "step", "(I)V"⟩ ⟨"BaizeCorpsModel", "step", "(I)V"⟩) ∈ lw_all := lw_g (lw_at lw_ms 23 rfl) rfl
theorem qs24 : (Cond.selects "BaizeCorpsModel" ⟨"BaizeCorpsModel", "touch", "(II)V"⟩ ⟨"BaizeCorpsModel", "touch", "(II)V"⟩) ∈ lw_all := lw_g (lw_at lw_ms 24 rfl) rfl
theorem qs25 : (Cond.selects "BaizeCorpsModel" ⟨"BaizeCorpsModel", "nap", "()V"⟩ ⟨"BaizeCorpsModel", "nap", "()V"⟩) ∈ lw_all := lw_g (lw_at lw_ms 25 rfl) rfl
theorem qs26 : (Cond.selects "BaizeCorpsModel" ⟨"BaizeCorpsModel", "drift", "(I)V"⟩ ⟨"BaizeCorpsModel", "drift", "(I)V"⟩) ∈ lw_all := lw_g (lw_at lw_ms 26 rfl) rfl
theorem qs27 : (Cond.selects "BaizeCorpsModel" ⟨"BaizeCorpsModel", "back", "(I)I"⟩ ⟨"BaizeCorpsModel", "back", "(I)I"⟩) ∈ lw_all := lw_g (lw_at lw_ms 27 rfl) rfl
theorem qs28 : (Cond.selects "BaizeCorpsModel" ⟨"BaizeCorpsModel", "downMany", "()I"⟩ ⟨"BaizeCorpsModel", "downMany", "()I"⟩) ∈ lw_all := lw_g (lw_at lw_ms 28 rfl) rfl
theorem qs29 : (Cond.selects "BaizeCorpsModel" ⟨"BaizeCorpsModel", "stepsBy", "(IIII)I"⟩ ⟨"BaizeCorpsModel", "stepsBy", "(IIII)I"⟩) ∈ lw_all := lw_g (lw_at lw_ms 29 rfl) rfl
theorem qs30 : (Cond.selects "BaizeCorpsModel" ⟨"BaizeCorpsModel", "metMany", "(I)I"⟩ ⟨"BaizeCorpsModel", "metMany", "(I)I"⟩) ∈ lw_all := lw_g (lw_at lw_ms 30 rfl) rfl
theorem qs31 : (Cond.selects "BaizeCorpsModel" ⟨"BaizeCorpsModel", "findFar", "(I)Z"⟩ ⟨"BaizeCorpsModel", "findFar", "(I)Z"⟩) ∈ lw_all := lw_g (lw_at lw_ms 31 rfl) rfl
theorem qs32 : (Cond.selects "BaizeCorpsModel" ⟨"BaizeCorpsModel", "wayTo", "(II)I"⟩ ⟨"BaizeCorpsModel", "wayTo", "(II)I"⟩) ∈ lw_all := lw_g (lw_at lw_ms 32 rfl) rfl
theorem qs33 : (Cond.selects "BaizeCorpsModel" ⟨"BaizeCorpsModel", "leadsTo", "(III)Z"⟩ ⟨"BaizeCorpsModel", "leadsTo", "(III)Z"⟩) ∈ lw_all := lw_g (lw_at lw_ms 33 rfl) rfl
theorem qs34 : (Cond.selects "BaizeCorpsModel" ⟨"BaizeCorpsModel", "findFits", "()V"⟩ ⟨"BaizeCorpsModel", "findFits", "()V"⟩) ∈ lw_all := lw_g (lw_at lw_ms 34 rfl) rfl
theorem qs35 : (Cond.selects "BaizeCorpsModel" ⟨"BaizeCorpsModel", "isFit", "(I)Z"⟩ ⟨"BaizeCorpsModel", "isFit", "(I)Z"⟩) ∈ lw_all := lw_g (lw_at lw_ms 35 rfl) rfl
theorem qs36 : (Cond.selects "BaizeCorpsModel" ⟨"BaizeCorpsModel", "mostNow", "()I"⟩ ⟨"BaizeCorpsModel", "mostNow", "()I"⟩) ∈ lw_all := lw_g (lw_at lw_ms 36 rfl) rfl
theorem qs37 : (Cond.selects "BaizeCorpsModel" ⟨"BaizeCorpsModel", "leastTake", "(II)I"⟩ ⟨"BaizeCorpsModel", "leastTake", "(II)I"⟩) ∈ lw_all := lw_g (lw_at lw_ms 37 rfl) rfl
theorem qs38 : (Cond.selects "BaizeCorpsModel" ⟨"BaizeCorpsModel", "findChance", "(IIII)V"⟩ ⟨"BaizeCorpsModel", "findChance", "(IIII)V"⟩) ∈ lw_all := lw_g (lw_at lw_ms 38 rfl) rfl
theorem qs39 : (Cond.selects "BaizeCorpsModel" ⟨"BaizeCorpsModel", "passAll", "()V"⟩ ⟨"BaizeCorpsModel", "passAll", "()V"⟩) ∈ lw_all := lw_g (lw_at lw_ms 39 rfl) rfl
theorem qs40 : (Cond.selects "BaizeCorpsModel" ⟨"BaizeCorpsModel", "pass", "(I)I"⟩ ⟨"BaizeCorpsModel", "pass", "(I)I"⟩) ∈ lw_all := lw_g (lw_at lw_ms 40 rfl) rfl
theorem qs41 : (Cond.selects "BaizeCorpsModel" ⟨"BaizeCorpsModel", "passRow", "([II)V"⟩ ⟨"BaizeCorpsModel", "passRow", "([II)V"⟩) ∈ lw_all := lw_g (lw_at lw_ms 41 rfl) rfl
