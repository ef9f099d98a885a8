/-! INFRA: the worlds' bundles, calls by contract, a method's start and end -/
def vwCl : List vw_C := [(RX0, TX0, 18), (RX1, TX1, 11), (RX2, TX2, 5), (RX3, TX3, 42)]
def Tys (E : Nat → ClassId) : List (ClassId × FieldType) := [(E 0, .int), (E 1, .boolean), (E 2, .char), (E 3, .long), (E 4, .object "BaizeCorps$Table")]
def NW (U : State) : Prop := va_Nw (Jvm.Cond.methodLinkNest "BaizeCorps$Table" (23 : Nat) ({ cls := "BaizeCorps$Path", name := "<init>", desc := "()V" } : Jvm.MethodName) "BaizeCorps") U ∧ va_Nw (Jvm.Cond.fieldLinkNest "BaizeCorps$Table" (72 : Nat) "BaizeCorps$Path" "cushions" "I" "BaizeCorps") U ∧ va_Nw (Jvm.Cond.fieldLinkNest "BaizeCorps" (154 : Nat) "BaizeCorps$Path" "cushions" "I" "BaizeCorps") U ∧ va_Nw (Jvm.Cond.methodLinkNest "BaizeCorps$Table" (28 : Nat) ({ cls := "BaizeCorps", name := "spotOf", desc := "(I)I" } : Jvm.MethodName) "BaizeCorps") U ∧ va_Nw (Jvm.Cond.fieldLinkNest "BaizeCorps" (79 : Nat) "BaizeCorps$Table" "cells" "[I" "BaizeCorps") U ∧ va_Nw (Jvm.Cond.fieldLinkNest "BaizeCorps" (82 : Nat) "BaizeCorps$Table" "points" "I" "BaizeCorps") U ∧ va_Nw (Jvm.Cond.fieldLinkNest "BaizeCorps" (86 : Nat) "BaizeCorps$Table" "fouls" "I" "BaizeCorps") U ∧ va_Nw (Jvm.Cond.fieldLinkNest "BaizeCorps" (141 : Nat) "BaizeCorps$Table" "evening" "I" "BaizeCorps") U ∧ va_Nw (Jvm.Cond.fieldLinkNest "BaizeCorps" (203 : Nat) "BaizeCorps$Table" "sights" "I" "BaizeCorps") U ∧ va_Nw (Jvm.Cond.fieldLinkNest "BaizeCorps" (206 : Nat) "BaizeCorps$Table" "seenStep" "[I" "BaizeCorps") U ∧ va_Nw (Jvm.Cond.fieldLinkNest "BaizeCorps" (209 : Nat) "BaizeCorps$Table" "seenCell" "[I" "BaizeCorps") U ∧ va_Nw (Jvm.Cond.fieldLinkNest "BaizeCorps" (254 : Nat) "BaizeCorps$Table" "isKept" "Z" "BaizeCorps") U ∧ va_Nw (Jvm.Cond.fieldLinkNest "BaizeCorps" (132 : Nat) "BaizeCorps$Table" "touches" "I" "BaizeCorps") U ∧ va_Nw (Jvm.Cond.fieldLinkNest "BaizeCorps" (144 : Nat) "BaizeCorps$Table" "cushions" "I" "BaizeCorps") U ∧ va_Nw (Jvm.Cond.methodLinkNest "BaizeCorps" (33 : Nat) ({ cls := "BaizeCorps$Path", name := "<init>", desc := "()V" } : Jvm.MethodName) "BaizeCorps") U ∧ va_Nw (Jvm.Cond.methodLinkNest "BaizeCorps$Table" (80 : Nat) ({ cls := "BaizeCorps", name := "isPocket", desc := "(I)Z" } : Jvm.MethodName) "BaizeCorps") U ∧ va_Nw (Jvm.Cond.methodLinkNest "BaizeCorps$Path" (27 : Nat) ({ cls := "BaizeCorps", name := "isIn", desc := "(III)Z" } : Jvm.MethodName) "BaizeCorps") U ∧ va_Nw (Jvm.Cond.methodLinkNest "BaizeCorps$Path" (31 : Nat) ({ cls := "BaizeCorps", name := "asNumber", desc := "(Z)I" } : Jvm.MethodName) "BaizeCorps") U ∧ va_Nw (Jvm.Cond.methodLinkNest "BaizeCorps$Table" (57 : Nat) ({ cls := "BaizeCorps", name := "asNumber", desc := "(Z)I" } : Jvm.MethodName) "BaizeCorps") U ∧ va_AO "BaizeCorps$Table" U
theorem NW.warm {s U : State} (hW : s.WarmedH U.vm) (h : NW s) : NW U := by
  obtain ⟨h0, h1, h2, h3, h4, h5, h6, h7, h8, h9, h10, h11, h12, h13, h14, h15, h16, h17, h18, h19⟩ := h
  exact ⟨va_Nw.warmM hW h0, va_Nw.warmF hW h1, va_Nw.warmF hW h2, va_Nw.warmM hW h3, va_Nw.warmF hW h4, va_Nw.warmF hW h5, va_Nw.warmF hW h6, va_Nw.warmF hW h7, va_Nw.warmF hW h8, va_Nw.warmF hW h9, va_Nw.warmF hW h10, va_Nw.warmF hW h11, va_Nw.warmF hW h12, va_Nw.warmF hW h13, va_Nw.warmM hW h14, va_Nw.warmM hW h15, va_Nw.warmM hW h16, va_Nw.warmM hW h17, va_Nw.warmM hW h18, va_AO.moved hW.alike h19⟩
theorem NW.same {s U : State} (hv : s.vm = U.vm) (h : NW s) : NW U := by
  obtain ⟨h0, h1, h2, h3, h4, h5, h6, h7, h8, h9, h10, h11, h12, h13, h14, h15, h16, h17, h18, h19⟩ := h
  exact ⟨va_Nw.same rfl hv h0, va_Nw.same rfl hv h1, va_Nw.same rfl hv h2, va_Nw.same rfl hv h3, va_Nw.same rfl hv h4, va_Nw.same rfl hv h5, va_Nw.same rfl hv h6, va_Nw.same rfl hv h7, va_Nw.same rfl hv h8, va_Nw.same rfl hv h9, va_Nw.same rfl hv h10, va_Nw.same rfl hv h11, va_Nw.same rfl hv h12, va_Nw.same rfl hv h13, va_Nw.same rfl hv h14, va_Nw.same rfl hv h15, va_Nw.same rfl hv h16, va_Nw.same rfl hv h17, va_Nw.same rfl hv h18, va_AO.moved (by rw [hv]; exact Vm.Alike.refl U.vm) h19⟩
theorem nq66 {s : State} (h : NW s) : va_Nw (Jvm.Cond.methodLinkNest "BaizeCorps$Table" (23 : Nat) ({ cls := "BaizeCorps$Path", name := "<init>", desc := "()V" } : Jvm.MethodName) "BaizeCorps") s := h.1
theorem nq75 {s : State} (h : NW s) : va_Nw (Jvm.Cond.fieldLinkNest "BaizeCorps$Table" (72 : Nat) "BaizeCorps$Path" "cushions" "I" "BaizeCorps") s := h.2.1
theorem nq76 {s : State} (h : NW s) : va_Nw (Jvm.Cond.fieldLinkNest "BaizeCorps" (154 : Nat) "BaizeCorps$Path" "cushions" "I" "BaizeCorps") s := h.2.2.1
theorem nq89 {s : State} (h : NW s) : va_Nw (Jvm.Cond.methodLinkNest "BaizeCorps$Table" (28 : Nat) ({ cls := "BaizeCorps", name := "spotOf", desc := "(I)I" } : Jvm.MethodName) "BaizeCorps") s := h.2.2.2.1
theorem nq93 {s : State} (h : NW s) : va_Nw (Jvm.Cond.fieldLinkNest "BaizeCorps" (79 : Nat) "BaizeCorps$Table" "cells" "[I" "BaizeCorps") s := h.2.2.2.2.1
theorem nq95 {s : State} (h : NW s) : va_Nw (Jvm.Cond.fieldLinkNest "BaizeCorps" (82 : Nat) "BaizeCorps$Table" "points" "I" "BaizeCorps") s := h.2.2.2.2.2.1
theorem nq97 {s : State} (h : NW s) : va_Nw (Jvm.Cond.fieldLinkNest "BaizeCorps" (86 : Nat) "BaizeCorps$Table" "fouls" "I" "BaizeCorps") s := h.2.2.2.2.2.2.1
theorem nq99 {s : State} (h : NW s) : va_Nw (Jvm.Cond.fieldLinkNest "BaizeCorps" (141 : Nat) "BaizeCorps$Table" "evening" "I" "BaizeCorps") s := h.2.2.2.2.2.2.2.1
theorem nq101 {s : State} (h : NW s) : va_Nw (Jvm.Cond.fieldLinkNest "BaizeCorps" (203 : Nat) "BaizeCorps$Table" "sights" "I" "BaizeCorps") s := h.2.2.2.2.2.2.2.2.1
theorem nq103 {s : State} (h : NW s) : va_Nw (Jvm.Cond.fieldLinkNest "BaizeCorps" (206 : Nat) "BaizeCorps$Table" "seenStep" "[I" "BaizeCorps") s := h.2.2.2.2.2.2.2.2.2.1
theorem nq105 {s : State} (h : NW s) : va_Nw (Jvm.Cond.fieldLinkNest "BaizeCorps" (209 : Nat) "BaizeCorps$Table" "seenCell" "[I" "BaizeCorps") s := h.2.2.2.2.2.2.2.2.2.2.1
theorem nq106 {s : State} (h : NW s) : va_Nw (Jvm.Cond.fieldLinkNest "BaizeCorps" (254 : Nat) "BaizeCorps$Table" "isKept" "Z" "BaizeCorps") s := h.2.2.2.2.2.2.2.2.2.2.2.1
theorem nq108 {s : State} (h : NW s) : va_Nw (Jvm.Cond.fieldLinkNest "BaizeCorps" (132 : Nat) "BaizeCorps$Table" "touches" "I" "BaizeCorps") s := h.2.2.2.2.2.2.2.2.2.2.2.2.1
theorem nq110 {s : State} (h : NW s) : va_Nw (Jvm.Cond.fieldLinkNest "BaizeCorps" (144 : Nat) "BaizeCorps$Table" "cushions" "I" "BaizeCorps") s := h.2.2.2.2.2.2.2.2.2.2.2.2.2.1
theorem nq137 {s : State} (h : NW s) : va_Nw (Jvm.Cond.methodLinkNest "BaizeCorps" (33 : Nat) ({ cls := "BaizeCorps$Path", name := "<init>", desc := "()V" } : Jvm.MethodName) "BaizeCorps") s := h.2.2.2.2.2.2.2.2.2.2.2.2.2.2.1
theorem nq262 {s : State} (h : NW s) : va_Nw (Jvm.Cond.methodLinkNest "BaizeCorps$Table" (80 : Nat) ({ cls := "BaizeCorps", name := "isPocket", desc := "(I)Z" } : Jvm.MethodName) "BaizeCorps") s := h.2.2.2.2.2.2.2.2.2.2.2.2.2.2.2.1
theorem nq284 {s : State} (h : NW s) : va_Nw (Jvm.Cond.methodLinkNest "BaizeCorps$Path" (27 : Nat) ({ cls := "BaizeCorps", name := "isIn", desc := "(III)Z" } : Jvm.MethodName) "BaizeCorps") s := h.2.2.2.2.2.2.2.2.2.2.2.2.2.2.2.2.1
theorem nq285 {s : State} (h : NW s) : va_Nw (Jvm.Cond.methodLinkNest "BaizeCorps$Path" (31 : Nat) ({ cls := "BaizeCorps", name := "asNumber", desc := "(Z)I" } : Jvm.MethodName) "BaizeCorps") s := h.2.2.2.2.2.2.2.2.2.2.2.2.2.2.2.2.2.1
theorem nq288 {s : State} (h : NW s) : va_Nw (Jvm.Cond.methodLinkNest "BaizeCorps$Table" (57 : Nat) ({ cls := "BaizeCorps", name := "asNumber", desc := "(Z)I" } : Jvm.MethodName) "BaizeCorps") s := h.2.2.2.2.2.2.2.2.2.2.2.2.2.2.2.2.2.2.1
theorem nAO {s : State} (h : NW s) : va_AO "BaizeCorps$Table" s := h.2.2.2.2.2.2.2.2.2.2.2.2.2.2.2.2.2.2.2
def KK (D : va_G) (E : Nat → ClassId) (U : State) : Prop := va_K D vwCl (Tys E) U ∧ NW U
theorem KK.warm {D : va_G} {E : Nat → ClassId} {s U : State} (hW : s.WarmedH U.vm) (h : KK D E s) : KK D E U := ⟨va_K.moved hW.alike h.1, h.2.warm hW⟩
theorem KK.same {D : va_G} {E : Nat → ClassId} {s U : State} (hv : s.vm = U.vm) (h : KK D E s) : KK D E U := ⟨va_K.moved (by rw [hv]; exact Vm.Alike.refl U.vm) h.1, h.2.same hv⟩
def PRE (D : va_G) (E : Nat → ClassId) (sz : Nat) (ws : va_W) (U : State) : Prop := U.heap.size = sz ∧ va_P D vwCl ws U.heap ∧ KK D E U ∧ va_D (fun _ => True) ws
def POST (D : va_G) (A : Nat → Prop) (ws : va_W) (t : State) : Prop := va_P D vwCl ws t.heap ∧ va_D A ws
def Wo (D : va_G) (A : Nat → Prop) (H0 H : Heap) (locs : List Loc) (ws : va_W) : Prop := va_P D vwCl ws H ∧ va_D A ws ∧ va_S A H0 H locs
def rmN (k : Nat) : Room := { frames := k, cells := 0, slots := 0, locals := 40 * k }
theorem rm_ok {k j n : Nat} (h : k < j) (hn : n ≤ 21) : (rmN k).frames + 1 ≤ (rmN j).frames ∧ 8 + (n + 11) + (rmN k).locals ≤ (rmN j).locals := ⟨h, by show 8 + (n + 11) + 40 * k ≤ 40 * j; omega⟩
abbrev CtI (l : Launch) (y : MethodName) (cc : ByteArray) (maxL : Nat) (ty : FieldType) (k : Nat) (D : va_G) (E : Nat → ClassId) (sz : Nat) (av : List Value) (ws ws' : va_W) (r : Int32) : Prop := Met l y (ws_ y cc maxL (some ty)) (rmN k) (va_Pc av (PRE D E sz ws)) (va_Qi (fun (x : Int32) (_ : Unit) => x = r) (fun _ t => POST D (va_A ws sz) ws' t) (va_A ws sz)) 0 0 (va_A ws sz)
abbrev CtL (l : Launch) (y : MethodName) (cc : ByteArray) (maxL : Nat) (k : Nat) (D : va_G) (E : Nat → ClassId) (sz : Nat) (av : List Value) (ws ws' : va_W) (r : Int64) : Prop := Met l y (ws_ y cc maxL (some .long)) (rmN k) (va_Pc av (PRE D E sz ws)) (va_Ql (fun (x : Int64) (_ : Unit) => x = r) (fun _ t => POST D (va_A ws sz) ws' t) (va_A ws sz)) 0 0 (va_A ws sz)
abbrev CtV (l : Launch) (y : MethodName) (cc : ByteArray) (maxL : Nat) (k : Nat) (D : va_G) (E : Nat → ClassId) (sz : Nat) (av : List Value) (ws ws' : va_W) : Prop := Met l y (ws_ y cc maxL none) (rmN k) (va_Pc av (PRE D E sz ws)) (va_Qv (fun (_ : Unit) => True) (fun _ t => POST D (va_A ws sz) ws' t) (va_A ws sz)) 0 0 (va_A ws sz)
theorem vaP_iff {D : va_G} {cl : List vw_C} {ws : va_W} {H : Heap} : va_P D cl ws H ↔ ∀ q ∈ ws, va_at D cl q H := by
  constructor
  · intro h q hq
    obtain ⟨i, hi⟩ := List.getElem?_of_mem hq
    exact h i q hi
  · intro h k q hk
    exact h q (List.mem_of_getElem? hk)
theorem vaD_iff {A : Nat → Prop} {ws : va_W} : va_D A ws ↔ (ws.map Prod.fst).Nodup ∧ ∀ q ∈ ws, A q.1 := by
  constructor
  · intro h
    refine ⟨?_, fun q hq => ?_⟩
    · rw [List.Nodup, List.pairwise_iff_getElem]
      intro i j hi hj hij he
      have hi' : i < ws.length := by simpa using hi
      have hj' : j < ws.length := by simpa using hj
      have := h.1 i j ws[i] ws[j] (List.getElem?_eq_getElem hi') (List.getElem?_eq_getElem hj') (by simpa using he)
      omega
    · obtain ⟨i, hi⟩ := List.getElem?_of_mem hq
      exact h.2 i q hi
  · rintro ⟨hn, ha⟩
    refine ⟨fun i j p q hi hj hpq => ?_, fun k q hk => ha q (List.mem_of_getElem? hk)⟩
    obtain ⟨hi', ei⟩ := List.getElem?_eq_some_iff.mp hi
    obtain ⟨hj', ej⟩ := List.getElem?_eq_some_iff.mp hj
    rw [List.Nodup, List.pairwise_iff_getElem] at hn
    rcases Nat.lt_trichotomy i j with c | c | c
    · exact absurd (by rw [List.getElem_map, List.getElem_map, ei, ej]; exact hpq) (hn i j (by simpa using hi') (by simpa using hj') c)
    · exact c
    · exact absurd (by rw [List.getElem_map, List.getElem_map, ei, ej]; exact hpq.symm) (hn j i (by simpa using hj') (by simpa using hi') c)
theorem vaA_iff {ws : va_W} {sz q : Nat} : va_A ws sz q ↔ (q ∈ ws.map Prod.fst) ∨ sz ≤ q := by
  unfold va_A
  constructor
  · rintro (⟨k, e, h⟩ | h)
    · exact Or.inl (List.mem_map.mpr ⟨(q, e), List.mem_of_getElem? h, rfl⟩)
    · exact Or.inr h
  · rintro (h | h)
    · obtain ⟨⟨a, e⟩, h1, h2⟩ := List.mem_map.mp h
      obtain ⟨i, hi⟩ := List.getElem?_of_mem h1
      cases h2
      exact Or.inl ⟨i, e, hi⟩
    · exact Or.inr h
/-- a part of the world, cut out -/
theorem Wo.cut {D : va_G} {A : Nat → Prop} {H0 H : Heap} {locs : List Loc} {ws wc : va_W} (hw : Wo D A H0 H locs ws) (hA : ∀ q, H0.size ≤ q → A q) (hs : ∀ q ∈ wc, q ∈ ws) (hn : (wc.map Prod.fst).Nodup) : va_P D vwCl wc H ∧ va_D A wc ∧ ∀ q, va_A wc H.size q → A q := by
  obtain ⟨hP, hD, hS⟩ := hw
  rw [vaP_iff] at hP
  rw [vaD_iff] at hD
  refine ⟨vaP_iff.mpr fun q hq => hP q (hs q hq), vaD_iff.mpr ⟨hn, fun q hq => hD.2 q (hs q hq)⟩, fun q hq => ?_⟩
  rcases vaA_iff.mp hq with h | h
  · obtain ⟨z, h1, h2⟩ := List.mem_map.mp h
    rw [← h2]
    exact hD.2 z (hs z h1)
  · exact hA q (Nat.le_trans hS.1 h)
theorem mid_eq {α : Type} (ws : List α) (k n : Nat) : ws = ws.take k ++ ((ws.drop k).take n ++ ws.drop (k + n)) := by
  have h : ws.drop (k + n) = (ws.drop k).drop n := by rw [List.drop_drop]
  rw [h, List.take_append_drop, List.take_append_drop]
theorem Wo.mid {D : va_G} {A : Nat → Prop} {H0 H : Heap} {locs : List Loc} {ws wc : va_W} {k n : Nat} (hw : Wo D A H0 H locs ws) (hA : ∀ q, H0.size ≤ q → A q) (hc : (ws.drop k).take n = wc) : (va_P D vwCl wc H ∧ va_D A wc ∧ ∀ q, va_A wc H.size q → A q) ∧ ∀ (wc' ws' : va_W) (H1 : Heap) (locs1 : List Loc), ws.take k ++ (wc' ++ ws.drop (k + n)) = ws' → (∀ q : Nat, q < H.size → ¬ va_A wc H.size q → H1[q]? = H[q]?) → va_P D vwCl wc' H1 → va_D (va_A wc H.size) wc' → va_S A H0 H1 locs1 → Wo D A H0 H1 locs1 ws' := by
  have he := mid_eq ws k n
  rw [hc] at he
  have hsub : ∀ q ∈ wc, q ∈ ws := fun q hq => by rw [he]; simp [hq]
  obtain ⟨hP, hD, hS⟩ := hw
  rw [vaP_iff] at hP
  rw [vaD_iff] at hD
  have hnd : ((ws.take k ++ (wc ++ ws.drop (k + n))).map Prod.fst).Nodup := by rw [← he]; exact hD.1
  rw [List.map_append, List.map_append, List.nodup_append, List.nodup_append] at hnd
  obtain ⟨n1, ⟨n2, n3, n4⟩, n5⟩ := hnd
  refine ⟨Wo.cut ⟨vaP_iff.mpr hP, vaD_iff.mpr hD, hS⟩ hA hsub n2, ?_⟩
  rintro wc' ws' H1 locs1 rfl hk hP1 hD1 hS1
  rw [vaP_iff] at hP1
  rw [vaD_iff] at hD1
  have hpre : ∀ q ∈ ws.take k, q.1 < H.size ∧ ¬ va_A wc H.size q.1 := by
    intro q hq
    have hl := (hP q (List.mem_of_mem_take hq)).lt
    refine ⟨hl, fun h => ?_⟩
    rcases vaA_iff.mp h with h | h
    · exact n5 q.1 (List.mem_map_of_mem hq) q.1 (List.mem_append_left _ h) rfl
    · omega
  have hpost : ∀ q ∈ ws.drop (k + n), q.1 < H.size ∧ ¬ va_A wc H.size q.1 := by
    intro q hq
    have hl := (hP q (List.mem_of_mem_drop hq)).lt
    refine ⟨hl, fun h => ?_⟩
    rcases vaA_iff.mp h with h | h
    · exact n4 q.1 h q.1 (List.mem_map_of_mem hq) rfl
    · omega
  refine ⟨vaP_iff.mpr fun q hq => ?_, vaD_iff.mpr ⟨?_, fun q hq => ?_⟩, hS1⟩
  · rcases List.mem_append.mp hq with h | h
    · exact (hP q (List.mem_of_mem_take h)).kept (hk _ (hpre q h).1 (hpre q h).2)
    · rcases List.mem_append.mp h with h | h
      · exact hP1 q h
      · exact (hP q (List.mem_of_mem_drop h)).kept (hk _ (hpost q h).1 (hpost q h).2)
  · rw [List.map_append, List.map_append, List.nodup_append, List.nodup_append]
    refine ⟨n1, ⟨hD1.1, n3, fun a ha b hb e => ?_⟩, fun a ha b hb e => ?_⟩
    · obtain ⟨z, h1, h2⟩ := List.mem_map.mp hb
      obtain ⟨y, h3, h4⟩ := List.mem_map.mp ha
      exact (hpost z h1).2 (by rw [h2, ← e, ← h4]; exact hD1.2 y h3)
    · rcases List.mem_append.mp hb with hb | hb
      · obtain ⟨z, h1, h2⟩ := List.mem_map.mp ha
        obtain ⟨y, h3, h4⟩ := List.mem_map.mp hb
        exact (hpre z h1).2 (by rw [h2, e, ← h4]; exact hD1.2 y h3)
      · exact n5 a ha b (List.mem_append_right _ hb) e
  · rcases List.mem_append.mp hq with h | h
    · exact hD.2 q (List.mem_of_mem_take h)
    · rcases List.mem_append.mp h with h | h
      · have h1 := hD1.2 q h
        rcases vaA_iff.mp h1 with h2 | h2
        · obtain ⟨z, h3, h4⟩ := List.mem_map.mp h2
          rw [← h4]
          exact hD.2 z (hsub z h3)
        · exact hA q.1 (Nat.le_trans hS.1 h2)
      · exact hD.2 q (List.mem_of_mem_drop h)
def Cx (p : Program) (m : MethodId) (c : Code) (cc : ByteArray) (nL : Nat) (s : State) (args : Array Value) (own : String) (D : va_G) (E : Nat → ClassId) (A : Nat → Prop) : Prop := CallFix p m c cc nL s args lw_all own ∧ KK D E s ∧ ∀ q, s.heap.size ≤ q → A q
def MiV (C : String) (y : MethodName) (b : ByteArray) (L : Nat) (r : Option FieldType) (n : Nat) : Prop := Cond.instanceMethod y ∈ lw_all ∧ Cond.selects C y y ∈ lw_all ∧ Cond.initialized C ∈ lw_all ∧ Cond.code y b L r ∈ lw_all ∧ (y.cls = C ∧ y.cls ≠ "java/lang/invoke/MethodHandle" ∧ y.cls ≠ "java/lang/invoke/VarHandle" ∧ (parseMethodDescriptor y.desc).map (fun d => d.parameters.length) = some n) ∧ L ≤ 21
def MiS (y : MethodName) (b : ByteArray) (L : Nat) (r : Option FieldType) (n : Nat) : Prop := Cond.static y ∈ lw_all ∧ Cond.initialized y.cls ∈ lw_all ∧ Cond.code y b L r ∈ lw_all ∧ (y.cls ≠ "java/lang/invoke/MethodHandle" ∧ y.cls ≠ "java/lang/invoke/VarHandle" ∧ (parseMethodDescriptor y.desc).map (fun d => d.parameters.length) = some n) ∧ L ≤ 21
theorem sm1 {α : Type} (ws : List α) : (ws.drop 0).take ws.length = ws := by simp
theorem sm2 {α : Type} (ws wc' : List α) : ws.take 0 ++ (wc' ++ ws.drop (0 + ws.length)) = wc' := by simp
section RUN
variable {p : Program} {l : Launch} {e : Env} {R : Room} {s : State} {m : MethodId} {args : Array Value} {below : List Frame} {meth : Method} {c : Code} {H : Heap} {locs : List Loc} {cells slots : Nat} {Q : State → Prop}
variable {pc : Nat} {ls : Array Slot} {rest st0 : List Value} {D : va_G} {E : Nat → ClassId} {A : Nat → Prop} {ws wc wc' ws' : va_W} {a : Array Value}
variable {cc : ByteArray} {own : String} {nL : Nat}
theorem preS {As : List Value} (hK : KK D E s) (hP : va_P D vwCl wc H) (hD : va_D A wc) : PreS s H (va_Pc As (PRE D E H.size wc)) As :=
  ⟨fun a U g mk q => by
    obtain ⟨q0, q1, qP, qK, qD⟩ := q
    exact ⟨q0, q1, qP, qK.same rfl, qD⟩, fun U hU hW => ⟨rfl, by rw [hU], by rw [hU]; exact hP, hK.warm hW, hD.weaken (fun _ _ _ _ => trivial)⟩⟩
theorem preV {b ci q0 : Nat} {fs : List Value} {As : List Value} {r : vw_C} (hK : KK D E s) (hP : va_P D vwCl wc H) (hD : va_D A wc) (hc : vwCl[ci]? = some r) (he : wc[q0]? = some (b, .inr (ci, fs))) : PreV s H r.1 b (va_Pc (.ref b :: As) (PRE D E H.size wc)) As :=
  ⟨(preS (As := .ref b :: As) hK hP hD).1, va_recv hK.1 hP hc he, (preS (As := .ref b :: As) hK hP hD).2⟩
theorem callVI (k n : Nat) {y : MethodName} {b : ByteArray} {maxL k0 n0 idx : Nat} {As : List Value} {r : Int32} {ty : FieldType} (ci : Nat) {fs : List Value} {C : String} {T : u_T} {N : Nat} {o : Nat} (hC : Cx p m c cc nL s args own D E A) (hw : Wo D A s.heap H locs ws) (hc : (ws.drop k).take n = wc) (hM : CtI l y b maxL ty k0 D E H.size (.ref o :: As) wc wc' r) (mi : MiV C y b maxL (some ty) n0) (q1 : Cond.methodLink own idx y ∈ lw_all) (hR : (rmN k0).frames + 1 ≤ R.frames ∧ 8 + (maxL + 11) + (rmN k0).locals ≤ R.locals) (hcl : vwCl[ci]? = some (C, T, N)) (he : wc[0]? = some (o, .inr (ci, fs))) (hn : As.length = n0) (hsz : ls.size = nL) (hst : st0 = As.reverse ++ .ref o :: rest) (hrest : (rest.map fun v => v.category).sum ≤ 8) (hdg : decode cc pc = .ok (.invokevirtual idx, 3)) (hf : cells ≤ R.cells ∧ slots ≤ R.slots)
    (hj : ws.take k ++ (wc' ++ ws.drop (k + n)) = ws') (kk : ∀ (H1 : Heap) (locs1 : List Loc), Wo D A s.heap H1 locs1 ws' → W p l e R s m args below meth c H1 locs1 cells slots Q (F0 m (pc + 3) ls (.int r :: rest))) : W p l e R s m args below meth c H locs cells slots Q (F0 m pc ls st0) := by
  obtain ⟨⟨hP, hD, hF⟩, hm⟩ := hw.mid hC.2.2 hc
  refine va_calli (va_runV hC.1 hM (cwV n0 hC.1.2.2.2.2 (lw_V q1 mi.1 mi.2.1 mi.2.2.1 mi.2.2.2.1) rfl rfl rfl mi.2.2.2.2.1 hR) (preV (r := (C, T, N)) hC.2.1 hP hD hcl he) rfl hn hsz hst (lv_room hrest) hdg hf) hw.2.2 (fun q _ h => hF q h) hF (fun r' u t H1 locs1 ht hvm hp hB hz hk hS => ?_)
  subst hp
  exact kk H1 locs1 (hm wc' ws' H1 locs1 hj hk (by rw [← ht]; exact hB.1) hB.2 hS)
theorem callVL (k n : Nat) {y : MethodName} {b : ByteArray} {maxL k0 n0 idx : Nat} {As : List Value} {r : Int64} (ci : Nat) {fs : List Value} {C : String} {T : u_T} {N : Nat} {o : Nat} (hC : Cx p m c cc nL s args own D E A) (hw : Wo D A s.heap H locs ws) (hc : (ws.drop k).take n = wc) (hM : CtL l y b maxL k0 D E H.size (.ref o :: As) wc wc' r) (mi : MiV C y b maxL (some .long) n0) (q1 : Cond.methodLink own idx y ∈ lw_all) (hR : (rmN k0).frames + 1 ≤ R.frames ∧ 8 + (maxL + 11) + (rmN k0).locals ≤ R.locals) (hcl : vwCl[ci]? = some (C, T, N)) (he : wc[0]? = some (o, .inr (ci, fs))) (hn : As.length = n0) (hsz : ls.size = nL) (hst : st0 = As.reverse ++ .ref o :: rest) (hrest : (rest.map fun v => v.category).sum ≤ 8) (hdg : decode cc pc = .ok (.invokevirtual idx, 3)) (hf : cells ≤ R.cells ∧ slots ≤ R.slots)
    (hj : ws.take k ++ (wc' ++ ws.drop (k + n)) = ws') (kk : ∀ (H1 : Heap) (locs1 : List Loc), Wo D A s.heap H1 locs1 ws' → W p l e R s m args below meth c H1 locs1 cells slots Q (F0 m (pc + 3) ls (.long r :: rest))) : W p l e R s m args below meth c H locs cells slots Q (F0 m pc ls st0) := by
  obtain ⟨⟨hP, hD, hF⟩, hm⟩ := hw.mid hC.2.2 hc
  refine va_calll (va_runV hC.1 hM (cwV n0 hC.1.2.2.2.2 (lw_V q1 mi.1 mi.2.1 mi.2.2.1 mi.2.2.2.1) rfl rfl rfl mi.2.2.2.2.1 hR) (preV (r := (C, T, N)) hC.2.1 hP hD hcl he) rfl hn hsz hst (lv_room hrest) hdg hf) hw.2.2 (fun q _ h => hF q h) hF (fun r' u t H1 locs1 ht hvm hp hB hz hk hS => ?_)
  subst hp
  exact kk H1 locs1 (hm wc' ws' H1 locs1 hj hk (by rw [← ht]; exact hB.1) hB.2 hS)
theorem callVV (k n : Nat) {y : MethodName} {b : ByteArray} {maxL k0 n0 idx : Nat} {As : List Value} (ci : Nat) {fs : List Value} {C : String} {T : u_T} {N : Nat} {o : Nat} (hC : Cx p m c cc nL s args own D E A) (hw : Wo D A s.heap H locs ws) (hc : (ws.drop k).take n = wc) (hM : CtV l y b maxL k0 D E H.size (.ref o :: As) wc wc') (mi : MiV C y b maxL none n0) (q1 : Cond.methodLink own idx y ∈ lw_all) (hR : (rmN k0).frames + 1 ≤ R.frames ∧ 8 + (maxL + 11) + (rmN k0).locals ≤ R.locals) (hcl : vwCl[ci]? = some (C, T, N)) (he : wc[0]? = some (o, .inr (ci, fs))) (hn : As.length = n0) (hsz : ls.size = nL) (hst : st0 = As.reverse ++ .ref o :: rest) (hrest : (rest.map fun v => v.category).sum ≤ 8) (hdg : decode cc pc = .ok (.invokevirtual idx, 3)) (hf : cells ≤ R.cells ∧ slots ≤ R.slots)
    (hj : ws.take k ++ (wc' ++ ws.drop (k + n)) = ws') (kk : ∀ (H1 : Heap) (locs1 : List Loc), Wo D A s.heap H1 locs1 ws' → W p l e R s m args below meth c H1 locs1 cells slots Q (F0 m (pc + 3) ls (rest))) : W p l e R s m args below meth c H locs cells slots Q (F0 m pc ls st0) := by
  obtain ⟨⟨hP, hD, hF⟩, hm⟩ := hw.mid hC.2.2 hc
  refine va_callv (va_runV hC.1 hM (cwV n0 hC.1.2.2.2.2 (lw_V q1 mi.1 mi.2.1 mi.2.2.1 mi.2.2.2.1) rfl rfl rfl mi.2.2.2.2.1 hR) (preV (r := (C, T, N)) hC.2.1 hP hD hcl he) rfl hn hsz hst (lv_room hrest) hdg hf) hw.2.2 (fun q _ h => hF q h) hF (fun u t H1 locs1 ht hvm hp hB hz hk hS => ?_)
  exact kk H1 locs1 (hm wc' ws' H1 locs1 hj hk (by rw [← ht]; exact hB.1) hB.2 hS)
theorem callSI (k n : Nat) {y : MethodName} {b : ByteArray} {maxL k0 n0 idx : Nat} {As : List Value} {r : Int32} {ty : FieldType} (hC : Cx p m c cc nL s args own D E A) (hw : Wo D A s.heap H locs ws) (hc : (ws.drop k).take n = wc) (hM : CtI l y b maxL ty k0 D E H.size As wc wc' r) (mi : MiS y b maxL (some ty) n0) (q1 : Cond.methodLink own idx y ∈ lw_all) (hR : (rmN k0).frames + 1 ≤ R.frames ∧ 8 + (maxL + 11) + (rmN k0).locals ≤ R.locals) (hn : As.length = n0) (hsz : ls.size = nL) (hst : st0 = As.reverse ++ rest) (hrest : (rest.map fun v => v.category).sum ≤ 8) (hdg : decode cc pc = .ok (.invokestatic idx, 3)) (hf : cells ≤ R.cells ∧ slots ≤ R.slots)
    (hj : ws.take k ++ (wc' ++ ws.drop (k + n)) = ws') (kk : ∀ (H1 : Heap) (locs1 : List Loc), Wo D A s.heap H1 locs1 ws' → W p l e R s m args below meth c H1 locs1 cells slots Q (F0 m (pc + 3) ls (.int r :: rest))) : W p l e R s m args below meth c H locs cells slots Q (F0 m pc ls st0) := by
  obtain ⟨⟨hP, hD, hF⟩, hm⟩ := hw.mid hC.2.2 hc
  refine va_calli (va_runS hC.1 hM (va_cwS n0 hC.1.2.2.2.2 (lw_S q1 mi.1 mi.2.1 mi.2.2.1) rfl rfl rfl mi.2.2.2.1 hR) (preS hC.2.1 hP hD) rfl hn hsz hst (lv_room hrest) hdg hf) hw.2.2 (fun q _ h => hF q h) hF (fun r' u t H1 locs1 ht hvm hp hB hz hk hS => ?_)
  subst hp
  exact kk H1 locs1 (hm wc' ws' H1 locs1 hj hk (by rw [← ht]; exact hB.1) hB.2 hS)
theorem callSL (k n : Nat) {y : MethodName} {b : ByteArray} {maxL k0 n0 idx : Nat} {As : List Value} {r : Int64} (hC : Cx p m c cc nL s args own D E A) (hw : Wo D A s.heap H locs ws) (hc : (ws.drop k).take n = wc) (hM : CtL l y b maxL k0 D E H.size As wc wc' r) (mi : MiS y b maxL (some .long) n0) (q1 : Cond.methodLink own idx y ∈ lw_all) (hR : (rmN k0).frames + 1 ≤ R.frames ∧ 8 + (maxL + 11) + (rmN k0).locals ≤ R.locals) (hn : As.length = n0) (hsz : ls.size = nL) (hst : st0 = As.reverse ++ rest) (hrest : (rest.map fun v => v.category).sum ≤ 8) (hdg : decode cc pc = .ok (.invokestatic idx, 3)) (hf : cells ≤ R.cells ∧ slots ≤ R.slots)
    (hj : ws.take k ++ (wc' ++ ws.drop (k + n)) = ws') (kk : ∀ (H1 : Heap) (locs1 : List Loc), Wo D A s.heap H1 locs1 ws' → W p l e R s m args below meth c H1 locs1 cells slots Q (F0 m (pc + 3) ls (.long r :: rest))) : W p l e R s m args below meth c H locs cells slots Q (F0 m pc ls st0) := by
  obtain ⟨⟨hP, hD, hF⟩, hm⟩ := hw.mid hC.2.2 hc
  refine va_calll (va_runS hC.1 hM (va_cwS n0 hC.1.2.2.2.2 (lw_S q1 mi.1 mi.2.1 mi.2.2.1) rfl rfl rfl mi.2.2.2.1 hR) (preS hC.2.1 hP hD) rfl hn hsz hst (lv_room hrest) hdg hf) hw.2.2 (fun q _ h => hF q h) hF (fun r' u t H1 locs1 ht hvm hp hB hz hk hS => ?_)
  subst hp
  exact kk H1 locs1 (hm wc' ws' H1 locs1 hj hk (by rw [← ht]; exact hB.1) hB.2 hS)
theorem callSV (k n : Nat) {y : MethodName} {b : ByteArray} {maxL k0 n0 idx : Nat} {As : List Value} (hC : Cx p m c cc nL s args own D E A) (hw : Wo D A s.heap H locs ws) (hc : (ws.drop k).take n = wc) (hM : CtV l y b maxL k0 D E H.size As wc wc') (mi : MiS y b maxL none n0) (q1 : Cond.methodLink own idx y ∈ lw_all) (hR : (rmN k0).frames + 1 ≤ R.frames ∧ 8 + (maxL + 11) + (rmN k0).locals ≤ R.locals) (hn : As.length = n0) (hsz : ls.size = nL) (hst : st0 = As.reverse ++ rest) (hrest : (rest.map fun v => v.category).sum ≤ 8) (hdg : decode cc pc = .ok (.invokestatic idx, 3)) (hf : cells ≤ R.cells ∧ slots ≤ R.slots)
    (hj : ws.take k ++ (wc' ++ ws.drop (k + n)) = ws') (kk : ∀ (H1 : Heap) (locs1 : List Loc), Wo D A s.heap H1 locs1 ws' → W p l e R s m args below meth c H1 locs1 cells slots Q (F0 m (pc + 3) ls (rest))) : W p l e R s m args below meth c H locs cells slots Q (F0 m pc ls st0) := by
  obtain ⟨⟨hP, hD, hF⟩, hm⟩ := hw.mid hC.2.2 hc
  refine va_callv (va_runS hC.1 hM (va_cwS n0 hC.1.2.2.2.2 (lw_S q1 mi.1 mi.2.1 mi.2.2.1) rfl rfl rfl mi.2.2.2.1 hR) (preS hC.2.1 hP hD) rfl hn hsz hst (lv_room hrest) hdg hf) hw.2.2 (fun q _ h => hF q h) hF (fun u t H1 locs1 ht hvm hp hB hz hk hS => ?_)
  exact kk H1 locs1 (hm wc' ws' H1 locs1 hj hk (by rw [← ht]; exact hB.1) hB.2 hS)
theorem callSNI (k n : Nat) {y : MethodName} {b : ByteArray} {maxL k0 n0 idx : Nat} {As : List Value} {r : Int32} {ty : FieldType} (hC : Cx p m c cc nL s args own D E A) (hw : Wo D A s.heap H locs ws) (hc : (ws.drop k).take n = wc) (hM : CtI l y b maxL ty k0 D E H.size As wc wc' r) {host : String} (mi : MiS y b maxL (some ty) n0) (q1 : va_Nw (.methodLinkNest own idx y host) s) (hR : (rmN k0).frames + 1 ≤ R.frames ∧ 8 + (maxL + 11) + (rmN k0).locals ≤ R.locals) (hn : As.length = n0) (hsz : ls.size = nL) (hst : st0 = As.reverse ++ rest) (hrest : (rest.map fun v => v.category).sum ≤ 8) (hdg : decode cc pc = .ok (.invokestatic idx, 3)) (hf : cells ≤ R.cells ∧ slots ≤ R.slots)
    (hj : ws.take k ++ (wc' ++ ws.drop (k + n)) = ws') (kk : ∀ (H1 : Heap) (locs1 : List Loc), Wo D A s.heap H1 locs1 ws' → W p l e R s m args below meth c H1 locs1 cells slots Q (F0 m (pc + 3) ls (.int r :: rest))) : W p l e R s m args below meth c H locs cells slots Q (F0 m pc ls st0) := by
  obtain ⟨⟨hP, hD, hF⟩, hm⟩ := hw.mid hC.2.2 hc
  refine va_calli (va_runSN hC.1 hM ⟨va_cnB n0 hC.1.2.2.2.2 (lw_meth mi.2.2.1) rfl rfl rfl q1 (hC.1.2.2.2.2 _ mi.2.1) mi.2.2.2.1 hR, hC.1.2.2.2.2 _ mi.1, trivial⟩ (preS hC.2.1 hP hD) rfl hn hsz hst (lv_room hrest) hdg hf) hw.2.2 (fun q _ h => hF q h) hF (fun r' u t H1 locs1 ht hvm hp hB hz hk hS => ?_)
  subst hp
  exact kk H1 locs1 (hm wc' ws' H1 locs1 hj hk (by rw [← ht]; exact hB.1) hB.2 hS)
end RUN
theorem startI {l : Launch} {y : MethodName} {own : String} {cc : ByteArray} {maxL k : Nat} {r : Int32} {ty : FieldType} {D : va_G} {E : Nat → ClassId} {sz : Nat} {ws ws' : va_W} {av : List Value} (hy : plainName y.cls = true) (ho : y.cls = own) (hav : (lg_sl av).length ≤ maxL)
    (body : ∀ (p : Program) (e : Env) (s : State) (m : MethodId) (args : Array Value) (below : List Frame) (meth : Method) (c : Code) (A : Nat → Prop) (Q : State → Prop) (ls : Array Slot), Cx p m c cc maxL s args own D E A →
      (∀ (pc : Nat) (ls : Array Slot) (H : Heap) (locs : List Loc) (v : Int32), decode cc pc = .ok (.ireturn, 1) → narrow ty (.int v) = .int v → v = r → Wo D A s.heap H locs ws' → W p l e (rmN k) s m args below meth c H locs 0 0 Q (F0 m pc ls [.int v])) → lv_has ls maxL (lv_args 0 av) → Wo D A s.heap s.heap [] ws → W p l e (rmN k) s m args below meth c s.heap [] 0 0 Q (F0 m 0 ls [])) : CtI l y cc maxL ty k D E sz av ws ws' r := by
  refine Met.ofW (cc := cc) (maxL := maxL) (ret := (some ty)) hy rfl ?_
  intro p e s m args below meth c s₁ B hml hv
  obtain ⟨hargs, hsz, hP, hK, hD0⟩ := hv
  have hx := B.exec
  have hb := B.bytes
  have hr := B.returns
  have hts := atoms_spec (ws := ws_ y cc maxL (some ty)) B.pre
  have hts : ∀ w ∈ lw_all, w.before args s = true := fun w h => hts w (List.mem_cons_of_mem _ h)
  have hown : s.vm.findClass own = some m.cls := by rw [← ho]; exact findClass_of_methodNamed B.named
  have hlocks : meth.locks = false := B.notSynchronized
  subst hsz
  have hD := hD0.self (sz := s.heap.size)
  have hA : ∀ q : Nat, s.heap.size ≤ q → va_A ws s.heap.size q := fun q h => Or.inr h
  refine W.eq (((congrArg (fun a => entryFrame m a maxL) hargs)).trans (lg_entry_eq m av maxL)) ?_
  exact body p e s m args below meth c (va_A ws s.heap.size) _ _ ⟨⟨hx, hb, hml, hown, hts⟩, hK, hA⟩ (fun pc ls H locs v hd hn hv hw => W.zret hx hb hr hn (fun t ht hW => ⟨⟨v, (), rfl, hv, by rw [ht]; exact hw.1, hw.2.1⟩, hw.2.2.F ht⟩) hw.2.2.2.2 hd hlocks) (lv_entry av hav) ⟨hP, hD, va_S.rf⟩
theorem startL {l : Launch} {y : MethodName} {own : String} {cc : ByteArray} {maxL k : Nat} {r : Int64} {D : va_G} {E : Nat → ClassId} {sz : Nat} {ws ws' : va_W} {av : List Value} (hy : plainName y.cls = true) (ho : y.cls = own) (hav : (lg_sl av).length ≤ maxL)
    (body : ∀ (p : Program) (e : Env) (s : State) (m : MethodId) (args : Array Value) (below : List Frame) (meth : Method) (c : Code) (A : Nat → Prop) (Q : State → Prop) (ls : Array Slot), Cx p m c cc maxL s args own D E A →
      (∀ (pc : Nat) (ls : Array Slot) (H : Heap) (locs : List Loc) (v : Int64), decode cc pc = .ok (.lreturn, 1) → v = r → Wo D A s.heap H locs ws' → W p l e (rmN k) s m args below meth c H locs 0 0 Q (F0 m pc ls [.long v])) → lv_has ls maxL (lv_args 0 av) → Wo D A s.heap s.heap [] ws → W p l e (rmN k) s m args below meth c s.heap [] 0 0 Q (F0 m 0 ls [])) : CtL l y cc maxL k D E sz av ws ws' r := by
  refine Met.ofW (cc := cc) (maxL := maxL) (ret := (some .long)) hy rfl ?_
  intro p e s m args below meth c s₁ B hml hv
  obtain ⟨hargs, hsz, hP, hK, hD0⟩ := hv
  have hx := B.exec
  have hb := B.bytes
  have hr := B.returns
  have hts := atoms_spec (ws := ws_ y cc maxL (some .long)) B.pre
  have hts : ∀ w ∈ lw_all, w.before args s = true := fun w h => hts w (List.mem_cons_of_mem _ h)
  have hown : s.vm.findClass own = some m.cls := by rw [← ho]; exact findClass_of_methodNamed B.named
  have hlocks : meth.locks = false := B.notSynchronized
  subst hsz
  have hD := hD0.self (sz := s.heap.size)
  have hA : ∀ q : Nat, s.heap.size ≤ q → va_A ws s.heap.size q := fun q h => Or.inr h
  refine W.eq (((congrArg (fun a => entryFrame m a maxL) hargs)).trans (lg_entry_eq m av maxL)) ?_
  exact body p e s m args below meth c (va_A ws s.heap.size) _ _ ⟨⟨hx, hb, hml, hown, hts⟩, hK, hA⟩ (fun pc ls H locs v hd hv hw => W.lret hx hb hr (fun t ht hW => ⟨⟨v, (), rfl, hv, by rw [ht]; exact hw.1, hw.2.1⟩, hw.2.2.F ht⟩) hw.2.2.2.2 hd hlocks) (lv_entry av hav) ⟨hP, hD, va_S.rf⟩
theorem startV {l : Launch} {y : MethodName} {own : String} {cc : ByteArray} {maxL k : Nat} {D : va_G} {E : Nat → ClassId} {sz : Nat} {ws ws' : va_W} {av : List Value} (hy : plainName y.cls = true) (ho : y.cls = own) (hav : (lg_sl av).length ≤ maxL)
    (body : ∀ (p : Program) (e : Env) (s : State) (m : MethodId) (args : Array Value) (below : List Frame) (meth : Method) (c : Code) (A : Nat → Prop) (Q : State → Prop) (ls : Array Slot), Cx p m c cc maxL s args own D E A →
      (∀ (pc : Nat) (ls : Array Slot) (H : Heap) (locs : List Loc), decode cc pc = .ok (.return_, 1) → Wo D A s.heap H locs ws' → W p l e (rmN k) s m args below meth c H locs 0 0 Q (F0 m pc ls [])) → lv_has ls maxL (lv_args 0 av) → Wo D A s.heap s.heap [] ws → W p l e (rmN k) s m args below meth c s.heap [] 0 0 Q (F0 m 0 ls [])) : CtV l y cc maxL k D E sz av ws ws' := by
  refine Met.ofW (cc := cc) (maxL := maxL) (ret := none) hy rfl ?_
  intro p e s m args below meth c s₁ B hml hv
  obtain ⟨hargs, hsz, hP, hK, hD0⟩ := hv
  have hx := B.exec
  have hb := B.bytes
  have hr := B.returns
  have hts := atoms_spec (ws := ws_ y cc maxL none) B.pre
  have hts : ∀ w ∈ lw_all, w.before args s = true := fun w h => hts w (List.mem_cons_of_mem _ h)
  have hown : s.vm.findClass own = some m.cls := by rw [← ho]; exact findClass_of_methodNamed B.named
  have hlocks : meth.locks = false := B.notSynchronized
  subst hsz
  have hD := hD0.self (sz := s.heap.size)
  have hA : ∀ q : Nat, s.heap.size ≤ q → va_A ws s.heap.size q := fun q h => Or.inr h
  refine W.eq (((congrArg (fun a => entryFrame m a maxL) hargs)).trans (lg_entry_eq m av maxL)) ?_
  exact body p e s m args below meth c (va_A ws s.heap.size) _ _ ⟨⟨hx, hb, hml, hown, hts⟩, hK, hA⟩ (fun pc ls H locs hd hw => W.vret hx hb hr (fun t ht hW => ⟨⟨(), rfl, trivial, by rw [ht]; exact hw.1, hw.2.1⟩, hw.2.2.F ht⟩) hw.2.2.2.2 hd hlocks) (lv_entry av hav) ⟨hP, hD, va_S.rf⟩
theorem dk_t {c : Prop} {i : Decidable c} {α : Type} {a b r : α} (h : c) (hf : (@ite α c i a b) = r) : a = r := by rw [if_pos h] at hf; exact hf
theorem dk_f {c : Prop} {i : Decidable c} {α : Type} {a b r : α} (h : ¬ c) (hf : (@ite α c i a b) = r) : b = r := by rw [if_neg h] at hf; exact hf
theorem dk_c {c : Prop} {i : Decidable c} {α : Type} {a : Option α} {r : α} (hf : (@ite (Option α) c i a none) = some r) : c ∧ a = some r := by
  by_cases h : c
  · rw [if_pos h] at hf; exact ⟨h, hf⟩
  · rw [if_neg h] at hf; cases hf
theorem dk_b {α β : Type} {o : Option α} {f : α → Option β} {r : β} (hf : o.bind f = some r) : ∃ z, o = some z ∧ f z = some r := by
  cases o with
  | none => cases hf
  | some z => exact ⟨z, rfl, hf⟩
theorem dk_n {α : Type} {r : α} {P : Prop} (hf : (none : Option α) = some r) : P := by cases hf
abbrev bIn (i : Int32) (n : Nat) : Prop := 0 ≤ i ∧ i.toNatClampNeg < n
theorem bIn_in {i : Int32} {n : Nat} (h : bIn i n) : vp_in i n := by
  rintro (q | q)
  · exact absurd h.1 (Int32.not_le.mpr q)
  · exact absurd h.2 (Nat.not_lt.mpr q)
