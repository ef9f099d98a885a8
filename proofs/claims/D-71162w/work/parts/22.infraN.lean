/-! INFRA for constructors -/
def rmC (k mc ms : Nat) : Room := { frames := k, cells := mc, slots := ms, locals := 40 * k }
abbrev CtN (l : Launch) (y : MethodName) (cc : ByteArray) (maxL k mc ms : Nat) (D : va_G) (E : Nat → ClassId) (sz o : Nat) (ws : va_W) (S : Type) (Wf : S → va_W) : Prop := Met l y (ws_ y cc maxL none) (rmC k mc ms) (va_Pc [.ref o] (PRE D E sz ws)) (va_Qv (fun (_ : S) => True) (fun u t => POST D (va_A ws sz) (Wf u) t) (va_A ws sz)) mc ms (va_A ws sz)
theorem startN {l : Launch} {y : MethodName} {own : String} {cc : ByteArray} {maxL k mc ms : Nat} {D : va_G} {E : Nat → ClassId} {sz o : Nat} {ws : va_W} {S : Type} {Wf : S → va_W} (hy : plainName y.cls = true) (ho : y.cls = own) (hnm : y.name = "<init>") (hav : (lg_sl [.ref o]).length ≤ maxL)
    (body : ∀ (p : Program) (e : Env) (s : State) (m : MethodId) (args : Array Value) (below : List Frame) (meth : Method) (c : Code) (A : Nat → Prop) (Q : State → Prop) (ls : Array Slot), Cx p m c cc maxL s args own D E A → meth.name = "<init>" →
      (∀ (pc : Nat) (ls : Array Slot) (H : Heap) (locs : List Loc) (u : S), decode cc pc = .ok (.return_, 1) → Wo D A s.heap H locs (Wf u) → W p l e (rmC k mc ms) s m args below meth c H locs mc ms Q (F0 m pc ls [])) → lv_has ls maxL (lv_args 0 [.ref o]) → Wo D A s.heap s.heap [] ws → W p l e (rmC k mc ms) s m args below meth c s.heap [] 0 0 Q (F0 m 0 ls [])) : CtN l y cc maxL k mc ms D E sz o ws S Wf := by
  refine Met.ofW (cc := cc) (maxL := maxL) (ret := none) hy rfl ?_
  intro p e s m args below meth c s₁ B hml hv
  obtain ⟨hargs, hsz, hP, hK, hD0⟩ := hv
  have hx := B.exec
  have hb := B.bytes
  have hr := B.returns
  have hts := atoms_spec (ws := ws_ y cc maxL none) B.pre
  have hts : ∀ w ∈ lw_all, w.before args s = true := fun w h => hts w (List.mem_cons_of_mem _ h)
  have hown : s.vm.findClass own = some m.cls := by rw [← ho]; exact findClass_of_methodNamed B.named
  have hlocks : meth.locks = false := B.notSynchronized
  have hin : meth.name = "<init>" := (name_of_methodNamed B.named B.method).1.trans hnm
  subst hsz
  have hD := hD0.self (sz := s.heap.size)
  have hA : ∀ q : Nat, s.heap.size ≤ q → va_A ws s.heap.size q := fun q h => Or.inr h
  refine W.eq (((congrArg (fun a => entryFrame m a maxL) hargs)).trans (lg_entry_eq m [.ref o] maxL)) ?_
  exact body p e s m args below meth c (va_A ws s.heap.size) _ _ ⟨⟨hx, hb, hml, hown, hts⟩, hK, hA⟩ hin (fun pc ls H locs u hd hw => W.vret hx hb hr (fun t ht hW => ⟨⟨u, rfl, trivial, by rw [ht]; exact hw.1, hw.2.1⟩, hw.2.2.F ht⟩) hw.2.2.2.2 hd hlocks) (lv_entry [.ref o] hav) ⟨hP, hD, va_S.rf⟩
section NEWS
variable {p : Program} {l : Launch} {e : Env} {R : Room} {s : State} {m : MethodId} {args : Array Value} {below : List Frame} {meth : Method} {c : Code} {H : Heap} {locs : List Loc} {cells slots : Nat} {Q : State → Prop}
variable {pc : Nat} {ls : Array Slot} {rest : List Value} {D : va_G} {E : Nat → ClassId} {A : Nat → Prop} {ws wc : va_W}
variable {cc : ByteArray} {own : String} {nL : Nat}
theorem RA_inj {U : State} {a b : ClassId} {ty : FieldType} (h1 : va_RA U a ty) (h2 : va_RA U b ty) : a = b := by
  cases ty with
  | object C =>
    obtain ⟨_, _, _, _, _, e1⟩ := h1
    obtain ⟨_, _, _, _, _, e2⟩ := h2
    exact Option.some.inj (e1.symm.trans e2)
  | _ => exact Option.some.inj (h1.symm.trans h2)
theorem newA (t : Nat) {atype : ArrayType} {ty : FieldType} {a0 : vp_A} {n : Int32} {N' : Nat} (hC : Cx p m c cc nL s args own D E A) (hw : Wo D A s.heap H locs ws) (harr : Cond.arrayClass (newarray.typeOf atype) ∈ lw_all) (hty : newarray.typeOf atype = ty) (ht : (Tys E)[t]? = some (E t, ty)) (ha : ∀ cA : ClassId, vp_cell cA a0 = arrV cA N' (fun _ => defaultValue ty)) (hn : ¬ n < 0) (hN : n.toNatClampNeg = N') (hbytes : N' * componentBytes ty ≤ 536870912) (hcells : cells + 1 ≤ R.cells) (hslots : slots + N' ≤ R.slots) (hdg : decode cc pc = .ok (.newarray atype, 2))
    (kk : ∀ (q : Nat) (H1 : Heap), Wo D A s.heap H1 locs (ws ++ [(q, .inl (E t, a0))]) → W p l e R s m args below meth c H1 locs (cells + 1) (slots + N') Q (F0 m (pc + 2) ls (.ref q :: rest))) : W p l e R s m args below meth c H locs cells slots Q (F0 m pc ls (.int n :: rest)) := by
  refine va_newa hC.1.1 hC.1.2.1 (hC.1.2.2.2.2 _ harr) hty hC.2.1.1 hw.1 hw.2.1 hw.2.2 hC.2.2 ha hn hN hbytes hcells hslots hdg (fun q cA H1 hK hP hD hS => ?_)
  have e1 : cA = E t := RA_inj (hK.2 5 (cA, ty) rfl).2 (hC.2.1.1.2 t _ ht).2
  subst e1
  exact kk q H1 ⟨hP, hD, hS⟩
theorem newT {index : Nat} {n : Int32} (hC : Cx p m c cc nL s args own D E A) (hw : Wo D A s.heap H locs ws) (hcl : Cond.classLink own index "BaizeCorps$Table" ∈ lw_all) (hn : n = 2) (hcells : cells + 1 ≤ R.cells) (hslots : slots + 2 ≤ R.slots) (hdg : decode cc pc = .ok (.anewarray index, 3))
    (kk : ∀ (q : Nat) (H1 : Heap), Wo D A s.heap H1 locs (ws ++ [(q, .inl (E 4, 2, .inr (.inr (.inr (.inr (fun _ => none))))))]) → W p l e R s m args below meth c H1 locs (cells + 1) (slots + 2) Q (F0 m (pc + 3) ls (.ref q :: rest))) : W p l e R s m args below meth c H locs cells slots Q (F0 m pc ls (.int n :: rest)) := by
  subst hn
  refine va_newq (N' := 2) hC.1.1 hC.1.2.1 hC.1.2.2.2.1 (hC.1.2.2.2.2 _ hcl) (nAO hC.2.1.2) hC.2.1.1 hw.1 hw.2.1 hw.2.2 hC.2.2 (by decide) (by decide) (by decide) hcells hslots hdg (fun q cA H1 hK hP hD hS => ?_)
  have e1 : cA = E 4 := RA_inj (ty := .object "BaizeCorps$Table") (hK.2 5 _ rfl).2 (hC.2.1.1.2 4 _ rfl).2
  subst e1
  exact kk q H1 ⟨hP, hD, hS⟩
/-- a constructor's call -/
theorem callN (k : Nat) {y : MethodName} {b : ByteArray} {maxL k0 mc ms idx o : Nat} {S : Type} {Wf : S → va_W} (hC : Cx p m c cc nL s args own D E A) (hw : Wo D A s.heap H locs ws) (hc : (ws.drop k).take 1 = wc) (hM : CtN l y b maxL k0 mc ms D E H.size o wc S Wf) (q5 : Cond.code y b maxL none ∈ lw_all) (q4 : Cond.initialized y.cls ∈ lw_all) (q1 : Cond.methodLink own idx y ∈ lw_all) (q2 : Cond.instanceMethod y ∈ lw_all) (hy : y.name = "<init>")
    (hd : y.cls ≠ "java/lang/invoke/MethodHandle" ∧ y.cls ≠ "java/lang/invoke/VarHandle" ∧ (parseMethodDescriptor y.desc).map (fun d => d.parameters.length) = some 0) (hR : (rmC k0 mc ms).frames + 1 ≤ R.frames ∧ 8 + (maxL + 11) + (rmC k0 mc ms).locals ≤ R.locals) (hsz : ls.size = nL) (hrest : (rest.map fun v => v.category).sum ≤ 8) (hdg : decode cc pc = .ok (.invokespecial idx, 3)) (hf : cells + mc ≤ R.cells ∧ slots + ms ≤ R.slots)
    (kk : ∀ (u : S) (H1 : Heap) (locs1 : List Loc), Wo D A s.heap H1 locs1 (ws.take k ++ (Wf u ++ ws.drop (k + 1))) → W p l e R s m args below meth c H1 locs1 (cells + mc) (slots + ms) Q (F0 m (pc + 3) ls rest)) : W p l e R s m args below meth c H locs cells slots Q (F0 m pc ls (.ref o :: rest)) := by
  obtain ⟨⟨hP, hD, hF⟩, hm⟩ := hw.mid hC.2.2 hc
  refine va_callv (va_runI (As := []) (rest := rest) hC.1 hM (cwI 0 hC.1.2.2.2.2 (lw_meth q5) rfl rfl rfl (hC.1.2.2.2.2 _ q4) (hC.1.2.2.2.2 _ q1) (hC.1.2.2.2.2 _ q2) hy hd hR) (preS hC.2.1 hP hD) rfl rfl hsz rfl (lv_room hrest) hdg hf) hw.2.2 (fun q _ h => hF q h) hF (fun u t H1 locs1 ht hvm hp hB hz hk hS => ?_)
  exact kk u H1 locs1 (hm (Wf u) _ H1 locs1 rfl hk (by rw [← ht]; exact hB.1) hB.2 hS)
theorem callNN (k : Nat) {y : MethodName} {b : ByteArray} {maxL k0 mc ms idx o : Nat} {host : String} {S : Type} {Wf : S → va_W} (hC : Cx p m c cc nL s args own D E A) (hw : Wo D A s.heap H locs ws) (hc : (ws.drop k).take 1 = wc) (hM : CtN l y b maxL k0 mc ms D E H.size o wc S Wf) (q5 : Cond.code y b maxL none ∈ lw_all) (q4 : Cond.initialized y.cls ∈ lw_all) (q1 : va_Nw (.methodLinkNest own idx y host) s) (q2 : Cond.instanceMethod y ∈ lw_all) (hy : y.name = "<init>")
    (hd : y.cls ≠ "java/lang/invoke/MethodHandle" ∧ y.cls ≠ "java/lang/invoke/VarHandle" ∧ (parseMethodDescriptor y.desc).map (fun d => d.parameters.length) = some 0) (hR : (rmC k0 mc ms).frames + 1 ≤ R.frames ∧ 8 + (maxL + 11) + (rmC k0 mc ms).locals ≤ R.locals) (hsz : ls.size = nL) (hrest : (rest.map fun v => v.category).sum ≤ 8) (hdg : decode cc pc = .ok (.invokespecial idx, 3)) (hf : cells + mc ≤ R.cells ∧ slots + ms ≤ R.slots)
    (kk : ∀ (u : S) (H1 : Heap) (locs1 : List Loc), Wo D A s.heap H1 locs1 (ws.take k ++ (Wf u ++ ws.drop (k + 1))) → W p l e R s m args below meth c H1 locs1 (cells + mc) (slots + ms) Q (F0 m (pc + 3) ls rest)) : W p l e R s m args below meth c H locs cells slots Q (F0 m pc ls (.ref o :: rest)) := by
  obtain ⟨⟨hP, hD, hF⟩, hm⟩ := hw.mid hC.2.2 hc
  refine va_callv (va_runIN (As := []) (rest := rest) hC.1 hM ⟨va_cnB 0 hC.1.2.2.2.2 (lw_meth q5) rfl rfl rfl q1 (hC.1.2.2.2.2 _ q4) hd hR, hy, hC.1.2.2.2.2 _ q2⟩ (preS hC.2.1 hP hD) rfl rfl hsz rfl (lv_room hrest) hdg hf) hw.2.2 (fun q _ h => hF q h) hF (fun u t H1 locs1 ht hvm hp hB hz hk hS => ?_)
  exact kk u H1 locs1 (hm (Wf u) _ H1 locs1 rfl hk (by rw [← ht]; exact hB.1) hB.2 hS)
end NEWS
theorem i0N : ¬ (60 : Int32) < 0 := by decide
