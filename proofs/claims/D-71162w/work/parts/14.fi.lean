set_option maxRecDepth 100000
section ROWSAi45
variable {p : Program} {l : Launch} {e : Env} {R : Room} {s : State} {m : MethodId} {args : Array Value} {below : List Frame} {meth : Method} {c : Code} {H : Heap} {locs : List Loc} {cel slo : Nat} {Q : State → Prop} {pc : Nat} {ls : Array Slot} {rest : List Value} {D : va_G} {E : Nat → ClassId} {A : Nat → Prop} {cc : ByteArray} {nL : Nat}
variable {a0 : Nat}
variable {arr : Nat → Int32}
theorem nAi45_arr {own : String} (hC : Cx p m c cc nL s args own D E A) (hw : Wo D A s.heap H locs (WAi45 a0 E arr)) (hdg : decode cc pc = .ok (.arraylength, 1)) (kk : W p l e R s m args below meth c H locs cel slo Q (F0 m (pc + 1) ls (.int 45 :: rest))) : W p l e R s m args below meth c H locs cel slo Q (F0 m pc ls (.ref a0 :: rest)) :=
  va_alen (v := 45) hC.1.1 hC.1.2.1 hC.2.1.1 hw.1 0 0 rfl rfl rfl hdg kk
theorem sAi45_arr {own : String} {i : Int32} {x : Int32} (hC : Cx p m c cc nL s args own D E A) (hw : Wo D A s.heap H locs (WAi45 a0 E arr)) (hi : bIn i 45) (hdg : decode cc pc = .ok (.iastore, 1)) (kk : ∀ (H1 : Heap) (locs1 : List Loc), Wo D A s.heap H1 locs1 (WAi45 a0 E (upd arr i.toNatClampNeg x)) → W p l e R s m args below meth c H1 locs1 cel slo Q (F0 m (pc + 1) ls rest)) : W p l e R s m args below meth c H locs cel slo Q (F0 m pc ls (.int x :: .int i :: .ref a0 :: rest)) :=
  va_iast hC.1.1 hC.1.2.1 hC.2.1.1 hw.1 hw.2.1 hw.2.2 0 0 rfl rfl (bIn_in hi) hdg (fun H1 l1 a b c => kk H1 l1 ⟨a, b, c⟩)
end ROWSAi45
section METAi45
variable {l : Launch} {D : va_G} {E : Nat → ClassId} {sz : Nat}
variable {a0 : Nat}
variable {arr : Nat → Int32}
def fJ1_fill_2_L5 (v1 : Int32)   : Nat → Int32 → Int32 → (Nat → Int32) → Option ((Nat → Int32))
  | 0, _, _, _ => none
  | n + 1, v2, v3, arr => (if v3 ≤ v2 then (some arr) else (if bIn v2 45 then (fJ1_fill_2_L5 v1 n (v2 + 1) v3 (upd arr v2.toNatClampNeg v1)) else none))
def fJ1_fill_2 (v1 : Int32) (arr : Nat → Int32) : Option ((Nat → Int32)) := (fJ1_fill_2_L5 v1 FU 0 45 arr)
set_option maxHeartbeats 4000000 in
set_option maxRecDepth 100000 in
theorem metJ1_fill_2 {v1 : Int32} {res : (Nat → Int32)} (hf : fJ1_fill_2 v1 arr = some res) : CtV l yJ1_fill_2 cJ1_fill_2 4 0 D E sz [.ref a0, .int v1] (WAi45 a0 E arr) (WAi45 a0 E res) := by
  refine startV (own := RJ1) (by decide) rfl (Nat.le_of_ble_eq_true rfl) ?_
  intro p e s m args below meth c A Q ls hC ret hl hw
  have hx := hC.1.1
  have hb := hC.1.2.1
  have hown := hC.1.2.2.2.1
  have hts := hC.1.2.2.2.2
  have hl : lv_has ls 4 [(0, .ref a0), (1, .int v1)] := hl
  have L5 : ∀ (n : Nat), ∀ (v2 : Int32) (v3 : Int32) (arr : Nat → Int32) (H : Heap) (locs : List Loc) (ls : Array Slot), Wo D A s.heap H locs (WAi45 a0 E arr) → lv_has ls 4 [(0, .ref a0), (1, .int v1), (2, .int v2), (3, .int v3)] → fJ1_fill_2_L5 v1  n v2 v3 arr = some res → W p l e (rmN 0) s m args below meth c H locs 0 0 Q (F0 m 5 ls []) := by
    intro  n
    induction n with
    | zero =>
      intro v2 v3 arr H locs ls hw hl hf
      exact dk_n hf
    | succ n ih =>
      intro v2 v3 arr H locs ls hw hl hf
      refine lv_iload_n hx hb dJ1_fill_2_5 rfl (lv_at hl 2 rfl) ?_
      refine lv_iload_n hx hb dJ1_fill_2_6 rfl (lv_at hl 3 rfl) ?_
      refine lv_icmp_ge (tgt := 20) hx hb dJ1_fill_2_7 rfl (fun c2 => ?_) (fun c2 => ?_)
      · have hf := dk_t c2 hf
        obtain rfl := Option.some.inj hf
        exact ret _ _ _ _ dJ1_fill_2_20 hw
      · have hf := dk_f c2 hf
        refine lv_aload_n hx hb dJ1_fill_2_10 rfl (lv_at hl 0 rfl) ?_
        refine lv_iload_n hx hb dJ1_fill_2_11 rfl (lv_at hl 2 rfl) ?_
        refine lv_iload_n hx hb dJ1_fill_2_12 rfl (lv_at hl 1 rfl) ?_
        obtain ⟨b1, hf⟩ := dk_c hf
        refine sAi45_arr hC hw b1 dJ1_fill_2_13 (fun H locs hw => ?_)
        refine lv_iinc (v := (v2 + 1)) (lv' := [(2, .int (v2 + 1)), (0, .ref a0), (1, .int v1), (3, .int v3)]) hx hb dJ1_fill_2_14 hl (k := 2) rfl rfl (by decide) rfl (fun ls hl => ?_)
        refine lv_goto (tgt := 5) hx hb dJ1_fill_2_17 rfl ?_
        exact ih (v2 + 1) v3 (upd arr v2.toNatClampNeg v1) _ _ _ hw (lv_sub hl [1, 2, 0, 3] rfl) hf
  refine lv_iconst (v := 0) hx hb dJ1_fill_2_0 rfl ?_
  refine lv_istore_n (lv' := [(2, .int 0), (0, .ref a0), (1, .int v1)]) hx hb dJ1_fill_2_1 rfl hl (by decide) rfl (fun ls hl => ?_)
  refine lv_aload_n hx hb dJ1_fill_2_2 rfl (lv_at hl 1 rfl) ?_
  refine nAi45_arr hC hw dJ1_fill_2_3 ?_
  refine lv_istore_n (lv' := [(3, .int 45), (2, .int 0), (0, .ref a0), (1, .int v1)]) hx hb dJ1_fill_2_4 rfl hl (by decide) rfl (fun ls hl => ?_)
  exact L5 FU 0 45 arr _ _ _ hw (lv_sub hl [2, 3, 1, 0] rfl) hf
end METAi45
