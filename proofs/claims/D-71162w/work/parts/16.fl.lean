set_option maxRecDepth 100000
section ROWSAl81
variable {p : Program} {l : Launch} {e : Env} {R : Room} {s : State} {m : MethodId} {args : Array Value} {below : List Frame} {meth : Method} {c : Code} {H : Heap} {locs : List Loc} {cel slo : Nat} {Q : State → Prop} {pc : Nat} {ls : Array Slot} {rest : List Value} {D : va_G} {E : Nat → ClassId} {A : Nat → Prop} {cc : ByteArray} {nL : Nat}
variable {a0 : Nat}
variable {arr : Nat → Int64}
theorem nAl81_arr {own : String} (hC : Cx p m c cc nL s args own D E A) (hw : Wo D A s.heap H locs (WAl81 a0 E arr)) (hdg : decode cc pc = .ok (.arraylength, 1)) (kk : W p l e R s m args below meth c H locs cel slo Q (F0 m (pc + 1) ls (.int 81 :: rest))) : W p l e R s m args below meth c H locs cel slo Q (F0 m pc ls (.ref a0 :: rest)) :=
  va_alen (v := 81) hC.1.1 hC.1.2.1 hC.2.1.1 hw.1 0 3 rfl rfl rfl hdg kk
theorem sAl81_arr {own : String} {i : Int32} {x : Int64} (hC : Cx p m c cc nL s args own D E A) (hw : Wo D A s.heap H locs (WAl81 a0 E arr)) (hi : bIn i 81) (hdg : decode cc pc = .ok (.lastore, 1)) (kk : ∀ (H1 : Heap) (locs1 : List Loc), Wo D A s.heap H1 locs1 (WAl81 a0 E (vp_updL arr i.toNatClampNeg x)) → W p l e R s m args below meth c H1 locs1 cel slo Q (F0 m (pc + 1) ls rest)) : W p l e R s m args below meth c H locs cel slo Q (F0 m pc ls (.long x :: .int i :: .ref a0 :: rest)) :=
  va_last hC.1.1 hC.1.2.1 hC.2.1.1 hw.1 hw.2.1 hw.2.2 0 3 rfl rfl (bIn_in hi) hdg (fun H1 l1 a b c => kk H1 l1 ⟨a, b, c⟩)
end ROWSAl81
section METAl81
variable {l : Launch} {D : va_G} {E : Nat → ClassId} {sz : Nat}
variable {a0 : Nat}
variable {arr : Nat → Int64}
def fJ1_fill_3_L6 (v1 : Int64)   : Nat → Int32 → Int32 → (Nat → Int64) → Option ((Nat → Int64))
  | 0, _, _, _ => none
  | n + 1, v3, v4, arr => (if v4 ≤ v3 then (some arr) else (if bIn v3 81 then (fJ1_fill_3_L6 v1 n (v3 + 1) v4 (vp_updL arr v3.toNatClampNeg v1)) else none))
def fJ1_fill_3 (v1 : Int64) (arr : Nat → Int64) : Option ((Nat → Int64)) := (fJ1_fill_3_L6 v1 FU 0 81 arr)
set_option maxHeartbeats 4000000 in
set_option maxRecDepth 100000 in
theorem metJ1_fill_3 {v1 : Int64} {res : (Nat → Int64)} (hf : fJ1_fill_3 v1 arr = some res) : CtV l yJ1_fill_3 cJ1_fill_3 5 0 D E sz [.ref a0, .long v1] (WAl81 a0 E arr) (WAl81 a0 E res) := by
  refine startV (own := RJ1) (by decide) rfl (Nat.le_of_ble_eq_true rfl) ?_
  intro p e s m args below meth c A Q ls hC ret hl hw
  have hx := hC.1.1
  have hb := hC.1.2.1
  have hown := hC.1.2.2.2.1
  have hts := hC.1.2.2.2.2
  have hl : lv_has ls 5 [(0, .ref a0), (1, .long v1)] := hl
  have L6 : ∀ (n : Nat), ∀ (v3 : Int32) (v4 : Int32) (arr : Nat → Int64) (H : Heap) (locs : List Loc) (ls : Array Slot), Wo D A s.heap H locs (WAl81 a0 E arr) → lv_has ls 5 [(0, .ref a0), (1, .long v1), (3, .int v3), (4, .int v4)] → fJ1_fill_3_L6 v1  n v3 v4 arr = some res → W p l e (rmN 0) s m args below meth c H locs 0 0 Q (F0 m 6 ls []) := by
    intro  n
    induction n with
    | zero =>
      intro v3 v4 arr H locs ls hw hl hf
      exact dk_n hf
    | succ n ih =>
      intro v3 v4 arr H locs ls hw hl hf
      refine lv_iload_n hx hb dJ1_fill_3_6 rfl (lv_at hl 2 rfl) ?_
      refine lv_iload hx hb dJ1_fill_3_7 (lv_at hl 3 rfl) ?_
      refine lv_icmp_ge (tgt := 22) hx hb dJ1_fill_3_9 rfl (fun c2 => ?_) (fun c2 => ?_)
      · have hf := dk_t c2 hf
        obtain rfl := Option.some.inj hf
        exact ret _ _ _ _ dJ1_fill_3_22 hw
      · have hf := dk_f c2 hf
        refine lv_aload_n hx hb dJ1_fill_3_12 rfl (lv_at hl 0 rfl) ?_
        refine lv_iload_n hx hb dJ1_fill_3_13 rfl (lv_at hl 2 rfl) ?_
        refine lv_lload_n hx hb dJ1_fill_3_14 rfl (lv_at hl 1 rfl) ?_
        obtain ⟨b1, hf⟩ := dk_c hf
        refine sAl81_arr hC hw b1 dJ1_fill_3_15 (fun H locs hw => ?_)
        refine lv_iinc (v := (v3 + 1)) (lv' := [(3, .int (v3 + 1)), (0, .ref a0), (1, .long v1), (4, .int v4)]) hx hb dJ1_fill_3_16 hl (k := 2) rfl rfl (by decide) rfl (fun ls hl => ?_)
        refine lv_goto (tgt := 6) hx hb dJ1_fill_3_19 rfl ?_
        exact ih (v3 + 1) v4 (vp_updL arr v3.toNatClampNeg v1) _ _ _ hw (lv_sub hl [1, 2, 0, 3] rfl) hf
  refine lv_iconst (v := 0) hx hb dJ1_fill_3_0 rfl ?_
  refine lv_istore_n (lv' := [(3, .int 0), (0, .ref a0), (1, .long v1)]) hx hb dJ1_fill_3_1 rfl hl (by decide) rfl (fun ls hl => ?_)
  refine lv_aload_n hx hb dJ1_fill_3_2 rfl (lv_at hl 1 rfl) ?_
  refine nAl81_arr hC hw dJ1_fill_3_3 ?_
  refine lv_istore (lv' := [(4, .int 81), (3, .int 0), (0, .ref a0), (1, .long v1)]) hx hb dJ1_fill_3_4 hl (by decide) rfl (fun ls hl => ?_)
  exact L6 FU 0 81 arr _ _ _ hw (lv_sub hl [2, 3, 1, 0] rfl) hf
end METAl81
