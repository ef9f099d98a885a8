set_option maxRecDepth 100000
theorem mi_X0_asNumber : MiS yX0_asNumber cX0_asNumber 1 (some .int) 1 := ⟨q286, q43, q287, by decide +kernel, by decide⟩
section ROWSX2
variable {p : Program} {l : Launch} {e : Env} {R : Room} {s : State} {m : MethodId} {args : Array Value} {below : List Frame} {meth : Method} {c : Code} {H : Heap} {locs : List Loc} {cel slo : Nat} {Q : State → Prop} {pc : Nat} {ls : Array Slot} {rest : List Value} {D : va_G} {E : Nat → ClassId} {A : Nat → Prop} {cc : ByteArray} {nL : Nat}
variable {a0 : Nat}
variable {row column down right cushions : Int32}
theorem pX2_this_row {v : Int32} (hC : Cx p m c cc nL s args RX2 D E A) (hw : Wo D A s.heap H locs (WX2 a0 E row column down right cushions)) (hdg : decode cc pc = .ok (.putfield 9, 3)) (kk : ∀ (H1 : Heap) (locs1 : List Loc), Wo D A s.heap H1 locs1 (WX2 a0 E v column down right cushions) → W p l e R s m args below meth c H1 locs1 cel slo Q (F0 m (pc + 3) ls rest)) : W p l e R s m args below meth c H locs cel slo Q (F0 m pc ls (.int v :: .ref a0 :: rest)) :=
  va_put (D := D) (ci := 2) (v := .int v) (ty := .int) (C := RX2) (T := TX2) (N := 5) hC.1.1 hC.1.2.1 hC.1.2.2.2.2 in_X2 tyX2 tyX2_ok nmX2 hC.1.2.2.2.1 hC.2.1.1 hw.1 hw.2.1 hw.2.2 0 rfl rfl 0 (by decide) (hC.1.2.2.2.2 _ q70) (fun _ h9 => h9) rfl (by decide +kernel) rfl rfl (Nat.le_of_ble_eq_true rfl) hdg (fun H1 l1 a b c => kk H1 l1 ⟨a, b, c⟩)
theorem pX2_this_column {v : Int32} (hC : Cx p m c cc nL s args RX2 D E A) (hw : Wo D A s.heap H locs (WX2 a0 E row column down right cushions)) (hdg : decode cc pc = .ok (.putfield 15, 3)) (kk : ∀ (H1 : Heap) (locs1 : List Loc), Wo D A s.heap H1 locs1 (WX2 a0 E row v down right cushions) → W p l e R s m args below meth c H1 locs1 cel slo Q (F0 m (pc + 3) ls rest)) : W p l e R s m args below meth c H locs cel slo Q (F0 m pc ls (.int v :: .ref a0 :: rest)) :=
  va_put (D := D) (ci := 2) (v := .int v) (ty := .int) (C := RX2) (T := TX2) (N := 5) hC.1.1 hC.1.2.1 hC.1.2.2.2.2 in_X2 tyX2 tyX2_ok nmX2 hC.1.2.2.2.1 hC.2.1.1 hw.1 hw.2.1 hw.2.2 0 rfl rfl 1 (by decide) (hC.1.2.2.2.2 _ q71) (fun _ h9 => h9) rfl (by decide +kernel) rfl rfl (Nat.le_of_ble_eq_true rfl) hdg (fun H1 l1 a b c => kk H1 l1 ⟨a, b, c⟩)
theorem pX2_this_down {v : Int32} (hC : Cx p m c cc nL s args RX2 D E A) (hw : Wo D A s.heap H locs (WX2 a0 E row column down right cushions)) (hdg : decode cc pc = .ok (.putfield 18, 3)) (kk : ∀ (H1 : Heap) (locs1 : List Loc), Wo D A s.heap H1 locs1 (WX2 a0 E row column v right cushions) → W p l e R s m args below meth c H1 locs1 cel slo Q (F0 m (pc + 3) ls rest)) : W p l e R s m args below meth c H locs cel slo Q (F0 m pc ls (.int v :: .ref a0 :: rest)) :=
  va_put (D := D) (ci := 2) (v := .int v) (ty := .int) (C := RX2) (T := TX2) (N := 5) hC.1.1 hC.1.2.1 hC.1.2.2.2.2 in_X2 tyX2 tyX2_ok nmX2 hC.1.2.2.2.1 hC.2.1.1 hw.1 hw.2.1 hw.2.2 0 rfl rfl 2 (by decide) (hC.1.2.2.2.2 _ q72) (fun _ h9 => h9) rfl (by decide +kernel) rfl rfl (Nat.le_of_ble_eq_true rfl) hdg (fun H1 l1 a b c => kk H1 l1 ⟨a, b, c⟩)
theorem pX2_this_right {v : Int32} (hC : Cx p m c cc nL s args RX2 D E A) (hw : Wo D A s.heap H locs (WX2 a0 E row column down right cushions)) (hdg : decode cc pc = .ok (.putfield 21, 3)) (kk : ∀ (H1 : Heap) (locs1 : List Loc), Wo D A s.heap H1 locs1 (WX2 a0 E row column down v cushions) → W p l e R s m args below meth c H1 locs1 cel slo Q (F0 m (pc + 3) ls rest)) : W p l e R s m args below meth c H locs cel slo Q (F0 m pc ls (.int v :: .ref a0 :: rest)) :=
  va_put (D := D) (ci := 2) (v := .int v) (ty := .int) (C := RX2) (T := TX2) (N := 5) hC.1.1 hC.1.2.1 hC.1.2.2.2.2 in_X2 tyX2 tyX2_ok nmX2 hC.1.2.2.2.1 hC.2.1.1 hw.1 hw.2.1 hw.2.2 0 rfl rfl 3 (by decide) (hC.1.2.2.2.2 _ q73) (fun _ h9 => h9) rfl (by decide +kernel) rfl rfl (Nat.le_of_ble_eq_true rfl) hdg (fun H1 l1 a b c => kk H1 l1 ⟨a, b, c⟩)
theorem pX2_this_cushions {v : Int32} (hC : Cx p m c cc nL s args RX2 D E A) (hw : Wo D A s.heap H locs (WX2 a0 E row column down right cushions)) (hdg : decode cc pc = .ok (.putfield 24, 3)) (kk : ∀ (H1 : Heap) (locs1 : List Loc), Wo D A s.heap H1 locs1 (WX2 a0 E row column down right v) → W p l e R s m args below meth c H1 locs1 cel slo Q (F0 m (pc + 3) ls rest)) : W p l e R s m args below meth c H locs cel slo Q (F0 m pc ls (.int v :: .ref a0 :: rest)) :=
  va_put (D := D) (ci := 2) (v := .int v) (ty := .int) (C := RX2) (T := TX2) (N := 5) hC.1.1 hC.1.2.1 hC.1.2.2.2.2 in_X2 tyX2 tyX2_ok nmX2 hC.1.2.2.2.1 hC.2.1.1 hw.1 hw.2.1 hw.2.2 0 rfl rfl 4 (by decide) (hC.1.2.2.2.2 _ q74) (fun _ h9 => h9) rfl (by decide +kernel) rfl rfl (Nat.le_of_ble_eq_true rfl) hdg (fun H1 l1 a b c => kk H1 l1 ⟨a, b, c⟩)
theorem gX2_this_row (hC : Cx p m c cc nL s args RX2 D E A) (hw : Wo D A s.heap H locs (WX2 a0 E row column down right cushions)) (hdg : decode cc pc = .ok (.getfield 9, 3)) (kk : W p l e R s m args below meth c H locs cel slo Q (F0 m (pc + 3) ls (.int row :: rest))) : W p l e R s m args below meth c H locs cel slo Q (F0 m pc ls (.ref a0 :: rest)) :=
  va_get (D := D) (ci := 2) (C := RX2) (T := TX2) (N := 5) hC.1.1 hC.1.2.1 hC.1.2.2.2.2 in_X2 hC.1.2.2.2.1 hC.2.1.1 hw.1 0 rfl rfl 0 (by decide) (hC.1.2.2.2.2 _ q70) (fun _ h9 => h9) rfl hdg kk
theorem gX2_this_down (hC : Cx p m c cc nL s args RX2 D E A) (hw : Wo D A s.heap H locs (WX2 a0 E row column down right cushions)) (hdg : decode cc pc = .ok (.getfield 18, 3)) (kk : W p l e R s m args below meth c H locs cel slo Q (F0 m (pc + 3) ls (.int down :: rest))) : W p l e R s m args below meth c H locs cel slo Q (F0 m pc ls (.ref a0 :: rest)) :=
  va_get (D := D) (ci := 2) (C := RX2) (T := TX2) (N := 5) hC.1.1 hC.1.2.1 hC.1.2.2.2.2 in_X2 hC.1.2.2.2.1 hC.2.1.1 hw.1 0 rfl rfl 2 (by decide) (hC.1.2.2.2.2 _ q72) (fun _ h9 => h9) rfl hdg kk
theorem gX2_this_column (hC : Cx p m c cc nL s args RX2 D E A) (hw : Wo D A s.heap H locs (WX2 a0 E row column down right cushions)) (hdg : decode cc pc = .ok (.getfield 15, 3)) (kk : W p l e R s m args below meth c H locs cel slo Q (F0 m (pc + 3) ls (.int column :: rest))) : W p l e R s m args below meth c H locs cel slo Q (F0 m pc ls (.ref a0 :: rest)) :=
  va_get (D := D) (ci := 2) (C := RX2) (T := TX2) (N := 5) hC.1.1 hC.1.2.1 hC.1.2.2.2.2 in_X2 hC.1.2.2.2.1 hC.2.1.1 hw.1 0 rfl rfl 1 (by decide) (hC.1.2.2.2.2 _ q71) (fun _ h9 => h9) rfl hdg kk
theorem gX2_this_right (hC : Cx p m c cc nL s args RX2 D E A) (hw : Wo D A s.heap H locs (WX2 a0 E row column down right cushions)) (hdg : decode cc pc = .ok (.getfield 21, 3)) (kk : W p l e R s m args below meth c H locs cel slo Q (F0 m (pc + 3) ls (.int right :: rest))) : W p l e R s m args below meth c H locs cel slo Q (F0 m pc ls (.ref a0 :: rest)) :=
  va_get (D := D) (ci := 2) (C := RX2) (T := TX2) (N := 5) hC.1.1 hC.1.2.1 hC.1.2.2.2.2 in_X2 hC.1.2.2.2.1 hC.2.1.1 hw.1 0 rfl rfl 3 (by decide) (hC.1.2.2.2.2 _ q73) (fun _ h9 => h9) rfl hdg kk
theorem gX2_this_cushions (hC : Cx p m c cc nL s args RX2 D E A) (hw : Wo D A s.heap H locs (WX2 a0 E row column down right cushions)) (hdg : decode cc pc = .ok (.getfield 24, 3)) (kk : W p l e R s m args below meth c H locs cel slo Q (F0 m (pc + 3) ls (.int cushions :: rest))) : W p l e R s m args below meth c H locs cel slo Q (F0 m pc ls (.ref a0 :: rest)) :=
  va_get (D := D) (ci := 2) (C := RX2) (T := TX2) (N := 5) hC.1.1 hC.1.2.1 hC.1.2.2.2.2 in_X2 hC.1.2.2.2.1 hC.2.1.1 hw.1 0 rfl rfl 4 (by decide) (hC.1.2.2.2.2 _ q74) (fun _ h9 => h9) rfl hdg kk
end ROWSX2
section METX2
variable {l : Launch} {D : va_G} {E : Nat → ClassId} {sz : Nat}
variable {a0 : Nat}
variable {row column down right cushions : Int32}
def fX2_send_L65 (v1 : Int32) (v2 : Int32)   (row : Int32) (column : Int32) (down : Int32) (right : Int32) (cushions : Int32) : Option (Int32 × Int32 × Int32 × Int32 × Int32) := (if v2 ≤ 4 then (some (row, column, down, 0, 0)) else (some (row, column, down, (-1), 0)))
def fX2_send_L48 (v1 : Int32) (v2 : Int32)   (k1 : Int32) (row : Int32) (column : Int32) (down : Int32) (right : Int32) (cushions : Int32) : Option (Int32 × Int32 × Int32 × Int32 × Int32) := (if v2 ≤ 0 then (fX2_send_L65 v1 v2 row column k1 right cushions) else (if (4 : Int32) ≤ v2 then (fX2_send_L65 v1 v2 row column k1 right cushions) else (some (row, column, k1, 1, 0))))
def fX2_send (v1 : Int32) (v2 : Int32) (row : Int32) (column : Int32) (down : Int32) (right : Int32) (cushions : Int32) : Option (Int32 × Int32 × Int32 × Int32 × Int32) := (if v2 = 7 then (fX2_send_L48 v1 v2 (-1) (v1 / 9) (v1 - v1 / 9 * 9) down right cushions) else (if (2 : Int32) ≤ v2 then (if v2 ≤ 2 then (fX2_send_L48 v1 v2 0 (v1 / 9) (v1 - v1 / 9 * 9) down right cushions) else (if (6 : Int32) ≤ v2 then (fX2_send_L48 v1 v2 0 (v1 / 9) (v1 - v1 / 9 * 9) down right cushions) else (fX2_send_L48 v1 v2 1 (v1 / 9) (v1 - v1 / 9 * 9) down right cushions))) else (fX2_send_L48 v1 v2 (-1) (v1 / 9) (v1 - v1 / 9 * 9) down right cushions)))
def fX2_next_L105  (row : Int32) (column : Int32)  (k1 : Int32) (k2 : Int32) (down : Int32) (right : Int32) (cushions : Int32) : Option (Int32 × Int32 × Int32 × Int32) := (some (((((9 : Int32) * (row + down)) + column) + right), down, right, (k1 + (fX0_asNumber k2))))
def fX2_next_L84  (row : Int32) (column : Int32)  (v1 : Int32) (v2 : Int32) (k1 : Int32) (down : Int32) (right : Int32) (cushions : Int32) : Option (Int32 × Int32 × Int32 × Int32) := (if v1 = 0 then (if v2 = 0 then (fX2_next_L105 row column cushions 0 down k1 cushions) else (fX2_next_L105 row column cushions 1 down k1 cushions)) else (fX2_next_L105 row column cushions 1 down k1 cushions))
def fX2_next_L64  (row : Int32) (column : Int32)  (v1 : Int32) (v2 : Int32) (k1 : Int32) (down : Int32) (right : Int32) (cushions : Int32) : Option (Int32 × Int32 × Int32 × Int32) := (if v2 = 0 then (fX2_next_L84 row column v1 v2 right k1 right cushions) else (fX2_next_L84 row column v1 v2 (-right) k1 right cushions))
def fX2_next_L46  (row : Int32) (column : Int32)  (v1 : Int32) (k0 : Int32) (down : Int32) (right : Int32) (cushions : Int32) : Option (Int32 × Int32 × Int32 × Int32) := (if v1 = 0 then (fX2_next_L64 row column v1 k0 down down right cushions) else (fX2_next_L64 row column v1 k0 (-down) down right cushions))
def fX2_next_L22  (row : Int32) (column : Int32)  (k0 : Int32) (down : Int32) (right : Int32) (cushions : Int32) : Option (Int32 × Int32 × Int32 × Int32) := (if (fX0_isIn (column + right) 0 8) = 0 then (fX2_next_L46 row column k0 1 down right cushions) else (fX2_next_L46 row column k0 0 down right cushions))
def fX2_next  (row : Int32) (column : Int32) (down : Int32) (right : Int32) (cushions : Int32) : Option (Int32 × Int32 × Int32 × Int32) := (if (fX0_isIn (row + down) 0 4) = 0 then (fX2_next_L22 row column 1 down right cushions) else (fX2_next_L22 row column 0 down right cushions))
def fX2_goFrom (v1 : Int32) (row : Int32) (column : Int32) : Option (Int32 × Int32) := (some ((v1 / 9), (v1 - v1 / 9 * 9)))
def fX2_go  (row : Int32) (column : Int32) (down : Int32) (right : Int32) : Option (Int32 × Int32) := (some ((row + down), (column + right)))
def fX2_cell  (row : Int32) (column : Int32) : Option (Int32) := (some (((9 : Int32) * row) + column))
def fX2_way  (down : Int32) (right : Int32) : Option (Int32) := (if (0 : Int32) ≤ down then (if down = 0 then (if right ≤ 0 then (some 6) else (some 2)) else (if right ≤ 0 then (if right = 0 then (some 4) else (some 5)) else (some 3))) else (if (0 : Int32) ≤ right then (some right) else (some 7)))
set_option maxHeartbeats 4000000 in
set_option maxRecDepth 100000 in
theorem metX2_send {v1 : Int32} {v2 : Int32} {res : Int32 × Int32 × Int32 × Int32 × Int32} (hf : fX2_send v1 v2 row column down right cushions = some res) : CtV l yX2_send cX2_send 3 0 D E sz [.ref a0, .int v1, .int v2] (WX2 a0 E row column down right cushions) (WX2 a0 E res.1 res.2.1 res.2.2.1 res.2.2.2.1 res.2.2.2.2) := by
  refine startV (own := RX2) (by decide) rfl (Nat.le_of_ble_eq_true rfl) ?_
  intro p e s m args below meth c A Q ls hC ret hl hw
  have hx := hC.1.1
  have hb := hC.1.2.1
  have hown := hC.1.2.2.2.1
  have hts := hC.1.2.2.2.2
  have hl : lv_has ls 3 [(0, .ref a0), (1, .int v1), (2, .int v2)] := hl
  have L65 : ∀ (row : Int32) (column : Int32) (down : Int32) (right : Int32) (cushions : Int32) (H : Heap) (locs : List Loc) (ls : Array Slot), Wo D A s.heap H locs (WX2 a0 E row column down right cushions) → lv_has ls 3 [(0, .ref a0), (2, .int v2)] → fX2_send_L65 v1 v2  row column down right cushions = some res → W p l e (rmN 0) s m args below meth c H locs 0 0 Q (F0 m 65 ls [.ref a0]) := by
    intro  row column down right cushions H locs ls hw hl hf
    refine lv_iload_n hx hb dX2_send_65 rfl (lv_at hl 1 rfl) ?_
    refine lv_iconst (v := 4) hx hb dX2_send_66 rfl ?_
    refine lv_icmp_le (tgt := 74) hx hb dX2_send_67 rfl (fun c1 => ?_) (fun c1 => ?_)
    · have hf := dk_t c1 hf
      refine lv_iconst (v := 0) hx hb dX2_send_74 rfl ?_
      refine pX2_this_right hC hw dX2_send_75 (fun H locs hw => ?_)
      refine lv_aload_n hx hb dX2_send_78 rfl (lv_at hl 0 rfl) ?_
      refine lv_iconst (v := 0) hx hb dX2_send_79 rfl ?_
      refine pX2_this_cushions hC hw dX2_send_80 (fun H locs hw => ?_)
      obtain rfl := Option.some.inj hf
      exact ret _ _ _ _ dX2_send_83 hw
    · have hf := dk_f c1 hf
      refine lv_iconst (v := (-1)) hx hb dX2_send_70 rfl ?_
      refine lv_goto (tgt := 75) hx hb dX2_send_71 rfl ?_
      refine pX2_this_right hC hw dX2_send_75 (fun H locs hw => ?_)
      refine lv_aload_n hx hb dX2_send_78 rfl (lv_at hl 0 rfl) ?_
      refine lv_iconst (v := 0) hx hb dX2_send_79 rfl ?_
      refine pX2_this_cushions hC hw dX2_send_80 (fun H locs hw => ?_)
      obtain rfl := Option.some.inj hf
      exact ret _ _ _ _ dX2_send_83 hw
  have L48 : ∀ (k1 : Int32) (row : Int32) (column : Int32) (down : Int32) (right : Int32) (cushions : Int32) (H : Heap) (locs : List Loc) (ls : Array Slot), Wo D A s.heap H locs (WX2 a0 E row column down right cushions) → lv_has ls 3 [(0, .ref a0), (2, .int v2)] → fX2_send_L48 v1 v2  k1 row column down right cushions = some res → W p l e (rmN 0) s m args below meth c H locs 0 0 Q (F0 m 48 ls [.int k1, .ref a0]) := by
    intro  k1 row column down right cushions H locs ls hw hl hf
    refine pX2_this_down hC hw dX2_send_48 (fun H locs hw => ?_)
    refine lv_aload_n hx hb dX2_send_51 rfl (lv_at hl 0 rfl) ?_
    refine lv_iload_n hx hb dX2_send_52 rfl (lv_at hl 1 rfl) ?_
    refine lv_if_le (tgt := 65) hx hb dX2_send_53 rfl (fun c3 => ?_) (fun c3 => ?_)
    · have hf := dk_t c3 hf
      exact L65 row column k1 right cushions _ _ _ hw (lv_sub hl [0, 1] rfl) hf
    · have hf := dk_f c3 hf
      refine lv_iload_n hx hb dX2_send_56 rfl (lv_at hl 1 rfl) ?_
      refine lv_iconst (v := 4) hx hb dX2_send_57 rfl ?_
      refine lv_icmp_ge (tgt := 65) hx hb dX2_send_58 rfl (fun c2 => ?_) (fun c2 => ?_)
      · have hf := dk_t c2 hf
        exact L65 row column k1 right cushions _ _ _ hw (lv_sub hl [0, 1] rfl) hf
      · have hf := dk_f c2 hf
        refine lv_iconst (v := 1) hx hb dX2_send_61 rfl ?_
        refine lv_goto (tgt := 75) hx hb dX2_send_62 rfl ?_
        refine pX2_this_right hC hw dX2_send_75 (fun H locs hw => ?_)
        refine lv_aload_n hx hb dX2_send_78 rfl (lv_at hl 0 rfl) ?_
        refine lv_iconst (v := 0) hx hb dX2_send_79 rfl ?_
        refine pX2_this_cushions hC hw dX2_send_80 (fun H locs hw => ?_)
        obtain rfl := Option.some.inj hf
        exact ret _ _ _ _ dX2_send_83 hw
  refine lv_aload_n hx hb dX2_send_0 rfl (lv_at hl 0 rfl) ?_
  refine lv_iload_n hx hb dX2_send_1 rfl (lv_at hl 1 rfl) ?_
  refine lv_bipush (v := 9) hx hb dX2_send_2 rfl ?_
  refine lv_idiv hx hb dX2_send_4 (by decide) ?_
  refine pX2_this_row hC hw dX2_send_5 (fun H locs hw => ?_)
  refine lv_aload_n hx hb dX2_send_8 rfl (lv_at hl 0 rfl) ?_
  refine lv_iload_n hx hb dX2_send_9 rfl (lv_at hl 1 rfl) ?_
  refine lv_bipush (v := 9) hx hb dX2_send_10 rfl ?_
  refine lv_irem hx hb dX2_send_12 (by decide) ?_
  refine pX2_this_column hC hw dX2_send_13 (fun H locs hw => ?_)
  refine lv_aload_n hx hb dX2_send_16 rfl (lv_at hl 0 rfl) ?_
  refine lv_iload_n hx hb dX2_send_17 rfl (lv_at hl 2 rfl) ?_
  refine lv_bipush (v := 7) hx hb dX2_send_18 rfl ?_
  refine lv_icmp_eq (tgt := 28) hx hb dX2_send_20 rfl (fun c7 => ?_) (fun c7 => ?_)
  · have hf := dk_t c7 hf
    refine lv_iconst (v := (-1)) hx hb dX2_send_28 rfl ?_
    refine lv_goto (tgt := 48) hx hb dX2_send_29 rfl ?_
    exact L48 (-1) (v1 / 9) (v1 - v1 / 9 * 9) down right cushions _ _ _ hw (lv_sub hl [0, 2] rfl) hf
  · have hf := dk_f c7 hf
    refine lv_iload_n hx hb dX2_send_23 rfl (lv_at hl 2 rfl) ?_
    refine lv_iconst (v := 2) hx hb dX2_send_24 rfl ?_
    refine lv_icmp_ge (tgt := 32) hx hb dX2_send_25 rfl (fun c6 => ?_) (fun c6 => ?_)
    · have hf := dk_t c6 hf
      refine lv_iload_n hx hb dX2_send_32 rfl (lv_at hl 2 rfl) ?_
      refine lv_iconst (v := 2) hx hb dX2_send_33 rfl ?_
      refine lv_icmp_le (tgt := 47) hx hb dX2_send_34 rfl (fun c5 => ?_) (fun c5 => ?_)
      · have hf := dk_t c5 hf
        refine lv_iconst (v := 0) hx hb dX2_send_47 rfl ?_
        exact L48 0 (v1 / 9) (v1 - v1 / 9 * 9) down right cushions _ _ _ hw (lv_sub hl [0, 2] rfl) hf
      · have hf := dk_f c5 hf
        refine lv_iload_n hx hb dX2_send_37 rfl (lv_at hl 2 rfl) ?_
        refine lv_bipush (v := 6) hx hb dX2_send_38 rfl ?_
        refine lv_icmp_ge (tgt := 47) hx hb dX2_send_40 rfl (fun c4 => ?_) (fun c4 => ?_)
        · have hf := dk_t c4 hf
          refine lv_iconst (v := 0) hx hb dX2_send_47 rfl ?_
          exact L48 0 (v1 / 9) (v1 - v1 / 9 * 9) down right cushions _ _ _ hw (lv_sub hl [0, 2] rfl) hf
        · have hf := dk_f c4 hf
          refine lv_iconst (v := 1) hx hb dX2_send_43 rfl ?_
          refine lv_goto (tgt := 48) hx hb dX2_send_44 rfl ?_
          exact L48 1 (v1 / 9) (v1 - v1 / 9 * 9) down right cushions _ _ _ hw (lv_sub hl [0, 2] rfl) hf
    · have hf := dk_f c6 hf
      refine lv_iconst (v := (-1)) hx hb dX2_send_28 rfl ?_
      refine lv_goto (tgt := 48) hx hb dX2_send_29 rfl ?_
      exact L48 (-1) (v1 / 9) (v1 - v1 / 9 * 9) down right cushions _ _ _ hw (lv_sub hl [0, 2] rfl) hf
set_option maxHeartbeats 4000000 in
set_option maxRecDepth 100000 in
theorem metX2_next  {res : Int32 × Int32 × Int32 × Int32} (hf : fX2_next row column down right cushions = some res) : CtI l yX2_next cX2_next 3 .int 1 D E sz [.ref a0] (WX2 a0 E row column down right cushions) (WX2 a0 E row column res.2.1 res.2.2.1 res.2.2.2) res.1 := by
  refine startI (own := RX2) (by decide) rfl (Nat.le_of_ble_eq_true rfl) ?_
  intro p e s m args below meth c A Q ls hC ret hl hw
  have hx := hC.1.1
  have hb := hC.1.2.1
  have hown := hC.1.2.2.2.1
  have hts := hC.1.2.2.2.2
  have hl : lv_has ls 3 [(0, .ref a0)] := hl
  have L105 : ∀ (k1 : Int32) (k2 : Int32) (down : Int32) (right : Int32) (cushions : Int32) (H : Heap) (locs : List Loc) (ls : Array Slot), Wo D A s.heap H locs (WX2 a0 E row column down right cushions) → lv_has ls 3 [(0, .ref a0)] → fX2_next_L105 row column  k1 k2 down right cushions = some res → W p l e (rmN 1) s m args below meth c H locs 0 0 Q (F0 m 105 ls [.int k2, .int k1, .ref a0]) := by
    intro  k1 k2 down right cushions H locs ls hw hl hf
    refine callSNI (rest := [.int k1, .ref a0]) 0 0 hC hw (st1 _) (metX0_asNumber rfl) mi_X0_asNumber (nq285 hC.2.1.2) (rm_ok (by decide) (by decide)) rfl hl.1 rfl (Nat.le_of_ble_eq_true rfl) dX2_next_105 ⟨Nat.zero_le _, Nat.zero_le _⟩ (st2 _) (fun H locs hw => ?_)
    refine lv_iadd hx hb dX2_next_108 ?_
    refine pX2_this_cushions hC hw dX2_next_109 (fun H locs hw => ?_)
    refine lv_bipush (v := 9) hx hb dX2_next_112 rfl ?_
    refine lv_aload_n hx hb dX2_next_114 rfl (lv_at hl 0 rfl) ?_
    refine gX2_this_row hC hw dX2_next_115 ?_
    refine lv_aload_n hx hb dX2_next_118 rfl (lv_at hl 0 rfl) ?_
    refine gX2_this_down hC hw dX2_next_119 ?_
    refine lv_iadd hx hb dX2_next_122 ?_
    refine lv_imul hx hb dX2_next_123 ?_
    refine lv_aload_n hx hb dX2_next_124 rfl (lv_at hl 0 rfl) ?_
    refine gX2_this_column hC hw dX2_next_125 ?_
    refine lv_iadd hx hb dX2_next_128 ?_
    refine lv_aload_n hx hb dX2_next_129 rfl (lv_at hl 0 rfl) ?_
    refine gX2_this_right hC hw dX2_next_130 ?_
    refine lv_iadd hx hb dX2_next_133 ?_
    obtain rfl := Option.some.inj hf
    exact ret _ _ _ _ _ dX2_next_134 rfl rfl hw
  have L84 : ∀ (v1 : Int32) (v2 : Int32) (k1 : Int32) (down : Int32) (right : Int32) (cushions : Int32) (H : Heap) (locs : List Loc) (ls : Array Slot), Wo D A s.heap H locs (WX2 a0 E row column down right cushions) → lv_has ls 3 [(0, .ref a0), (1, .int v1), (2, .int v2)] → fX2_next_L84 row column  v1 v2 k1 down right cushions = some res → W p l e (rmN 1) s m args below meth c H locs 0 0 Q (F0 m 84 ls [.int k1, .ref a0]) := by
    intro  v1 v2 k1 down right cushions H locs ls hw hl hf
    refine pX2_this_right hC hw dX2_next_84 (fun H locs hw => ?_)
    refine lv_aload_n hx hb dX2_next_87 rfl (lv_at hl 0 rfl) ?_
    refine lv_dup hx hb dX2_next_88 rfl ?_
    refine gX2_this_cushions hC hw dX2_next_89 ?_
    refine lv_iload_n hx hb dX2_next_92 rfl (lv_at hl 1 rfl) ?_
    refine lv_if_ne (tgt := 100) hx hb dX2_next_93 rfl (fun c2 => ?_) (fun c2 => ?_)
    · have hf := dk_f c2 hf
      refine lv_iconst (v := 1) hx hb dX2_next_100 rfl ?_
      refine lv_goto (tgt := 105) hx hb dX2_next_101 rfl ?_
      exact L105 cushions 1 down k1 cushions _ _ _ hw (lv_sub hl [0] rfl) hf
    · have hf := dk_t c2 hf
      refine lv_iload_n hx hb dX2_next_96 rfl (lv_at hl 2 rfl) ?_
      refine lv_if_eq (tgt := 104) hx hb dX2_next_97 rfl (fun c1 => ?_) (fun c1 => ?_)
      · have hf := dk_t c1 hf
        refine lv_iconst (v := 0) hx hb dX2_next_104 rfl ?_
        exact L105 cushions 0 down k1 cushions _ _ _ hw (lv_sub hl [0] rfl) hf
      · have hf := dk_f c1 hf
        refine lv_iconst (v := 1) hx hb dX2_next_100 rfl ?_
        refine lv_goto (tgt := 105) hx hb dX2_next_101 rfl ?_
        exact L105 cushions 1 down k1 cushions _ _ _ hw (lv_sub hl [0] rfl) hf
  have L64 : ∀ (v1 : Int32) (v2 : Int32) (k1 : Int32) (down : Int32) (right : Int32) (cushions : Int32) (H : Heap) (locs : List Loc) (ls : Array Slot), Wo D A s.heap H locs (WX2 a0 E row column down right cushions) → lv_has ls 3 [(0, .ref a0), (1, .int v1), (2, .int v2)] → fX2_next_L64 row column  v1 v2 k1 down right cushions = some res → W p l e (rmN 1) s m args below meth c H locs 0 0 Q (F0 m 64 ls [.int k1, .ref a0]) := by
    intro  v1 v2 k1 down right cushions H locs ls hw hl hf
    refine pX2_this_down hC hw dX2_next_64 (fun H locs hw => ?_)
    refine lv_aload_n hx hb dX2_next_67 rfl (lv_at hl 0 rfl) ?_
    refine lv_iload_n hx hb dX2_next_68 rfl (lv_at hl 2 rfl) ?_
    refine lv_if_eq (tgt := 80) hx hb dX2_next_69 rfl (fun c3 => ?_) (fun c3 => ?_)
    · have hf := dk_t c3 hf
      refine lv_aload_n hx hb dX2_next_80 rfl (lv_at hl 0 rfl) ?_
      refine gX2_this_right hC hw dX2_next_81 ?_
      exact L84 v1 v2 right k1 right cushions _ _ _ hw (lv_sub hl [0, 1, 2] rfl) hf
    · have hf := dk_f c3 hf
      refine lv_aload_n hx hb dX2_next_72 rfl (lv_at hl 0 rfl) ?_
      refine gX2_this_right hC hw dX2_next_73 ?_
      refine lv_ineg hx hb dX2_next_76 ?_
      refine lv_goto (tgt := 84) hx hb dX2_next_77 rfl ?_
      exact L84 v1 v2 (-right) k1 right cushions _ _ _ hw (lv_sub hl [0, 1, 2] rfl) hf
  have L46 : ∀ (v1 : Int32) (k0 : Int32) (down : Int32) (right : Int32) (cushions : Int32) (H : Heap) (locs : List Loc) (ls : Array Slot), Wo D A s.heap H locs (WX2 a0 E row column down right cushions) → lv_has ls 3 [(0, .ref a0), (1, .int v1)] → fX2_next_L46 row column  v1 k0 down right cushions = some res → W p l e (rmN 1) s m args below meth c H locs 0 0 Q (F0 m 46 ls [.int k0]) := by
    intro  v1 k0 down right cushions H locs ls hw hl hf
    refine lv_istore_n (lv' := [(2, .int k0), (0, .ref a0), (1, .int v1)]) hx hb dX2_next_46 rfl hl (by decide) rfl (fun ls hl => ?_)
    refine lv_aload_n hx hb dX2_next_47 rfl (lv_at hl 1 rfl) ?_
    refine lv_iload_n hx hb dX2_next_48 rfl (lv_at hl 2 rfl) ?_
    refine lv_if_eq (tgt := 60) hx hb dX2_next_49 rfl (fun c4 => ?_) (fun c4 => ?_)
    · have hf := dk_t c4 hf
      refine lv_aload_n hx hb dX2_next_60 rfl (lv_at hl 1 rfl) ?_
      refine gX2_this_down hC hw dX2_next_61 ?_
      exact L64 v1 k0 down down right cushions _ _ _ hw (lv_sub hl [1, 2, 0] rfl) hf
    · have hf := dk_f c4 hf
      refine lv_aload_n hx hb dX2_next_52 rfl (lv_at hl 1 rfl) ?_
      refine gX2_this_down hC hw dX2_next_53 ?_
      refine lv_ineg hx hb dX2_next_56 ?_
      refine lv_goto (tgt := 64) hx hb dX2_next_57 rfl ?_
      exact L64 v1 k0 (-down) down right cushions _ _ _ hw (lv_sub hl [1, 2, 0] rfl) hf
  have L22 : ∀ (k0 : Int32) (down : Int32) (right : Int32) (cushions : Int32) (H : Heap) (locs : List Loc) (ls : Array Slot), Wo D A s.heap H locs (WX2 a0 E row column down right cushions) → lv_has ls 3 [(0, .ref a0)] → fX2_next_L22 row column  k0 down right cushions = some res → W p l e (rmN 1) s m args below meth c H locs 0 0 Q (F0 m 22 ls [.int k0]) := by
    intro  k0 down right cushions H locs ls hw hl hf
    refine lv_istore_n (lv' := [(1, .int k0), (0, .ref a0)]) hx hb dX2_next_22 rfl hl (by decide) rfl (fun ls hl => ?_)
    refine lv_aload_n hx hb dX2_next_23 rfl (lv_at hl 1 rfl) ?_
    refine gX2_this_column hC hw dX2_next_24 ?_
    refine lv_aload_n hx hb dX2_next_27 rfl (lv_at hl 1 rfl) ?_
    refine gX2_this_right hC hw dX2_next_28 ?_
    refine lv_iadd hx hb dX2_next_31 ?_
    refine lv_iconst (v := 0) hx hb dX2_next_32 rfl ?_
    refine lv_bipush (v := 8) hx hb dX2_next_33 rfl ?_
    refine callSNI (rest := []) 0 0 hC hw (st1 _) (metX0_isIn rfl) mi_X0_isIn (nq284 hC.2.1.2) (rm_ok (by decide) (by decide)) rfl hl.1 rfl (Nat.le_of_ble_eq_true rfl) dX2_next_35 ⟨Nat.zero_le _, Nat.zero_le _⟩ (st2 _) (fun H locs hw => ?_)
    refine lv_if_ne (tgt := 45) hx hb dX2_next_38 rfl (fun c5 => ?_) (fun c5 => ?_)
    · have hf := dk_f c5 hf
      refine lv_iconst (v := 0) hx hb dX2_next_45 rfl ?_
      exact L46 k0 0 down right cushions _ _ _ hw (lv_sub hl [1, 0] rfl) hf
    · have hf := dk_t c5 hf
      refine lv_iconst (v := 1) hx hb dX2_next_41 rfl ?_
      refine lv_goto (tgt := 46) hx hb dX2_next_42 rfl ?_
      exact L46 k0 1 down right cushions _ _ _ hw (lv_sub hl [1, 0] rfl) hf
  refine lv_aload_n hx hb dX2_next_0 rfl (lv_at hl 0 rfl) ?_
  refine gX2_this_row hC hw dX2_next_1 ?_
  refine lv_aload_n hx hb dX2_next_4 rfl (lv_at hl 0 rfl) ?_
  refine gX2_this_down hC hw dX2_next_5 ?_
  refine lv_iadd hx hb dX2_next_8 ?_
  refine lv_iconst (v := 0) hx hb dX2_next_9 rfl ?_
  refine lv_iconst (v := 4) hx hb dX2_next_10 rfl ?_
  refine callSNI (rest := []) 0 0 hC hw (st1 _) (metX0_isIn rfl) mi_X0_isIn (nq284 hC.2.1.2) (rm_ok (by decide) (by decide)) rfl hl.1 rfl (Nat.le_of_ble_eq_true rfl) dX2_next_11 ⟨Nat.zero_le _, Nat.zero_le _⟩ (st2 _) (fun H locs hw => ?_)
  refine lv_if_ne (tgt := 21) hx hb dX2_next_14 rfl (fun c6 => ?_) (fun c6 => ?_)
  · have hf := dk_f c6 hf
    refine lv_iconst (v := 0) hx hb dX2_next_21 rfl ?_
    exact L22 0 down right cushions _ _ _ hw (lv_sub hl [0] rfl) hf
  · have hf := dk_t c6 hf
    refine lv_iconst (v := 1) hx hb dX2_next_17 rfl ?_
    refine lv_goto (tgt := 22) hx hb dX2_next_18 rfl ?_
    exact L22 1 down right cushions _ _ _ hw (lv_sub hl [0] rfl) hf
set_option maxHeartbeats 4000000 in
set_option maxRecDepth 100000 in
theorem metX2_goFrom {v1 : Int32} {res : Int32 × Int32} (hf : fX2_goFrom v1 row column = some res) : CtV l yX2_goFrom cX2_goFrom 2 0 D E sz [.ref a0, .int v1] (WX2 a0 E row column down right cushions) (WX2 a0 E res.1 res.2 down right cushions) := by
  refine startV (own := RX2) (by decide) rfl (Nat.le_of_ble_eq_true rfl) ?_
  intro p e s m args below meth c A Q ls hC ret hl hw
  have hx := hC.1.1
  have hb := hC.1.2.1
  have hown := hC.1.2.2.2.1
  have hts := hC.1.2.2.2.2
  have hl : lv_has ls 2 [(0, .ref a0), (1, .int v1)] := hl
  refine lv_aload_n hx hb dX2_goFrom_0 rfl (lv_at hl 0 rfl) ?_
  refine lv_iload_n hx hb dX2_goFrom_1 rfl (lv_at hl 1 rfl) ?_
  refine lv_bipush (v := 9) hx hb dX2_goFrom_2 rfl ?_
  refine lv_idiv hx hb dX2_goFrom_4 (by decide) ?_
  refine pX2_this_row hC hw dX2_goFrom_5 (fun H locs hw => ?_)
  refine lv_aload_n hx hb dX2_goFrom_8 rfl (lv_at hl 0 rfl) ?_
  refine lv_iload_n hx hb dX2_goFrom_9 rfl (lv_at hl 1 rfl) ?_
  refine lv_bipush (v := 9) hx hb dX2_goFrom_10 rfl ?_
  refine lv_irem hx hb dX2_goFrom_12 (by decide) ?_
  refine pX2_this_column hC hw dX2_goFrom_13 (fun H locs hw => ?_)
  obtain rfl := Option.some.inj hf
  exact ret _ _ _ _ dX2_goFrom_16 hw
set_option maxHeartbeats 4000000 in
set_option maxRecDepth 100000 in
theorem metX2_go  {res : Int32 × Int32} (hf : fX2_go row column down right = some res) : CtV l yX2_go cX2_go 1 0 D E sz [.ref a0] (WX2 a0 E row column down right cushions) (WX2 a0 E res.1 res.2 down right cushions) := by
  refine startV (own := RX2) (by decide) rfl (Nat.le_of_ble_eq_true rfl) ?_
  intro p e s m args below meth c A Q ls hC ret hl hw
  have hx := hC.1.1
  have hb := hC.1.2.1
  have hown := hC.1.2.2.2.1
  have hts := hC.1.2.2.2.2
  have hl : lv_has ls 1 [(0, .ref a0)] := hl
  refine lv_aload_n hx hb dX2_go_0 rfl (lv_at hl 0 rfl) ?_
  refine lv_dup hx hb dX2_go_1 rfl ?_
  refine gX2_this_row hC hw dX2_go_2 ?_
  refine lv_aload_n hx hb dX2_go_5 rfl (lv_at hl 0 rfl) ?_
  refine gX2_this_down hC hw dX2_go_6 ?_
  refine lv_iadd hx hb dX2_go_9 ?_
  refine pX2_this_row hC hw dX2_go_10 (fun H locs hw => ?_)
  refine lv_aload_n hx hb dX2_go_13 rfl (lv_at hl 0 rfl) ?_
  refine lv_dup hx hb dX2_go_14 rfl ?_
  refine gX2_this_column hC hw dX2_go_15 ?_
  refine lv_aload_n hx hb dX2_go_18 rfl (lv_at hl 0 rfl) ?_
  refine gX2_this_right hC hw dX2_go_19 ?_
  refine lv_iadd hx hb dX2_go_22 ?_
  refine pX2_this_column hC hw dX2_go_23 (fun H locs hw => ?_)
  obtain rfl := Option.some.inj hf
  exact ret _ _ _ _ dX2_go_26 hw
set_option maxHeartbeats 4000000 in
set_option maxRecDepth 100000 in
theorem metX2_cell  {res : Int32} (hf : fX2_cell row column = some res) : CtI l yX2_cell cX2_cell 1 .int 0 D E sz [.ref a0] (WX2 a0 E row column down right cushions) (WX2 a0 E row column down right cushions) res := by
  refine startI (own := RX2) (by decide) rfl (Nat.le_of_ble_eq_true rfl) ?_
  intro p e s m args below meth c A Q ls hC ret hl hw
  have hx := hC.1.1
  have hb := hC.1.2.1
  have hown := hC.1.2.2.2.1
  have hts := hC.1.2.2.2.2
  have hl : lv_has ls 1 [(0, .ref a0)] := hl
  refine lv_bipush (v := 9) hx hb dX2_cell_0 rfl ?_
  refine lv_aload_n hx hb dX2_cell_2 rfl (lv_at hl 0 rfl) ?_
  refine gX2_this_row hC hw dX2_cell_3 ?_
  refine lv_imul hx hb dX2_cell_6 ?_
  refine lv_aload_n hx hb dX2_cell_7 rfl (lv_at hl 0 rfl) ?_
  refine gX2_this_column hC hw dX2_cell_8 ?_
  refine lv_iadd hx hb dX2_cell_11 ?_
  exact ret _ _ _ _ _ dX2_cell_12 rfl (Option.some.inj hf) hw
set_option maxHeartbeats 4000000 in
set_option maxRecDepth 100000 in
theorem metX2_way  {res : Int32} (hf : fX2_way down right = some res) : CtI l yX2_way cX2_way 1 .int 0 D E sz [.ref a0] (WX2 a0 E row column down right cushions) (WX2 a0 E row column down right cushions) res := by
  refine startI (own := RX2) (by decide) rfl (Nat.le_of_ble_eq_true rfl) ?_
  intro p e s m args below meth c A Q ls hC ret hl hw
  have hx := hC.1.1
  have hb := hC.1.2.1
  have hown := hC.1.2.2.2.1
  have hts := hC.1.2.2.2.2
  have hl : lv_has ls 1 [(0, .ref a0)] := hl
  refine lv_aload_n hx hb dX2_way_0 rfl (lv_at hl 0 rfl) ?_
  refine gX2_this_down hC hw dX2_way_1 ?_
  refine lv_if_ge (tgt := 26) hx hb dX2_way_4 rfl (fun c6 => ?_) (fun c6 => ?_)
  · have hf := dk_t c6 hf
    refine lv_aload_n hx hb dX2_way_26 rfl (lv_at hl 0 rfl) ?_
    refine gX2_this_down hC hw dX2_way_27 ?_
    refine lv_if_ne (tgt := 49) hx hb dX2_way_30 rfl (fun c4 => ?_) (fun c4 => ?_)
    · have hf := dk_f c4 hf
      refine lv_aload_n hx hb dX2_way_49 rfl (lv_at hl 0 rfl) ?_
      refine gX2_this_right hC hw dX2_way_50 ?_
      refine lv_if_le (tgt := 60) hx hb dX2_way_53 rfl (fun c2 => ?_) (fun c2 => ?_)
      · have hf := dk_t c2 hf
        refine lv_aload_n hx hb dX2_way_60 rfl (lv_at hl 0 rfl) ?_
        refine gX2_this_right hC hw dX2_way_61 ?_
        refine lv_if_ne (tgt := 71) hx hb dX2_way_64 rfl (fun c1 => ?_) (fun c1 => ?_)
        · have hf := dk_f c1 hf
          refine lv_iconst (v := 5) hx hb dX2_way_71 rfl ?_
          exact ret _ _ _ _ _ dX2_way_72 rfl (Option.some.inj hf) hw
        · have hf := dk_t c1 hf
          refine lv_iconst (v := 4) hx hb dX2_way_67 rfl ?_
          refine lv_goto (tgt := 72) hx hb dX2_way_68 rfl ?_
          exact ret _ _ _ _ _ dX2_way_72 rfl (Option.some.inj hf) hw
      · have hf := dk_f c2 hf
        refine lv_iconst (v := 3) hx hb dX2_way_56 rfl ?_
        refine lv_goto (tgt := 72) hx hb dX2_way_57 rfl ?_
        exact ret _ _ _ _ _ dX2_way_72 rfl (Option.some.inj hf) hw
    · have hf := dk_t c4 hf
      refine lv_aload_n hx hb dX2_way_33 rfl (lv_at hl 0 rfl) ?_
      refine gX2_this_right hC hw dX2_way_34 ?_
      refine lv_if_le (tgt := 44) hx hb dX2_way_37 rfl (fun c3 => ?_) (fun c3 => ?_)
      · have hf := dk_t c3 hf
        refine lv_bipush (v := 6) hx hb dX2_way_44 rfl ?_
        refine lv_goto (tgt := 72) hx hb dX2_way_46 rfl ?_
        exact ret _ _ _ _ _ dX2_way_72 rfl (Option.some.inj hf) hw
      · have hf := dk_f c3 hf
        refine lv_iconst (v := 2) hx hb dX2_way_40 rfl ?_
        refine lv_goto (tgt := 72) hx hb dX2_way_41 rfl ?_
        exact ret _ _ _ _ _ dX2_way_72 rfl (Option.some.inj hf) hw
  · have hf := dk_f c6 hf
    refine lv_aload_n hx hb dX2_way_7 rfl (lv_at hl 0 rfl) ?_
    refine gX2_this_right hC hw dX2_way_8 ?_
    refine lv_if_ge (tgt := 19) hx hb dX2_way_11 rfl (fun c5 => ?_) (fun c5 => ?_)
    · have hf := dk_t c5 hf
      refine lv_aload_n hx hb dX2_way_19 rfl (lv_at hl 0 rfl) ?_
      refine gX2_this_right hC hw dX2_way_20 ?_
      refine lv_goto (tgt := 72) hx hb dX2_way_23 rfl ?_
      exact ret _ _ _ _ _ dX2_way_72 rfl (Option.some.inj hf) hw
    · have hf := dk_f c5 hf
      refine lv_bipush (v := 7) hx hb dX2_way_14 rfl ?_
      refine lv_goto (tgt := 72) hx hb dX2_way_16 rfl ?_
      exact ret _ _ _ _ _ dX2_way_72 rfl (Option.some.inj hf) hw
end METX2
