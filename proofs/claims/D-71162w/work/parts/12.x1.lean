set_option maxRecDepth 100000
theorem mi_X1_ballOn : MiV RX1 yX1_ballOn cX1_ballOn 3 (some .int) 1 := ⟨q213, q214, q44, q215, by decide +kernel, by decide⟩
theorem mi_X0_spotOf : MiS yX0_spotOf cX0_spotOf 1 (some .int) 1 := ⟨q90, q43, q91, by decide +kernel, by decide⟩
theorem mi_X2_send : MiV RX2 yX2_send cX2_send 3 none 2 := ⟨q277, q278, q45, q279, by decide +kernel, by decide⟩
theorem mi_X2_next : MiV RX2 yX2_next cX2_next 3 (some .int) 0 := ⟨q281, q282, q45, q283, by decide +kernel, by decide⟩
theorem mi_X2_go : MiV RX2 yX2_go cX2_go 1 none 0 := ⟨q294, q295, q45, q296, by decide +kernel, by decide⟩
theorem mi_X2_goFrom : MiV RX2 yX2_goFrom cX2_goFrom 2 none 1 := ⟨q290, q291, q45, q292, by decide +kernel, by decide⟩
section ROWSX1
variable {p : Program} {l : Launch} {e : Env} {R : Room} {s : State} {m : MethodId} {args : Array Value} {below : List Frame} {meth : Method} {c : Code} {H : Heap} {locs : List Loc} {cel slo : Nat} {Q : State → Prop} {pc : Nat} {ls : Array Slot} {rest : List Value} {D : va_G} {E : Nat → ClassId} {A : Nat → Prop} {cc : ByteArray} {nL : Nat}
variable {a0 : Nat} {a1 : Nat} {a2 : Nat} {a3 : Nat} {a4 : Nat}
variable {cells seenStep seenCell : Nat → Int32}
variable {points fouls evening sights isKept touches cushions p_row p_column p_down p_right p_cushions : Int32}
theorem gX1_this_cells (hC : Cx p m c cc nL s args RX1 D E A) (hw : Wo D A s.heap H locs (WX1 a0 a1 a2 a3 a4 E cells points fouls evening sights seenStep seenCell isKept touches cushions p_row p_column p_down p_right p_cushions)) (hdg : decode cc pc = .ok (.getfield 9, 3)) (kk : W p l e R s m args below meth c H locs cel slo Q (F0 m (pc + 3) ls (.ref a1 :: rest))) : W p l e R s m args below meth c H locs cel slo Q (F0 m pc ls (.ref a0 :: rest)) :=
  va_get (D := D) (ci := 1) (C := RX1) (T := TX1) (N := 11) hC.1.1 hC.1.2.1 hC.1.2.2.2.2 in_X1 hC.1.2.2.2.1 hC.2.1.1 hw.1 0 rfl rfl 0 (by decide) (hC.1.2.2.2.2 _ q92) (fun _ h9 => h9) rfl hdg kk
theorem aX1_cells {own : String} {i : Int32} (hC : Cx p m c cc nL s args own D E A) (hw : Wo D A s.heap H locs (WX1 a0 a1 a2 a3 a4 E cells points fouls evening sights seenStep seenCell isKept touches cushions p_row p_column p_down p_right p_cushions)) (hi : bIn i 3) (hdg : decode cc pc = .ok (.iaload, 1)) (kk : W p l e R s m args below meth c H locs cel slo Q (F0 m (pc + 1) ls (.int (cells i.toNatClampNeg) :: rest))) : W p l e R s m args below meth c H locs cel slo Q (F0 m pc ls (.int i :: .ref a1 :: rest)) :=
  va_iald hC.1.1 hC.1.2.1 hC.2.1.1 hw.1 1 0 rfl rfl (bIn_in hi) hdg kk
theorem sX1_cells {own : String} {i : Int32} {x : Int32} (hC : Cx p m c cc nL s args own D E A) (hw : Wo D A s.heap H locs (WX1 a0 a1 a2 a3 a4 E cells points fouls evening sights seenStep seenCell isKept touches cushions p_row p_column p_down p_right p_cushions)) (hi : bIn i 3) (hdg : decode cc pc = .ok (.iastore, 1)) (kk : ∀ (H1 : Heap) (locs1 : List Loc), Wo D A s.heap H1 locs1 (WX1 a0 a1 a2 a3 a4 E (upd cells i.toNatClampNeg x) points fouls evening sights seenStep seenCell isKept touches cushions p_row p_column p_down p_right p_cushions) → W p l e R s m args below meth c H1 locs1 cel slo Q (F0 m (pc + 1) ls rest)) : W p l e R s m args below meth c H locs cel slo Q (F0 m pc ls (.int x :: .int i :: .ref a1 :: rest)) :=
  va_iast hC.1.1 hC.1.2.1 hC.2.1.1 hw.1 hw.2.1 hw.2.2 1 0 rfl rfl (bIn_in hi) hdg (fun H1 l1 a b c => kk H1 l1 ⟨a, b, c⟩)
theorem gX1_this_path (hC : Cx p m c cc nL s args RX1 D E A) (hw : Wo D A s.heap H locs (WX1 a0 a1 a2 a3 a4 E cells points fouls evening sights seenStep seenCell isKept touches cushions p_row p_column p_down p_right p_cushions)) (hdg : decode cc pc = .ok (.getfield 24, 3)) (kk : W p l e R s m args below meth c H locs cel slo Q (F0 m (pc + 3) ls (.ref a4 :: rest))) : W p l e R s m args below meth c H locs cel slo Q (F0 m pc ls (.ref a0 :: rest)) :=
  va_get (D := D) (ci := 1) (C := RX1) (T := TX1) (N := 11) hC.1.1 hC.1.2.1 hC.1.2.2.2.2 in_X1 hC.1.2.2.2.1 hC.2.1.1 hw.1 0 rfl rfl 10 (by decide) (hC.1.2.2.2.2 _ q111) (fun _ h9 => h9) rfl hdg kk
theorem subX1_p : (((WX1 a0 a1 a2 a3 a4 E cells points fouls evening sights seenStep seenCell isKept touches cushions p_row p_column p_down p_right p_cushions)).drop 4).take 1 = (WX2 a4 E p_row p_column p_down p_right p_cushions) := rfl
theorem putX1_p {z_row : Int32} {z_column : Int32} {z_down : Int32} {z_right : Int32} {z_cushions : Int32} : ((WX1 a0 a1 a2 a3 a4 E cells points fouls evening sights seenStep seenCell isKept touches cushions p_row p_column p_down p_right p_cushions)).take 4 ++ ((WX2 a4 E z_row z_column z_down z_right z_cushions) ++ ((WX1 a0 a1 a2 a3 a4 E cells points fouls evening sights seenStep seenCell isKept touches cushions p_row p_column p_down p_right p_cushions)).drop (4 + 1)) = (WX1 a0 a1 a2 a3 a4 E cells points fouls evening sights seenStep seenCell isKept touches cushions z_row z_column z_down z_right z_cushions) := rfl
theorem gX1_this_points (hC : Cx p m c cc nL s args RX1 D E A) (hw : Wo D A s.heap H locs (WX1 a0 a1 a2 a3 a4 E cells points fouls evening sights seenStep seenCell isKept touches cushions p_row p_column p_down p_right p_cushions)) (hdg : decode cc pc = .ok (.getfield 38, 3)) (kk : W p l e R s m args below meth c H locs cel slo Q (F0 m (pc + 3) ls (.int points :: rest))) : W p l e R s m args below meth c H locs cel slo Q (F0 m pc ls (.ref a0 :: rest)) :=
  va_get (D := D) (ci := 1) (C := RX1) (T := TX1) (N := 11) hC.1.1 hC.1.2.1 hC.1.2.2.2.2 in_X1 hC.1.2.2.2.1 hC.2.1.1 hw.1 0 rfl rfl 1 (by decide) (hC.1.2.2.2.2 _ q94) (fun _ h9 => h9) rfl hdg kk
theorem pX1_this_points {v : Int32} (hC : Cx p m c cc nL s args RX1 D E A) (hw : Wo D A s.heap H locs (WX1 a0 a1 a2 a3 a4 E cells points fouls evening sights seenStep seenCell isKept touches cushions p_row p_column p_down p_right p_cushions)) (hdg : decode cc pc = .ok (.putfield 38, 3)) (kk : ∀ (H1 : Heap) (locs1 : List Loc), Wo D A s.heap H1 locs1 (WX1 a0 a1 a2 a3 a4 E cells v fouls evening sights seenStep seenCell isKept touches cushions p_row p_column p_down p_right p_cushions) → W p l e R s m args below meth c H1 locs1 cel slo Q (F0 m (pc + 3) ls rest)) : W p l e R s m args below meth c H locs cel slo Q (F0 m pc ls (.int v :: .ref a0 :: rest)) :=
  va_put (D := D) (ci := 1) (v := .int v) (ty := .int) (C := RX1) (T := TX1) (N := 11) hC.1.1 hC.1.2.1 hC.1.2.2.2.2 in_X1 tyX1 tyX1_ok nmX1 hC.1.2.2.2.1 hC.2.1.1 hw.1 hw.2.1 hw.2.2 0 rfl rfl 1 (by decide) (hC.1.2.2.2.2 _ q94) (fun _ h9 => h9) rfl (by decide +kernel) rfl rfl (Nat.le_of_ble_eq_true rfl) hdg (fun H1 l1 a b c => kk H1 l1 ⟨a, b, c⟩)
theorem gX1_this_fouls (hC : Cx p m c cc nL s args RX1 D E A) (hw : Wo D A s.heap H locs (WX1 a0 a1 a2 a3 a4 E cells points fouls evening sights seenStep seenCell isKept touches cushions p_row p_column p_down p_right p_cushions)) (hdg : decode cc pc = .ok (.getfield 42, 3)) (kk : W p l e R s m args below meth c H locs cel slo Q (F0 m (pc + 3) ls (.int fouls :: rest))) : W p l e R s m args below meth c H locs cel slo Q (F0 m pc ls (.ref a0 :: rest)) :=
  va_get (D := D) (ci := 1) (C := RX1) (T := TX1) (N := 11) hC.1.1 hC.1.2.1 hC.1.2.2.2.2 in_X1 hC.1.2.2.2.1 hC.2.1.1 hw.1 0 rfl rfl 2 (by decide) (hC.1.2.2.2.2 _ q96) (fun _ h9 => h9) rfl hdg kk
theorem pX1_this_fouls {v : Int32} (hC : Cx p m c cc nL s args RX1 D E A) (hw : Wo D A s.heap H locs (WX1 a0 a1 a2 a3 a4 E cells points fouls evening sights seenStep seenCell isKept touches cushions p_row p_column p_down p_right p_cushions)) (hdg : decode cc pc = .ok (.putfield 42, 3)) (kk : ∀ (H1 : Heap) (locs1 : List Loc), Wo D A s.heap H1 locs1 (WX1 a0 a1 a2 a3 a4 E cells points v evening sights seenStep seenCell isKept touches cushions p_row p_column p_down p_right p_cushions) → W p l e R s m args below meth c H1 locs1 cel slo Q (F0 m (pc + 3) ls rest)) : W p l e R s m args below meth c H locs cel slo Q (F0 m pc ls (.int v :: .ref a0 :: rest)) :=
  va_put (D := D) (ci := 1) (v := .int v) (ty := .int) (C := RX1) (T := TX1) (N := 11) hC.1.1 hC.1.2.1 hC.1.2.2.2.2 in_X1 tyX1 tyX1_ok nmX1 hC.1.2.2.2.1 hC.2.1.1 hw.1 hw.2.1 hw.2.2 0 rfl rfl 2 (by decide) (hC.1.2.2.2.2 _ q96) (fun _ h9 => h9) rfl (by decide +kernel) rfl rfl (Nat.le_of_ble_eq_true rfl) hdg (fun H1 l1 a b c => kk H1 l1 ⟨a, b, c⟩)
theorem gX1_this_touches (hC : Cx p m c cc nL s args RX1 D E A) (hw : Wo D A s.heap H locs (WX1 a0 a1 a2 a3 a4 E cells points fouls evening sights seenStep seenCell isKept touches cushions p_row p_column p_down p_right p_cushions)) (hdg : decode cc pc = .ok (.getfield 51, 3)) (kk : W p l e R s m args below meth c H locs cel slo Q (F0 m (pc + 3) ls (.int touches :: rest))) : W p l e R s m args below meth c H locs cel slo Q (F0 m pc ls (.ref a0 :: rest)) :=
  va_get (D := D) (ci := 1) (C := RX1) (T := TX1) (N := 11) hC.1.1 hC.1.2.1 hC.1.2.2.2.2 in_X1 hC.1.2.2.2.1 hC.2.1.1 hw.1 0 rfl rfl 8 (by decide) (hC.1.2.2.2.2 _ q107) (fun _ h9 => h9) rfl hdg kk
theorem pX1_this_touches {v : Int32} (hC : Cx p m c cc nL s args RX1 D E A) (hw : Wo D A s.heap H locs (WX1 a0 a1 a2 a3 a4 E cells points fouls evening sights seenStep seenCell isKept touches cushions p_row p_column p_down p_right p_cushions)) (hdg : decode cc pc = .ok (.putfield 51, 3)) (kk : ∀ (H1 : Heap) (locs1 : List Loc), Wo D A s.heap H1 locs1 (WX1 a0 a1 a2 a3 a4 E cells points fouls evening sights seenStep seenCell isKept v cushions p_row p_column p_down p_right p_cushions) → W p l e R s m args below meth c H1 locs1 cel slo Q (F0 m (pc + 3) ls rest)) : W p l e R s m args below meth c H locs cel slo Q (F0 m pc ls (.int v :: .ref a0 :: rest)) :=
  va_put (D := D) (ci := 1) (v := .int v) (ty := .int) (C := RX1) (T := TX1) (N := 11) hC.1.1 hC.1.2.1 hC.1.2.2.2.2 in_X1 tyX1 tyX1_ok nmX1 hC.1.2.2.2.1 hC.2.1.1 hw.1 hw.2.1 hw.2.2 0 rfl rfl 8 (by decide) (hC.1.2.2.2.2 _ q107) (fun _ h9 => h9) rfl (by decide +kernel) rfl rfl (Nat.le_of_ble_eq_true rfl) hdg (fun H1 l1 a b c => kk H1 l1 ⟨a, b, c⟩)
theorem gX1_this_cushions (hC : Cx p m c cc nL s args RX1 D E A) (hw : Wo D A s.heap H locs (WX1 a0 a1 a2 a3 a4 E cells points fouls evening sights seenStep seenCell isKept touches cushions p_row p_column p_down p_right p_cushions)) (hdg : decode cc pc = .ok (.getfield 54, 3)) (kk : W p l e R s m args below meth c H locs cel slo Q (F0 m (pc + 3) ls (.int cushions :: rest))) : W p l e R s m args below meth c H locs cel slo Q (F0 m pc ls (.ref a0 :: rest)) :=
  va_get (D := D) (ci := 1) (C := RX1) (T := TX1) (N := 11) hC.1.1 hC.1.2.1 hC.1.2.2.2.2 in_X1 hC.1.2.2.2.1 hC.2.1.1 hw.1 0 rfl rfl 9 (by decide) (hC.1.2.2.2.2 _ q109) (fun _ h9 => h9) rfl hdg kk
theorem gX1_p_cushions (hC : Cx p m c cc nL s args RX1 D E A) (hw : Wo D A s.heap H locs (WX1 a0 a1 a2 a3 a4 E cells points fouls evening sights seenStep seenCell isKept touches cushions p_row p_column p_down p_right p_cushions)) (hdg : decode cc pc = .ok (.getfield 72, 3)) (kk : W p l e R s m args below meth c H locs cel slo Q (F0 m (pc + 3) ls (.int p_cushions :: rest))) : W p l e R s m args below meth c H locs cel slo Q (F0 m pc ls (.ref a4 :: rest)) :=
  va_getN (D := D) (ci := 2) (C := RX2) (T := TX2) (N := 5) hC.1.1 hC.1.2.1 hC.1.2.2.2.2 in_X2 hC.1.2.2.2.1 hC.2.1.1 hw.1 4 rfl rfl 4 (by decide) (va_Nw.use rfl (nq75 hC.2.1.2)) (fun _ h9 => h9) rfl hdg kk
theorem pX1_this_cushions {v : Int32} (hC : Cx p m c cc nL s args RX1 D E A) (hw : Wo D A s.heap H locs (WX1 a0 a1 a2 a3 a4 E cells points fouls evening sights seenStep seenCell isKept touches cushions p_row p_column p_down p_right p_cushions)) (hdg : decode cc pc = .ok (.putfield 54, 3)) (kk : ∀ (H1 : Heap) (locs1 : List Loc), Wo D A s.heap H1 locs1 (WX1 a0 a1 a2 a3 a4 E cells points fouls evening sights seenStep seenCell isKept touches v p_row p_column p_down p_right p_cushions) → W p l e R s m args below meth c H1 locs1 cel slo Q (F0 m (pc + 3) ls rest)) : W p l e R s m args below meth c H locs cel slo Q (F0 m pc ls (.int v :: .ref a0 :: rest)) :=
  va_put (D := D) (ci := 1) (v := .int v) (ty := .int) (C := RX1) (T := TX1) (N := 11) hC.1.1 hC.1.2.1 hC.1.2.2.2.2 in_X1 tyX1 tyX1_ok nmX1 hC.1.2.2.2.1 hC.2.1.1 hw.1 hw.2.1 hw.2.2 0 rfl rfl 9 (by decide) (hC.1.2.2.2.2 _ q109) (fun _ h9 => h9) rfl (by decide +kernel) rfl rfl (Nat.le_of_ble_eq_true rfl) hdg (fun H1 l1 a b c => kk H1 l1 ⟨a, b, c⟩)
theorem gX1_this_evening (hC : Cx p m c cc nL s args RX1 D E A) (hw : Wo D A s.heap H locs (WX1 a0 a1 a2 a3 a4 E cells points fouls evening sights seenStep seenCell isKept touches cushions p_row p_column p_down p_right p_cushions)) (hdg : decode cc pc = .ok (.getfield 45, 3)) (kk : W p l e R s m args below meth c H locs cel slo Q (F0 m (pc + 3) ls (.int evening :: rest))) : W p l e R s m args below meth c H locs cel slo Q (F0 m pc ls (.ref a0 :: rest)) :=
  va_get (D := D) (ci := 1) (C := RX1) (T := TX1) (N := 11) hC.1.1 hC.1.2.1 hC.1.2.2.2.2 in_X1 hC.1.2.2.2.1 hC.2.1.1 hw.1 0 rfl rfl 3 (by decide) (hC.1.2.2.2.2 _ q98) (fun _ h9 => h9) rfl hdg kk
theorem pX1_this_evening {v : Int32} (hC : Cx p m c cc nL s args RX1 D E A) (hw : Wo D A s.heap H locs (WX1 a0 a1 a2 a3 a4 E cells points fouls evening sights seenStep seenCell isKept touches cushions p_row p_column p_down p_right p_cushions)) (hdg : decode cc pc = .ok (.putfield 45, 3)) (kk : ∀ (H1 : Heap) (locs1 : List Loc), Wo D A s.heap H1 locs1 (WX1 a0 a1 a2 a3 a4 E cells points fouls v sights seenStep seenCell isKept touches cushions p_row p_column p_down p_right p_cushions) → W p l e R s m args below meth c H1 locs1 cel slo Q (F0 m (pc + 3) ls rest)) : W p l e R s m args below meth c H locs cel slo Q (F0 m pc ls (.int v :: .ref a0 :: rest)) :=
  va_put (D := D) (ci := 1) (v := .int v) (ty := .int) (C := RX1) (T := TX1) (N := 11) hC.1.1 hC.1.2.1 hC.1.2.2.2.2 in_X1 tyX1 tyX1_ok nmX1 hC.1.2.2.2.1 hC.2.1.1 hw.1 hw.2.1 hw.2.2 0 rfl rfl 3 (by decide) (hC.1.2.2.2.2 _ q98) (fun _ h9 => h9) rfl (by decide +kernel) rfl rfl (Nat.le_of_ble_eq_true rfl) hdg (fun H1 l1 a b c => kk H1 l1 ⟨a, b, c⟩)
theorem nX1_cells {own : String} (hC : Cx p m c cc nL s args own D E A) (hw : Wo D A s.heap H locs (WX1 a0 a1 a2 a3 a4 E cells points fouls evening sights seenStep seenCell isKept touches cushions p_row p_column p_down p_right p_cushions)) (hdg : decode cc pc = .ok (.arraylength, 1)) (kk : W p l e R s m args below meth c H locs cel slo Q (F0 m (pc + 1) ls (.int 3 :: rest))) : W p l e R s m args below meth c H locs cel slo Q (F0 m pc ls (.ref a1 :: rest)) :=
  va_alen (v := 3) hC.1.1 hC.1.2.1 hC.2.1.1 hw.1 1 0 rfl rfl rfl hdg kk
end ROWSX1
section METX1
variable {l : Launch} {D : va_G} {E : Nat → ClassId} {sz : Nat}
variable {a0 : Nat} {a1 : Nat} {a2 : Nat} {a3 : Nat} {a4 : Nat}
variable {cells seenStep seenCell : Nat → Int32}
variable {points fouls evening sights isKept touches cushions p_row p_column p_down p_right p_cushions : Int32}
def fX1_ballOn_L2 (v1 : Int32) (cells : Nat → Int32)  : Nat → Int32 → Option (Int32)
  | 0, _ => none
  | n + 1, v2 => (if (3 : Int32) ≤ v2 then (some (-6)) else (if bIn v2 3 then (if (cells v2.toNatClampNeg) = v1 then (some v2) else (fX1_ballOn_L2 v1 cells n (v2 + 1))) else none))
def fX1_ballOn (v1 : Int32) (cells : Nat → Int32) : Option (Int32) := (fX1_ballOn_L2 v1 cells FU 0)
def fX1_bringUp (v1 : Int32) (cells : Nat → Int32) : Option (Int32 × (Nat → Int32)) := (if bIn v1 3 then (if (cells v1.toNatClampNeg) < 0 then (Option.bind (fX1_ballOn (fX0_spotOf v1) cells) fun z2 => (if z2 < 0 then (if bIn v1 3 then (some (0, (upd cells v1.toNatClampNeg (fX0_spotOf v1)))) else none) else (some (2, cells)))) else (some (1, cells))) else none)
def fX1_stroke_L232 (v1 : Int32) (v2 : Int32) (v3 : Int32)   (v5 : Int32) (k1 : Int32) (k2 : Int32) (cells : Nat → Int32) (points : Int32) (fouls : Int32) (touches : Int32) (cushions : Int32) (p_row : Int32) (p_column : Int32) (p_down : Int32) (p_right : Int32) (p_cushions : Int32) : Option (Int32 × (Nat → Int32) × Int32 × Int32 × Int32 × Int32 × Int32 × Int32 × Int32 × Int32 × Int32) := (some (0, cells, points, (k1 + (fX0_asNumber k2)), (touches + v5), (cushions + p_cushions), p_row, p_column, p_down, p_right, p_cushions))
def fX1_stroke_L209 (v1 : Int32) (v2 : Int32) (v3 : Int32)   (v5 : Int32) (k1 : Int32) (k2 : Int32) (cells : Nat → Int32) (points : Int32) (fouls : Int32) (touches : Int32) (cushions : Int32) (p_row : Int32) (p_column : Int32) (p_down : Int32) (p_right : Int32) (p_cushions : Int32) : Option (Int32 × (Nat → Int32) × Int32 × Int32 × Int32 × Int32 × Int32 × Int32 × Int32 × Int32 × Int32) := (if bIn v1 3 then (if (0 : Int32) ≤ (cells v1.toNatClampNeg) then (fX1_stroke_L232 v1 v2 v3 v5 fouls 0 cells (k1 + k2) fouls touches cushions p_row p_column p_down p_right p_cushions) else (fX1_stroke_L232 v1 v2 v3 v5 fouls 1 cells (k1 + k2) fouls touches cushions p_row p_column p_down p_right p_cushions)) else none)
def fX1_stroke_L179 (v1 : Int32) (v2 : Int32) (v3 : Int32)   (v4 : Int32) (v5 : Int32) (k1 : Int32) (k2 : Int32) (cells : Nat → Int32) (points : Int32) (fouls : Int32) (touches : Int32) (cushions : Int32) (p_row : Int32) (p_column : Int32) (p_down : Int32) (p_right : Int32) (p_cushions : Int32) : Option (Int32 × (Nat → Int32) × Int32 × Int32 × Int32 × Int32 × Int32 × Int32 × Int32 × Int32 × Int32) := (if bIn v4 3 then (if (0 : Int32) ≤ (cells v4.toNatClampNeg) then (fX1_stroke_L209 v1 v2 v3 v5 (k1 + k2) 0 cells (k1 + k2) fouls touches cushions p_row p_column p_down p_right p_cushions) else (if v4 = v1 then (fX1_stroke_L209 v1 v2 v3 v5 (k1 + k2) 0 cells (k1 + k2) fouls touches cushions p_row p_column p_down p_right p_cushions) else (fX1_stroke_L209 v1 v2 v3 v5 (k1 + k2) 3 cells (k1 + k2) fouls touches cushions p_row p_column p_down p_right p_cushions))) else none)
def fX1_stroke_L140 (v1 : Int32) (v2 : Int32) (v3 : Int32)  (k34c : Int32 → Int32 → Int32 → (Nat → Int32) → Int32 → Int32 → Int32 → Int32 → Int32 → Int32 → Int32 → Int32 → Int32 → Option (Int32 × (Nat → Int32) × Int32 × Int32 × Int32 × Int32 × Int32 × Int32 × Int32 × Int32 × Int32)) (v4 : Int32) (v5 : Int32) (v6 : Int32) (v7 : Int32) (k1 : Int32) (k2 : Int32) (cells : Nat → Int32) (points : Int32) (fouls : Int32) (touches : Int32) (cushions : Int32) (p_row : Int32) (p_column : Int32) (p_down : Int32) (p_right : Int32) (p_cushions : Int32) : Option (Int32 × (Nat → Int32) × Int32 × Int32 × Int32 × Int32 × Int32 × Int32 × Int32 × Int32 × Int32) := (if bIn k1 3 then (if (fX0_isPocket v7) = 0 then (k34c v4 v5 (v6 + (-1)) (upd cells k1.toNatClampNeg k2) points fouls touches cushions p_row p_column p_down p_right p_cushions) else (k34c v4 v5 ((0 : Int32) + (-1)) (upd cells k1.toNatClampNeg k2) points fouls touches cushions p_row p_column p_down p_right p_cushions)) else none)
def fX1_stroke_L86 (v1 : Int32) (v2 : Int32) (v3 : Int32)  (k34c : Int32 → Int32 → Int32 → (Nat → Int32) → Int32 → Int32 → Int32 → Int32 → Int32 → Int32 → Int32 → Int32 → Int32 → Option (Int32 × (Nat → Int32) × Int32 × Int32 × Int32 × Int32 × Int32 × Int32 × Int32 × Int32 × Int32)) (v5 : Int32) (v6 : Int32) (v7 : Int32) (v8 : Int32) (k1 : Int32) (k2 : Int32) (cells : Nat → Int32) (points : Int32) (fouls : Int32) (touches : Int32) (cushions : Int32) (p_row : Int32) (p_column : Int32) (p_down : Int32) (p_right : Int32) (p_cushions : Int32) : Option (Int32 × (Nat → Int32) × Int32 × Int32 × Int32 × Int32 × Int32 × Int32 × Int32 × Int32 × Int32) := (Option.bind (fX2_goFrom v7 p_row p_column) fun z16 => (k34c v8 (v5 + 1) (v6 + (-1)) cells points (k1 + (fX0_asNumber k2)) touches cushions z16.1 z16.2 p_down p_right p_cushions))
def fX1_stroke_L34 (v1 : Int32) (v2 : Int32) (v3 : Int32)   : Nat → Int32 → Int32 → Int32 → (Nat → Int32) → Int32 → Int32 → Int32 → Int32 → Int32 → Int32 → Int32 → Int32 → Int32 → Option (Int32 × (Nat → Int32) × Int32 × Int32 × Int32 × Int32 × Int32 × Int32 × Int32 × Int32 × Int32)
  | 0, _, _, _, _, _, _, _, _, _, _, _, _, _ => none
  | n + 1, v4, v5, v6, cells, points, fouls, touches, cushions, p_row, p_column, p_down, p_right, p_cushions => (if v6 ≤ 0 then (if v5 ≤ 1 then (fX1_stroke_L179 v1 v2 v3 v4 v5 points 0 cells points fouls touches cushions p_row p_column p_down p_right p_cushions) else (fX1_stroke_L179 v1 v2 v3 v4 v5 points 2 cells points fouls touches cushions p_row p_column p_down p_right p_cushions)) else (Option.bind (fX2_next p_row p_column p_down p_right p_cushions) fun z10 => (Option.bind (fX1_ballOn z10.1 cells) fun z11 => (if z11 < 0 then (Option.bind (fX2_go p_row p_column z10.2.1 z10.2.2.1) fun z12 => (if (fX0_isPocket z10.1) = 0 then (fX1_stroke_L140 v1 v2 v3 (fun y0 y1 y2 y3 y4 y5 y6 y7 y8 y9 y10 y11 y12 => fX1_stroke_L34 v1 v2 v3 n y0 y1 y2 y3 y4 y5 y6 y7 y8 y9 y10 y11 y12) v4 v5 v6 z10.1 v4 z10.1 cells points fouls touches cushions z12.1 z12.2 z10.2.1 z10.2.2.1 z10.2.2.2) else (fX1_stroke_L140 v1 v2 v3 (fun y0 y1 y2 y3 y4 y5 y6 y7 y8 y9 y10 y11 y12 => fX1_stroke_L34 v1 v2 v3 n y0 y1 y2 y3 y4 y5 y6 y7 y8 y9 y10 y11 y12) v4 v5 v6 z10.1 v4 (-6) cells points fouls touches cushions z12.1 z12.2 z10.2.1 z10.2.2.1 z10.2.2.2))) else (if v5 = 0 then (if z10.2.2.2 = 0 then (fX1_stroke_L86 v1 v2 v3 (fun y0 y1 y2 y3 y4 y5 y6 y7 y8 y9 y10 y11 y12 => fX1_stroke_L34 v1 v2 v3 n y0 y1 y2 y3 y4 y5 y6 y7 y8 y9 y10 y11 y12) v5 v6 z10.1 z11 fouls 1 cells points fouls touches cushions p_row p_column z10.2.1 z10.2.2.1 z10.2.2.2) else (fX1_stroke_L86 v1 v2 v3 (fun y0 y1 y2 y3 y4 y5 y6 y7 y8 y9 y10 y11 y12 => fX1_stroke_L34 v1 v2 v3 n y0 y1 y2 y3 y4 y5 y6 y7 y8 y9 y10 y11 y12) v5 v6 z10.1 z11 fouls 0 cells points fouls touches cushions p_row p_column z10.2.1 z10.2.2.1 z10.2.2.2)) else (fX1_stroke_L86 v1 v2 v3 (fun y0 y1 y2 y3 y4 y5 y6 y7 y8 y9 y10 y11 y12 => fX1_stroke_L34 v1 v2 v3 n y0 y1 y2 y3 y4 y5 y6 y7 y8 y9 y10 y11 y12) v5 v6 z10.1 z11 fouls 0 cells points fouls touches cushions p_row p_column z10.2.1 z10.2.2.1 z10.2.2.2))))))
def fX1_stroke (v1 : Int32) (v2 : Int32) (v3 : Int32) (cells : Nat → Int32) (points : Int32) (fouls : Int32) (touches : Int32) (cushions : Int32) (p_row : Int32) (p_column : Int32) (p_down : Int32) (p_right : Int32) (p_cushions : Int32) : Option (Int32 × (Nat → Int32) × Int32 × Int32 × Int32 × Int32 × Int32 × Int32 × Int32 × Int32 × Int32) := (if bIn v1 3 then (if (0 : Int32) ≤ (cells v1.toNatClampNeg) then (if bIn v1 3 then (Option.bind (fX2_send (cells v1.toNatClampNeg) v2 p_row p_column p_down p_right p_cushions) fun z3 => (fX1_stroke_L34 v1 v2 v3 FU v1 0 v3 cells points fouls touches cushions z3.1 z3.2.1 z3.2.2.1 z3.2.2.2.1 z3.2.2.2.2)) else none) else (some (1, cells, points, fouls, touches, cushions, p_row, p_column, p_down, p_right, p_cushions))) else none)
def fX1_nap_L58   (k2c : Int32 → (Nat → Int32) → Option ((Nat → Int32))) (k10c : Int32 → Int32 → (Nat → Int32) → Option ((Nat → Int32))) (v1 : Int32) (v2 : Int32) (v3 : Int32) (k0 : Int32) (cells : Nat → Int32) : Option ((Nat → Int32)) := (if k0 = 0 then (if bIn v2 3 then (k10c v1 (v2 + 1) (upd cells v2.toNatClampNeg v3)) else none) else (if bIn v2 3 then (k10c v1 (v2 + 1) (upd cells v2.toNatClampNeg (v3 - 1))) else none))
def fX1_nap_L10   (k2c : Int32 → (Nat → Int32) → Option ((Nat → Int32))) : Nat → Int32 → Int32 → (Nat → Int32) → Option ((Nat → Int32))
  | 0, _, _, _ => none
  | n + 1, v1, v2, cells => (if (3 : Int32) ≤ v2 then (k2c (v1 + 1) cells) else (if bIn v2 3 then (if (cells v2.toNatClampNeg) < 0 then (fX1_nap_L58 k2c (fun y0 y1 y2 => fX1_nap_L10 k2c n y0 y1 y2) v1 v2 (cells v2.toNatClampNeg) 0 cells) else (if ((cells v2.toNatClampNeg) - (cells v2.toNatClampNeg) / 9 * 9) = v1 then (if (fX0_isPocket ((cells v2.toNatClampNeg) - 1)) = 0 then (Option.bind (fX1_ballOn ((cells v2.toNatClampNeg) - 1) cells) fun z5 => (if (0 : Int32) ≤ z5 then (fX1_nap_L58 k2c (fun y0 y1 y2 => fX1_nap_L10 k2c n y0 y1 y2) v1 v2 (cells v2.toNatClampNeg) 0 cells) else (fX1_nap_L58 k2c (fun y0 y1 y2 => fX1_nap_L10 k2c n y0 y1 y2) v1 v2 (cells v2.toNatClampNeg) 1 cells))) else (fX1_nap_L58 k2c (fun y0 y1 y2 => fX1_nap_L10 k2c n y0 y1 y2) v1 v2 (cells v2.toNatClampNeg) 0 cells)) else (fX1_nap_L58 k2c (fun y0 y1 y2 => fX1_nap_L10 k2c n y0 y1 y2) v1 v2 (cells v2.toNatClampNeg) 0 cells))) else none))
def fX1_nap_L2    : Nat → Int32 → (Nat → Int32) → Option ((Nat → Int32))
  | 0, _, _ => none
  | n + 1, v1, cells => (if (9 : Int32) ≤ v1 then (some cells) else (fX1_nap_L10 (fun y0 y1 => fX1_nap_L2  n y0 y1) FU v1 0 cells))
def fX1_nap  (cells : Nat → Int32) : Option ((Nat → Int32)) := (fX1_nap_L2 FU 1 cells)
def fX1_pass  (evening : Int32) : Option (Int32 × Int32) := (if evening = 99 then (some (3, evening)) else (some (0, (evening + 1))))
def fX1_countDown_L13  (cells : Nat → Int32)  : Nat → Int32 → Int32 → Int32 → Option (Int32)
  | 0, _, _, _ => none
  | n + 1, v1, v3, v4 => (if v3 ≤ v4 then (some v1) else (if bIn v4 3 then (if (0 : Int32) ≤ (cells v4.toNatClampNeg) then (fX1_countDown_L13 cells n (v1 + (fX0_asNumber 0)) v3 (v4 + 1)) else (fX1_countDown_L13 cells n (v1 + (fX0_asNumber 1)) v3 (v4 + 1))) else none))
def fX1_countDown  (cells : Nat → Int32) : Option (Int32) := (fX1_countDown_L13 cells FU 0 3 0)
set_option maxHeartbeats 4000000 in
set_option maxRecDepth 100000 in
theorem metX1_ballOn {v1 : Int32} {res : Int32} (hf : fX1_ballOn v1 cells = some res) : CtI l yX1_ballOn cX1_ballOn 3 .int 0 D E sz [.ref a0, .int v1] (WX1 a0 a1 a2 a3 a4 E cells points fouls evening sights seenStep seenCell isKept touches cushions p_row p_column p_down p_right p_cushions) (WX1 a0 a1 a2 a3 a4 E cells points fouls evening sights seenStep seenCell isKept touches cushions p_row p_column p_down p_right p_cushions) res := by
  refine startI (own := RX1) (by decide) rfl (Nat.le_of_ble_eq_true rfl) ?_
  intro p e s m args below meth c A Q ls hC ret hl hw
  have hx := hC.1.1
  have hb := hC.1.2.1
  have hown := hC.1.2.2.2.1
  have hts := hC.1.2.2.2.2
  have hl : lv_has ls 3 [(0, .ref a0), (1, .int v1)] := hl
  have L2 : ∀ (n : Nat), ∀ (v2 : Int32) (H : Heap) (locs : List Loc) (ls : Array Slot), Wo D A s.heap H locs (WX1 a0 a1 a2 a3 a4 E cells points fouls evening sights seenStep seenCell isKept touches cushions p_row p_column p_down p_right p_cushions) → lv_has ls 3 [(0, .ref a0), (1, .int v1), (2, .int v2)] → fX1_ballOn_L2 v1 cells  n v2 = some res → W p l e (rmN 0) s m args below meth c H locs 0 0 Q (F0 m 2 ls []) := by
    intro  n
    induction n with
    | zero =>
      intro v2 H locs ls hw hl hf
      exact dk_n hf
    | succ n ih =>
      intro v2 H locs ls hw hl hf
      refine lv_iload_n hx hb dX1_ballOn_2 rfl (lv_at hl 2 rfl) ?_
      refine lv_iconst (v := 3) hx hb dX1_ballOn_3 rfl ?_
      refine lv_icmp_ge (tgt := 25) hx hb dX1_ballOn_4 rfl (fun c3 => ?_) (fun c3 => ?_)
      · have hf := dk_t c3 hf
        refine lv_bipush (v := (-6)) hx hb dX1_ballOn_25 rfl ?_
        exact ret _ _ _ _ _ dX1_ballOn_27 rfl (Option.some.inj hf) hw
      · have hf := dk_f c3 hf
        refine lv_aload_n hx hb dX1_ballOn_7 rfl (lv_at hl 0 rfl) ?_
        refine gX1_this_cells hC hw dX1_ballOn_8 ?_
        refine lv_iload_n hx hb dX1_ballOn_11 rfl (lv_at hl 2 rfl) ?_
        obtain ⟨b1, hf⟩ := dk_c hf
        refine aX1_cells hC hw b1 dX1_ballOn_12 ?_
        refine lv_iload_n hx hb dX1_ballOn_13 rfl (lv_at hl 1 rfl) ?_
        refine lv_icmp_ne (tgt := 19) hx hb dX1_ballOn_14 rfl (fun c2 => ?_) (fun c2 => ?_)
        · have hf := dk_f c2 hf
          refine lv_iinc (v := (v2 + 1)) (lv' := [(2, .int (v2 + 1)), (0, .ref a0), (1, .int v1)]) hx hb dX1_ballOn_19 hl (k := 2) rfl rfl (by decide) rfl (fun ls hl => ?_)
          refine lv_goto (tgt := 2) hx hb dX1_ballOn_22 rfl ?_
          exact ih (v2 + 1) _ _ _ hw (lv_sub hl [1, 2, 0] rfl) hf
        · have hf := dk_t c2 hf
          refine lv_iload_n hx hb dX1_ballOn_17 rfl (lv_at hl 2 rfl) ?_
          exact ret _ _ _ _ _ dX1_ballOn_18 rfl (Option.some.inj hf) hw
  refine lv_iconst (v := 0) hx hb dX1_ballOn_0 rfl ?_
  refine lv_istore_n (lv' := [(2, .int 0), (0, .ref a0), (1, .int v1)]) hx hb dX1_ballOn_1 rfl hl (by decide) rfl (fun ls hl => ?_)
  exact L2 FU 0 _ _ _ hw (lv_sub hl [1, 2, 0] rfl) hf
set_option maxHeartbeats 4000000 in
set_option maxRecDepth 100000 in
theorem metX1_bringUp {v1 : Int32} {res : Int32 × (Nat → Int32)} (hf : fX1_bringUp v1 cells = some res) : CtI l yX1_bringUp cX1_bringUp 2 .int 1 D E sz [.ref a0, .int v1] (WX1 a0 a1 a2 a3 a4 E cells points fouls evening sights seenStep seenCell isKept touches cushions p_row p_column p_down p_right p_cushions) (WX1 a0 a1 a2 a3 a4 E res.2 points fouls evening sights seenStep seenCell isKept touches cushions p_row p_column p_down p_right p_cushions) res.1 := by
  refine startI (own := RX1) (by decide) rfl (Nat.le_of_ble_eq_true rfl) ?_
  intro p e s m args below meth c A Q ls hC ret hl hw
  have hx := hC.1.1
  have hb := hC.1.2.1
  have hown := hC.1.2.2.2.1
  have hts := hC.1.2.2.2.2
  have hl : lv_has ls 2 [(0, .ref a0), (1, .int v1)] := hl
  refine lv_aload_n hx hb dX1_bringUp_0 rfl (lv_at hl 0 rfl) ?_
  refine gX1_this_cells hC hw dX1_bringUp_1 ?_
  refine lv_iload_n hx hb dX1_bringUp_4 rfl (lv_at hl 1 rfl) ?_
  obtain ⟨b1, hf⟩ := dk_c hf
  refine aX1_cells hC hw b1 dX1_bringUp_5 ?_
  refine lv_if_lt (tgt := 11) hx hb dX1_bringUp_6 rfl (fun c5 => ?_) (fun c5 => ?_)
  · have hf := dk_t c5 hf
    refine lv_aload_n hx hb dX1_bringUp_11 rfl (lv_at hl 0 rfl) ?_
    refine lv_iload_n hx hb dX1_bringUp_12 rfl (lv_at hl 1 rfl) ?_
    refine callSNI (rest := [.ref a0]) 0 0 hC hw (st1 _) (metX0_spotOf rfl) mi_X0_spotOf (nq89 hC.2.1.2) (rm_ok (by decide) (by decide)) rfl hl.1 rfl (Nat.le_of_ble_eq_true rfl) dX1_bringUp_13 ⟨Nat.zero_le _, Nat.zero_le _⟩ (st2 _) (fun H locs hw => ?_)
    obtain ⟨z2, hz2, hf⟩ := dk_b hf
    refine callVI (rest := []) 0 _ 1 hC hw (sm1 _) (metX1_ballOn hz2) mi_X1_ballOn q263 (rm_ok (by decide) (by decide)) rfl rfl rfl hl.1 rfl (Nat.le_of_ble_eq_true rfl) dX1_bringUp_16 ⟨Nat.zero_le _, Nat.zero_le _⟩ (sm2 _ _) (fun H locs hw => ?_)
    refine lv_if_lt (tgt := 24) hx hb dX1_bringUp_19 rfl (fun c4 => ?_) (fun c4 => ?_)
    · have hf := dk_t c4 hf
      refine lv_aload_n hx hb dX1_bringUp_24 rfl (lv_at hl 0 rfl) ?_
      refine gX1_this_cells hC hw dX1_bringUp_25 ?_
      refine lv_iload_n hx hb dX1_bringUp_28 rfl (lv_at hl 1 rfl) ?_
      refine lv_iload_n hx hb dX1_bringUp_29 rfl (lv_at hl 1 rfl) ?_
      refine callSNI (rest := [.int v1, .ref a1]) 0 0 hC hw (st1 _) (metX0_spotOf rfl) mi_X0_spotOf (nq89 hC.2.1.2) (rm_ok (by decide) (by decide)) rfl hl.1 rfl (Nat.le_of_ble_eq_true rfl) dX1_bringUp_30 ⟨Nat.zero_le _, Nat.zero_le _⟩ (st2 _) (fun H locs hw => ?_)
      obtain ⟨b3, hf⟩ := dk_c hf
      refine sX1_cells hC hw b3 dX1_bringUp_33 (fun H locs hw => ?_)
      refine lv_iconst (v := 0) hx hb dX1_bringUp_34 rfl ?_
      obtain rfl := Option.some.inj hf
      exact ret _ _ _ _ _ dX1_bringUp_35 rfl rfl hw
    · have hf := dk_f c4 hf
      refine lv_iconst (v := 2) hx hb dX1_bringUp_22 rfl ?_
      obtain rfl := Option.some.inj hf
      exact ret _ _ _ _ _ dX1_bringUp_23 rfl rfl hw
  · have hf := dk_f c5 hf
    refine lv_iconst (v := 1) hx hb dX1_bringUp_9 rfl ?_
    obtain rfl := Option.some.inj hf
    exact ret _ _ _ _ _ dX1_bringUp_10 rfl rfl hw
set_option maxHeartbeats 4000000 in
set_option maxRecDepth 100000 in
theorem metX1_stroke {v1 : Int32} {v2 : Int32} {v3 : Int32} {res : Int32 × (Nat → Int32) × Int32 × Int32 × Int32 × Int32 × Int32 × Int32 × Int32 × Int32 × Int32} (hf : fX1_stroke v1 v2 v3 cells points fouls touches cushions p_row p_column p_down p_right p_cushions = some res) : CtI l yX1_stroke cX1_stroke 9 .int 2 D E sz [.ref a0, .int v1, .int v2, .int v3] (WX1 a0 a1 a2 a3 a4 E cells points fouls evening sights seenStep seenCell isKept touches cushions p_row p_column p_down p_right p_cushions) (WX1 a0 a1 a2 a3 a4 E res.2.1 res.2.2.1 res.2.2.2.1 evening sights seenStep seenCell isKept res.2.2.2.2.1 res.2.2.2.2.2.1 res.2.2.2.2.2.2.1 res.2.2.2.2.2.2.2.1 res.2.2.2.2.2.2.2.2.1 res.2.2.2.2.2.2.2.2.2.1 res.2.2.2.2.2.2.2.2.2.2) res.1 := by
  refine startI (own := RX1) (by decide) rfl (Nat.le_of_ble_eq_true rfl) ?_
  intro p e s m args below meth c A Q ls hC ret hl hw
  have hx := hC.1.1
  have hb := hC.1.2.1
  have hown := hC.1.2.2.2.1
  have hts := hC.1.2.2.2.2
  have hl : lv_has ls 9 [(0, .ref a0), (1, .int v1), (2, .int v2), (3, .int v3)] := hl
  have L232 : ∀ (v5 : Int32) (k1 : Int32) (k2 : Int32) (cells : Nat → Int32) (points : Int32) (fouls : Int32) (touches : Int32) (cushions : Int32) (p_row : Int32) (p_column : Int32) (p_down : Int32) (p_right : Int32) (p_cushions : Int32) (H : Heap) (locs : List Loc) (ls : Array Slot), Wo D A s.heap H locs (WX1 a0 a1 a2 a3 a4 E cells points fouls evening sights seenStep seenCell isKept touches cushions p_row p_column p_down p_right p_cushions) → lv_has ls 9 [(0, .ref a0), (5, .int v5)] → fX1_stroke_L232 v1 v2 v3  v5 k1 k2 cells points fouls touches cushions p_row p_column p_down p_right p_cushions = some res → W p l e (rmN 2) s m args below meth c H locs 0 0 Q (F0 m 232 ls [.int k2, .int k1, .ref a0]) := by
    intro  v5 k1 k2 cells points fouls touches cushions p_row p_column p_down p_right p_cushions H locs ls hw hl hf
    refine callSNI (rest := [.int k1, .ref a0]) 0 0 hC hw (st1 _) (metX0_asNumber rfl) mi_X0_asNumber (nq288 hC.2.1.2) (rm_ok (by decide) (by decide)) rfl hl.1 rfl (Nat.le_of_ble_eq_true rfl) dX1_stroke_232 ⟨Nat.zero_le _, Nat.zero_le _⟩ (st2 _) (fun H locs hw => ?_)
    refine lv_iadd hx hb dX1_stroke_235 ?_
    refine pX1_this_fouls hC hw dX1_stroke_236 (fun H locs hw => ?_)
    refine lv_aload_n hx hb dX1_stroke_239 rfl (lv_at hl 0 rfl) ?_
    refine lv_dup hx hb dX1_stroke_240 rfl ?_
    refine gX1_this_touches hC hw dX1_stroke_241 ?_
    refine lv_iload hx hb dX1_stroke_244 (lv_at hl 1 rfl) ?_
    refine lv_iadd hx hb dX1_stroke_246 ?_
    refine pX1_this_touches hC hw dX1_stroke_247 (fun H locs hw => ?_)
    refine lv_aload_n hx hb dX1_stroke_250 rfl (lv_at hl 0 rfl) ?_
    refine lv_dup hx hb dX1_stroke_251 rfl ?_
    refine gX1_this_cushions hC hw dX1_stroke_252 ?_
    refine lv_aload_n hx hb dX1_stroke_255 rfl (lv_at hl 0 rfl) ?_
    refine gX1_this_path hC hw dX1_stroke_256 ?_
    refine gX1_p_cushions hC hw dX1_stroke_259 ?_
    refine lv_iadd hx hb dX1_stroke_262 ?_
    refine pX1_this_cushions hC hw dX1_stroke_263 (fun H locs hw => ?_)
    refine lv_iconst (v := 0) hx hb dX1_stroke_266 rfl ?_
    obtain rfl := Option.some.inj hf
    exact ret _ _ _ _ _ dX1_stroke_267 rfl rfl hw
  have L209 : ∀ (v5 : Int32) (k1 : Int32) (k2 : Int32) (cells : Nat → Int32) (points : Int32) (fouls : Int32) (touches : Int32) (cushions : Int32) (p_row : Int32) (p_column : Int32) (p_down : Int32) (p_right : Int32) (p_cushions : Int32) (H : Heap) (locs : List Loc) (ls : Array Slot), Wo D A s.heap H locs (WX1 a0 a1 a2 a3 a4 E cells points fouls evening sights seenStep seenCell isKept touches cushions p_row p_column p_down p_right p_cushions) → lv_has ls 9 [(0, .ref a0), (1, .int v1), (5, .int v5)] → fX1_stroke_L209 v1 v2 v3  v5 k1 k2 cells points fouls touches cushions p_row p_column p_down p_right p_cushions = some res → W p l e (rmN 2) s m args below meth c H locs 0 0 Q (F0 m 209 ls [.int k2, .int k1, .ref a0]) := by
    intro  v5 k1 k2 cells points fouls touches cushions p_row p_column p_down p_right p_cushions H locs ls hw hl hf
    refine lv_iadd hx hb dX1_stroke_209 ?_
    refine pX1_this_points hC hw dX1_stroke_210 (fun H locs hw => ?_)
    refine lv_aload_n hx hb dX1_stroke_213 rfl (lv_at hl 0 rfl) ?_
    refine lv_dup hx hb dX1_stroke_214 rfl ?_
    refine gX1_this_fouls hC hw dX1_stroke_215 ?_
    refine lv_aload_n hx hb dX1_stroke_218 rfl (lv_at hl 0 rfl) ?_
    refine gX1_this_cells hC hw dX1_stroke_219 ?_
    refine lv_iload_n hx hb dX1_stroke_222 rfl (lv_at hl 1 rfl) ?_
    obtain ⟨b5, hf⟩ := dk_c hf
    refine aX1_cells hC hw b5 dX1_stroke_223 ?_
    refine lv_if_ge (tgt := 231) hx hb dX1_stroke_224 rfl (fun c6 => ?_) (fun c6 => ?_)
    · have hf := dk_t c6 hf
      refine lv_iconst (v := 0) hx hb dX1_stroke_231 rfl ?_
      exact L232 v5 fouls 0 cells (k1 + k2) fouls touches cushions p_row p_column p_down p_right p_cushions _ _ _ hw (lv_sub hl [0, 2] rfl) hf
    · have hf := dk_f c6 hf
      refine lv_iconst (v := 1) hx hb dX1_stroke_227 rfl ?_
      refine lv_goto (tgt := 232) hx hb dX1_stroke_228 rfl ?_
      exact L232 v5 fouls 1 cells (k1 + k2) fouls touches cushions p_row p_column p_down p_right p_cushions _ _ _ hw (lv_sub hl [0, 2] rfl) hf
  have L179 : ∀ (v4 : Int32) (v5 : Int32) (k1 : Int32) (k2 : Int32) (cells : Nat → Int32) (points : Int32) (fouls : Int32) (touches : Int32) (cushions : Int32) (p_row : Int32) (p_column : Int32) (p_down : Int32) (p_right : Int32) (p_cushions : Int32) (H : Heap) (locs : List Loc) (ls : Array Slot), Wo D A s.heap H locs (WX1 a0 a1 a2 a3 a4 E cells points fouls evening sights seenStep seenCell isKept touches cushions p_row p_column p_down p_right p_cushions) → lv_has ls 9 [(0, .ref a0), (1, .int v1), (4, .int v4), (5, .int v5)] → fX1_stroke_L179 v1 v2 v3  v4 v5 k1 k2 cells points fouls touches cushions p_row p_column p_down p_right p_cushions = some res → W p l e (rmN 2) s m args below meth c H locs 0 0 Q (F0 m 179 ls [.int k2, .int k1, .ref a0]) := by
    intro  v4 v5 k1 k2 cells points fouls touches cushions p_row p_column p_down p_right p_cushions H locs ls hw hl hf
    refine lv_iadd hx hb dX1_stroke_179 ?_
    refine pX1_this_points hC hw dX1_stroke_180 (fun H locs hw => ?_)
    refine lv_aload_n hx hb dX1_stroke_183 rfl (lv_at hl 0 rfl) ?_
    refine lv_dup hx hb dX1_stroke_184 rfl ?_
    refine gX1_this_points hC hw dX1_stroke_185 ?_
    refine lv_aload_n hx hb dX1_stroke_188 rfl (lv_at hl 0 rfl) ?_
    refine gX1_this_cells hC hw dX1_stroke_189 ?_
    refine lv_iload hx hb dX1_stroke_192 (lv_at hl 2 rfl) ?_
    obtain ⟨b4, hf⟩ := dk_c hf
    refine aX1_cells hC hw b4 dX1_stroke_194 ?_
    refine lv_if_ge (tgt := 208) hx hb dX1_stroke_195 rfl (fun c8 => ?_) (fun c8 => ?_)
    · have hf := dk_t c8 hf
      refine lv_iconst (v := 0) hx hb dX1_stroke_208 rfl ?_
      exact L209 v5 (k1 + k2) 0 cells (k1 + k2) fouls touches cushions p_row p_column p_down p_right p_cushions _ _ _ hw (lv_sub hl [0, 1, 3] rfl) hf
    · have hf := dk_f c8 hf
      refine lv_iload hx hb dX1_stroke_198 (lv_at hl 2 rfl) ?_
      refine lv_iload_n hx hb dX1_stroke_200 rfl (lv_at hl 1 rfl) ?_
      refine lv_icmp_eq (tgt := 208) hx hb dX1_stroke_201 rfl (fun c7 => ?_) (fun c7 => ?_)
      · have hf := dk_t c7 hf
        refine lv_iconst (v := 0) hx hb dX1_stroke_208 rfl ?_
        exact L209 v5 (k1 + k2) 0 cells (k1 + k2) fouls touches cushions p_row p_column p_down p_right p_cushions _ _ _ hw (lv_sub hl [0, 1, 3] rfl) hf
      · have hf := dk_f c7 hf
        refine lv_iconst (v := 3) hx hb dX1_stroke_204 rfl ?_
        refine lv_goto (tgt := 209) hx hb dX1_stroke_205 rfl ?_
        exact L209 v5 (k1 + k2) 3 cells (k1 + k2) fouls touches cushions p_row p_column p_down p_right p_cushions _ _ _ hw (lv_sub hl [0, 1, 3] rfl) hf
  have L140 : ∀ (k34c : Int32 → Int32 → Int32 → (Nat → Int32) → Int32 → Int32 → Int32 → Int32 → Int32 → Int32 → Int32 → Int32 → Int32 → Option (Int32 × (Nat → Int32) × Int32 × Int32 × Int32 × Int32 × Int32 × Int32 × Int32 × Int32 × Int32)) (hk34 : ∀ (v4 : Int32) (v5 : Int32) (v6 : Int32) (cells : Nat → Int32) (points : Int32) (fouls : Int32) (touches : Int32) (cushions : Int32) (p_row : Int32) (p_column : Int32) (p_down : Int32) (p_right : Int32) (p_cushions : Int32) (H : Heap) (locs : List Loc) (ls : Array Slot), Wo D A s.heap H locs (WX1 a0 a1 a2 a3 a4 E cells points fouls evening sights seenStep seenCell isKept touches cushions p_row p_column p_down p_right p_cushions) → lv_has ls 9 [(0, .ref a0), (1, .int v1), (4, .int v4), (5, .int v5), (6, .int v6)] → k34c v4 v5 v6 cells points fouls touches cushions p_row p_column p_down p_right p_cushions = some res → W p l e (rmN 2) s m args below meth c H locs 0 0 Q (F0 m 34 ls [])) (v4 : Int32) (v5 : Int32) (v6 : Int32) (v7 : Int32) (k1 : Int32) (k2 : Int32) (cells : Nat → Int32) (points : Int32) (fouls : Int32) (touches : Int32) (cushions : Int32) (p_row : Int32) (p_column : Int32) (p_down : Int32) (p_right : Int32) (p_cushions : Int32) (H : Heap) (locs : List Loc) (ls : Array Slot), Wo D A s.heap H locs (WX1 a0 a1 a2 a3 a4 E cells points fouls evening sights seenStep seenCell isKept touches cushions p_row p_column p_down p_right p_cushions) → lv_has ls 9 [(0, .ref a0), (1, .int v1), (4, .int v4), (5, .int v5), (6, .int v6), (7, .int v7)] → fX1_stroke_L140 v1 v2 v3 k34c v4 v5 v6 v7 k1 k2 cells points fouls touches cushions p_row p_column p_down p_right p_cushions = some res → W p l e (rmN 2) s m args below meth c H locs 0 0 Q (F0 m 140 ls [.int k2, .int k1, .ref a1]) := by
    intro k34c hk34 v4 v5 v6 v7 k1 k2 cells points fouls touches cushions p_row p_column p_down p_right p_cushions H locs ls hw hl hf
    obtain ⟨b13, hf⟩ := dk_c hf
    refine sX1_cells hC hw b13 dX1_stroke_140 (fun H locs hw => ?_)
    refine lv_iload hx hb dX1_stroke_141 (lv_at hl 5 rfl) ?_
    refine callSNI (rest := []) 0 0 hC hw (st1 _) (metX0_isPocket rfl) mi_X0_isPocket (nq262 hC.2.1.2) (rm_ok (by decide) (by decide)) rfl hl.1 rfl (Nat.le_of_ble_eq_true rfl) dX1_stroke_143 ⟨Nat.zero_le _, Nat.zero_le _⟩ (st2 _) (fun H locs hw => ?_)
    refine lv_if_eq (tgt := 153) hx hb dX1_stroke_146 rfl (fun c14 => ?_) (fun c14 => ?_)
    · have hf := dk_t c14 hf
      refine lv_iload hx hb dX1_stroke_153 (lv_at hl 4 rfl) ?_
      refine lv_istore (lv' := [(6, .int v6), (0, .ref a0), (1, .int v1), (4, .int v4), (5, .int v5), (7, .int v7)]) hx hb dX1_stroke_155 hl (by decide) rfl (fun ls hl => ?_)
      refine lv_iinc (v := (v6 + (-1))) (lv' := [(6, .int (v6 + (-1))), (0, .ref a0), (1, .int v1), (4, .int v4), (5, .int v5), (7, .int v7)]) hx hb dX1_stroke_157 hl (k := 0) rfl rfl (by decide) rfl (fun ls hl => ?_)
      refine lv_goto (tgt := 34) hx hb dX1_stroke_160 rfl ?_
      exact hk34 v4 v5 (v6 + (-1)) (upd cells k1.toNatClampNeg k2) points fouls touches cushions p_row p_column p_down p_right p_cushions _ _ _ hw (lv_sub hl [1, 2, 3, 4, 0] rfl) hf
    · have hf := dk_f c14 hf
      refine lv_iconst (v := 0) hx hb dX1_stroke_149 rfl ?_
      refine lv_goto (tgt := 155) hx hb dX1_stroke_150 rfl ?_
      refine lv_istore (lv' := [(6, .int 0), (0, .ref a0), (1, .int v1), (4, .int v4), (5, .int v5), (7, .int v7)]) hx hb dX1_stroke_155 hl (by decide) rfl (fun ls hl => ?_)
      refine lv_iinc (v := ((0 : Int32) + (-1))) (lv' := [(6, .int ((0 : Int32) + (-1))), (0, .ref a0), (1, .int v1), (4, .int v4), (5, .int v5), (7, .int v7)]) hx hb dX1_stroke_157 hl (k := 0) rfl rfl (by decide) rfl (fun ls hl => ?_)
      refine lv_goto (tgt := 34) hx hb dX1_stroke_160 rfl ?_
      exact hk34 v4 v5 ((0 : Int32) + (-1)) (upd cells k1.toNatClampNeg k2) points fouls touches cushions p_row p_column p_down p_right p_cushions _ _ _ hw (lv_sub hl [1, 2, 3, 4, 0] rfl) hf
  have L86 : ∀ (k34c : Int32 → Int32 → Int32 → (Nat → Int32) → Int32 → Int32 → Int32 → Int32 → Int32 → Int32 → Int32 → Int32 → Int32 → Option (Int32 × (Nat → Int32) × Int32 × Int32 × Int32 × Int32 × Int32 × Int32 × Int32 × Int32 × Int32)) (hk34 : ∀ (v4 : Int32) (v5 : Int32) (v6 : Int32) (cells : Nat → Int32) (points : Int32) (fouls : Int32) (touches : Int32) (cushions : Int32) (p_row : Int32) (p_column : Int32) (p_down : Int32) (p_right : Int32) (p_cushions : Int32) (H : Heap) (locs : List Loc) (ls : Array Slot), Wo D A s.heap H locs (WX1 a0 a1 a2 a3 a4 E cells points fouls evening sights seenStep seenCell isKept touches cushions p_row p_column p_down p_right p_cushions) → lv_has ls 9 [(0, .ref a0), (1, .int v1), (4, .int v4), (5, .int v5), (6, .int v6)] → k34c v4 v5 v6 cells points fouls touches cushions p_row p_column p_down p_right p_cushions = some res → W p l e (rmN 2) s m args below meth c H locs 0 0 Q (F0 m 34 ls [])) (v5 : Int32) (v6 : Int32) (v7 : Int32) (v8 : Int32) (k1 : Int32) (k2 : Int32) (cells : Nat → Int32) (points : Int32) (fouls : Int32) (touches : Int32) (cushions : Int32) (p_row : Int32) (p_column : Int32) (p_down : Int32) (p_right : Int32) (p_cushions : Int32) (H : Heap) (locs : List Loc) (ls : Array Slot), Wo D A s.heap H locs (WX1 a0 a1 a2 a3 a4 E cells points fouls evening sights seenStep seenCell isKept touches cushions p_row p_column p_down p_right p_cushions) → lv_has ls 9 [(0, .ref a0), (1, .int v1), (5, .int v5), (6, .int v6), (7, .int v7), (8, .int v8)] → fX1_stroke_L86 v1 v2 v3 k34c v5 v6 v7 v8 k1 k2 cells points fouls touches cushions p_row p_column p_down p_right p_cushions = some res → W p l e (rmN 2) s m args below meth c H locs 0 0 Q (F0 m 86 ls [.int k2, .int k1, .ref a0]) := by
    intro k34c hk34 v5 v6 v7 v8 k1 k2 cells points fouls touches cushions p_row p_column p_down p_right p_cushions H locs ls hw hl hf
    refine callSNI (rest := [.int k1, .ref a0]) 0 0 hC hw (st1 _) (metX0_asNumber rfl) mi_X0_asNumber (nq288 hC.2.1.2) (rm_ok (by decide) (by decide)) rfl hl.1 rfl (Nat.le_of_ble_eq_true rfl) dX1_stroke_86 ⟨Nat.zero_le _, Nat.zero_le _⟩ (st2 _) (fun H locs hw => ?_)
    refine lv_iadd hx hb dX1_stroke_89 ?_
    refine pX1_this_fouls hC hw dX1_stroke_90 (fun H locs hw => ?_)
    refine lv_iinc (v := (v5 + 1)) (lv' := [(5, .int (v5 + 1)), (0, .ref a0), (1, .int v1), (6, .int v6), (7, .int v7), (8, .int v8)]) hx hb dX1_stroke_93 hl (k := 2) rfl rfl (by decide) rfl (fun ls hl => ?_)
    refine lv_iload hx hb dX1_stroke_96 (lv_at hl 5 rfl) ?_
    refine lv_istore (lv' := [(4, .int v8), (5, .int (v5 + 1)), (0, .ref a0), (1, .int v1), (6, .int v6), (7, .int v7), (8, .int v8)]) hx hb dX1_stroke_98 hl (by decide) rfl (fun ls hl => ?_)
    refine lv_aload_n hx hb dX1_stroke_100 rfl (lv_at hl 2 rfl) ?_
    refine gX1_this_path hC hw dX1_stroke_101 ?_
    refine lv_iload hx hb dX1_stroke_104 (lv_at hl 5 rfl) ?_
    obtain ⟨z16, hz16, hf⟩ := dk_b hf
    refine callVV (rest := []) 4 1 2 hC hw subX1_p (metX2_goFrom hz16) mi_X2_goFrom q289 (rm_ok (by decide) (by decide)) rfl rfl rfl hl.1 rfl (Nat.le_of_ble_eq_true rfl) dX1_stroke_106 ⟨Nat.zero_le _, Nat.zero_le _⟩ putX1_p (fun H locs hw => ?_)
    refine lv_goto (tgt := 157) hx hb dX1_stroke_109 rfl ?_
    refine lv_iinc (v := (v6 + (-1))) (lv' := [(6, .int (v6 + (-1))), (4, .int v8), (5, .int (v5 + 1)), (0, .ref a0), (1, .int v1), (7, .int v7), (8, .int v8)]) hx hb dX1_stroke_157 hl (k := 4) rfl rfl (by decide) rfl (fun ls hl => ?_)
    refine lv_goto (tgt := 34) hx hb dX1_stroke_160 rfl ?_
    exact hk34 v8 (v5 + 1) (v6 + (-1)) cells points (k1 + (fX0_asNumber k2)) touches cushions z16.1 z16.2 p_down p_right p_cushions _ _ _ hw (lv_sub hl [3, 4, 1, 2, 0] rfl) hf
  have L34 : ∀ (n : Nat), ∀ (v4 : Int32) (v5 : Int32) (v6 : Int32) (cells : Nat → Int32) (points : Int32) (fouls : Int32) (touches : Int32) (cushions : Int32) (p_row : Int32) (p_column : Int32) (p_down : Int32) (p_right : Int32) (p_cushions : Int32) (H : Heap) (locs : List Loc) (ls : Array Slot), Wo D A s.heap H locs (WX1 a0 a1 a2 a3 a4 E cells points fouls evening sights seenStep seenCell isKept touches cushions p_row p_column p_down p_right p_cushions) → lv_has ls 9 [(0, .ref a0), (1, .int v1), (4, .int v4), (5, .int v5), (6, .int v6)] → fX1_stroke_L34 v1 v2 v3  n v4 v5 v6 cells points fouls touches cushions p_row p_column p_down p_right p_cushions = some res → W p l e (rmN 2) s m args below meth c H locs 0 0 Q (F0 m 34 ls []) := by
    intro  n
    induction n with
    | zero =>
      intro v4 v5 v6 cells points fouls touches cushions p_row p_column p_down p_right p_cushions H locs ls hw hl hf
      exact dk_n hf
    | succ n ih =>
      intro v4 v5 v6 cells points fouls touches cushions p_row p_column p_down p_right p_cushions H locs ls hw hl hf
      refine lv_iload hx hb dX1_stroke_34 (lv_at hl 4 rfl) ?_
      refine lv_if_le (tgt := 163) hx hb dX1_stroke_36 rfl (fun c20 => ?_) (fun c20 => ?_)
      · have hf := dk_t c20 hf
        refine lv_aload_n hx hb dX1_stroke_163 rfl (lv_at hl 0 rfl) ?_
        refine lv_dup hx hb dX1_stroke_164 rfl ?_
        refine gX1_this_points hC hw dX1_stroke_165 ?_
        refine lv_iload hx hb dX1_stroke_168 (lv_at hl 3 rfl) ?_
        refine lv_iconst (v := 1) hx hb dX1_stroke_170 rfl ?_
        refine lv_icmp_le (tgt := 178) hx hb dX1_stroke_171 rfl (fun c9 => ?_) (fun c9 => ?_)
        · have hf := dk_t c9 hf
          refine lv_iconst (v := 0) hx hb dX1_stroke_178 rfl ?_
          exact L179 v4 v5 points 0 cells points fouls touches cushions p_row p_column p_down p_right p_cushions _ _ _ hw (lv_sub hl [0, 1, 2, 3] rfl) hf
        · have hf := dk_f c9 hf
          refine lv_iconst (v := 2) hx hb dX1_stroke_174 rfl ?_
          refine lv_goto (tgt := 179) hx hb dX1_stroke_175 rfl ?_
          exact L179 v4 v5 points 2 cells points fouls touches cushions p_row p_column p_down p_right p_cushions _ _ _ hw (lv_sub hl [0, 1, 2, 3] rfl) hf
      · have hf := dk_f c20 hf
        refine lv_aload_n hx hb dX1_stroke_39 rfl (lv_at hl 0 rfl) ?_
        refine gX1_this_path hC hw dX1_stroke_40 ?_
        obtain ⟨z10, hz10, hf⟩ := dk_b hf
        refine callVI (rest := []) 4 1 2 hC hw subX1_p (metX2_next hz10) mi_X2_next q280 (rm_ok (by decide) (by decide)) rfl rfl rfl hl.1 rfl (Nat.le_of_ble_eq_true rfl) dX1_stroke_43 ⟨Nat.zero_le _, Nat.zero_le _⟩ putX1_p (fun H locs hw => ?_)
        refine lv_istore (lv' := [(7, .int z10.1), (0, .ref a0), (1, .int v1), (4, .int v4), (5, .int v5), (6, .int v6)]) hx hb dX1_stroke_46 hl (by decide) rfl (fun ls hl => ?_)
        refine lv_aload_n hx hb dX1_stroke_48 rfl (lv_at hl 1 rfl) ?_
        refine lv_iload hx hb dX1_stroke_49 (lv_at hl 0 rfl) ?_
        obtain ⟨z11, hz11, hf⟩ := dk_b hf
        refine callVI (rest := []) 0 _ 1 hC hw (sm1 _) (metX1_ballOn hz11) mi_X1_ballOn q263 (rm_ok (by decide) (by decide)) rfl rfl rfl hl.1 rfl (Nat.le_of_ble_eq_true rfl) dX1_stroke_51 ⟨Nat.zero_le _, Nat.zero_le _⟩ (sm2 _ _) (fun H locs hw => ?_)
        refine lv_istore (lv' := [(8, .int z11), (7, .int z10.1), (0, .ref a0), (1, .int v1), (4, .int v4), (5, .int v5), (6, .int v6)]) hx hb dX1_stroke_54 hl (by decide) rfl (fun ls hl => ?_)
        refine lv_iload hx hb dX1_stroke_56 (lv_at hl 0 rfl) ?_
        refine lv_if_lt (tgt := 112) hx hb dX1_stroke_58 rfl (fun c19 => ?_) (fun c19 => ?_)
        · have hf := dk_t c19 hf
          refine lv_aload_n hx hb dX1_stroke_112 rfl (lv_at hl 2 rfl) ?_
          refine gX1_this_path hC hw dX1_stroke_113 ?_
          obtain ⟨z12, hz12, hf⟩ := dk_b hf
          refine callVV (rest := []) 4 1 2 hC hw subX1_p (metX2_go hz12) mi_X2_go q293 (rm_ok (by decide) (by decide)) rfl rfl rfl hl.1 rfl (Nat.le_of_ble_eq_true rfl) dX1_stroke_116 ⟨Nat.zero_le _, Nat.zero_le _⟩ putX1_p (fun H locs hw => ?_)
          refine lv_aload_n hx hb dX1_stroke_119 rfl (lv_at hl 2 rfl) ?_
          refine gX1_this_cells hC hw dX1_stroke_120 ?_
          refine lv_iload hx hb dX1_stroke_123 (lv_at hl 4 rfl) ?_
          refine lv_iload hx hb dX1_stroke_125 (lv_at hl 1 rfl) ?_
          refine callSNI (rest := [.int v4, .ref a1]) 0 0 hC hw (st1 _) (metX0_isPocket rfl) mi_X0_isPocket (nq262 hC.2.1.2) (rm_ok (by decide) (by decide)) rfl hl.1 rfl (Nat.le_of_ble_eq_true rfl) dX1_stroke_127 ⟨Nat.zero_le _, Nat.zero_le _⟩ (st2 _) (fun H locs hw => ?_)
          refine lv_if_eq (tgt := 138) hx hb dX1_stroke_130 rfl (fun c15 => ?_) (fun c15 => ?_)
          · have hf := dk_t c15 hf
            refine lv_iload hx hb dX1_stroke_138 (lv_at hl 1 rfl) ?_
            exact L140 (fun y0 y1 y2 y3 y4 y5 y6 y7 y8 y9 y10 y11 y12 => fX1_stroke_L34 v1 v2 v3 n y0 y1 y2 y3 y4 y5 y6 y7 y8 y9 y10 y11 y12) ih v4 v5 v6 z10.1 v4 z10.1 cells points fouls touches cushions z12.1 z12.2 z10.2.1 z10.2.2.1 z10.2.2.2 _ _ _ hw (lv_sub hl [2, 3, 4, 5, 6, 1] rfl) hf
          · have hf := dk_f c15 hf
            refine lv_bipush (v := (-6)) hx hb dX1_stroke_133 rfl ?_
            refine lv_goto (tgt := 140) hx hb dX1_stroke_135 rfl ?_
            exact L140 (fun y0 y1 y2 y3 y4 y5 y6 y7 y8 y9 y10 y11 y12 => fX1_stroke_L34 v1 v2 v3 n y0 y1 y2 y3 y4 y5 y6 y7 y8 y9 y10 y11 y12) ih v4 v5 v6 z10.1 v4 (-6) cells points fouls touches cushions z12.1 z12.2 z10.2.1 z10.2.2.1 z10.2.2.2 _ _ _ hw (lv_sub hl [2, 3, 4, 5, 6, 1] rfl) hf
        · have hf := dk_f c19 hf
          refine lv_aload_n hx hb dX1_stroke_61 rfl (lv_at hl 2 rfl) ?_
          refine lv_dup hx hb dX1_stroke_62 rfl ?_
          refine gX1_this_fouls hC hw dX1_stroke_63 ?_
          refine lv_iload hx hb dX1_stroke_66 (lv_at hl 5 rfl) ?_
          refine lv_if_ne (tgt := 85) hx hb dX1_stroke_68 rfl (fun c18 => ?_) (fun c18 => ?_)
          · have hf := dk_f c18 hf
            refine lv_iconst (v := 0) hx hb dX1_stroke_85 rfl ?_
            exact L86 (fun y0 y1 y2 y3 y4 y5 y6 y7 y8 y9 y10 y11 y12 => fX1_stroke_L34 v1 v2 v3 n y0 y1 y2 y3 y4 y5 y6 y7 y8 y9 y10 y11 y12) ih v5 v6 z10.1 z11 fouls 0 cells points fouls touches cushions p_row p_column z10.2.1 z10.2.2.1 z10.2.2.2 _ _ _ hw (lv_sub hl [2, 3, 5, 6, 1, 0] rfl) hf
          · have hf := dk_t c18 hf
            refine lv_aload_n hx hb dX1_stroke_71 rfl (lv_at hl 2 rfl) ?_
            refine gX1_this_path hC hw dX1_stroke_72 ?_
            refine gX1_p_cushions hC hw dX1_stroke_75 ?_
            refine lv_if_ne (tgt := 85) hx hb dX1_stroke_78 rfl (fun c17 => ?_) (fun c17 => ?_)
            · have hf := dk_f c17 hf
              refine lv_iconst (v := 0) hx hb dX1_stroke_85 rfl ?_
              exact L86 (fun y0 y1 y2 y3 y4 y5 y6 y7 y8 y9 y10 y11 y12 => fX1_stroke_L34 v1 v2 v3 n y0 y1 y2 y3 y4 y5 y6 y7 y8 y9 y10 y11 y12) ih v5 v6 z10.1 z11 fouls 0 cells points fouls touches cushions p_row p_column z10.2.1 z10.2.2.1 z10.2.2.2 _ _ _ hw (lv_sub hl [2, 3, 5, 6, 1, 0] rfl) hf
            · have hf := dk_t c17 hf
              refine lv_iconst (v := 1) hx hb dX1_stroke_81 rfl ?_
              refine lv_goto (tgt := 86) hx hb dX1_stroke_82 rfl ?_
              exact L86 (fun y0 y1 y2 y3 y4 y5 y6 y7 y8 y9 y10 y11 y12 => fX1_stroke_L34 v1 v2 v3 n y0 y1 y2 y3 y4 y5 y6 y7 y8 y9 y10 y11 y12) ih v5 v6 z10.1 z11 fouls 1 cells points fouls touches cushions p_row p_column z10.2.1 z10.2.2.1 z10.2.2.2 _ _ _ hw (lv_sub hl [2, 3, 5, 6, 1, 0] rfl) hf
  refine lv_aload_n hx hb dX1_stroke_0 rfl (lv_at hl 0 rfl) ?_
  refine gX1_this_cells hC hw dX1_stroke_1 ?_
  refine lv_iload_n hx hb dX1_stroke_4 rfl (lv_at hl 1 rfl) ?_
  obtain ⟨b1, hf⟩ := dk_c hf
  refine aX1_cells hC hw b1 dX1_stroke_5 ?_
  refine lv_if_ge (tgt := 11) hx hb dX1_stroke_6 rfl (fun c21 => ?_) (fun c21 => ?_)
  · have hf := dk_t c21 hf
    refine lv_iload_n hx hb dX1_stroke_11 rfl (lv_at hl 1 rfl) ?_
    refine lv_istore (lv' := [(4, .int v1), (0, .ref a0), (1, .int v1), (2, .int v2), (3, .int v3)]) hx hb dX1_stroke_12 hl (by decide) rfl (fun ls hl => ?_)
    refine lv_iconst (v := 0) hx hb dX1_stroke_14 rfl ?_
    refine lv_istore (lv' := [(5, .int 0), (4, .int v1), (0, .ref a0), (1, .int v1), (2, .int v2), (3, .int v3)]) hx hb dX1_stroke_15 hl (by decide) rfl (fun ls hl => ?_)
    refine lv_aload_n hx hb dX1_stroke_17 rfl (lv_at hl 2 rfl) ?_
    refine gX1_this_path hC hw dX1_stroke_18 ?_
    refine lv_aload_n hx hb dX1_stroke_21 rfl (lv_at hl 2 rfl) ?_
    refine gX1_this_cells hC hw dX1_stroke_22 ?_
    refine lv_iload_n hx hb dX1_stroke_25 rfl (lv_at hl 3 rfl) ?_
    obtain ⟨b2, hf⟩ := dk_c hf
    refine aX1_cells hC hw b2 dX1_stroke_26 ?_
    refine lv_iload_n hx hb dX1_stroke_27 rfl (lv_at hl 4 rfl) ?_
    obtain ⟨z3, hz3, hf⟩ := dk_b hf
    refine callVV (rest := []) 4 1 2 hC hw subX1_p (metX2_send hz3) mi_X2_send q276 (rm_ok (by decide) (by decide)) rfl rfl rfl hl.1 rfl (Nat.le_of_ble_eq_true rfl) dX1_stroke_28 ⟨Nat.zero_le _, Nat.zero_le _⟩ putX1_p (fun H locs hw => ?_)
    refine lv_iload_n hx hb dX1_stroke_31 rfl (lv_at hl 5 rfl) ?_
    refine lv_istore (lv' := [(6, .int v3), (5, .int 0), (4, .int v1), (0, .ref a0), (1, .int v1), (2, .int v2), (3, .int v3)]) hx hb dX1_stroke_32 hl (by decide) rfl (fun ls hl => ?_)
    exact L34 FU v1 0 v3 cells points fouls touches cushions z3.1 z3.2.1 z3.2.2.1 z3.2.2.2.1 z3.2.2.2.2 _ _ _ hw (lv_sub hl [3, 4, 2, 1, 0] rfl) hf
  · have hf := dk_f c21 hf
    refine lv_iconst (v := 1) hx hb dX1_stroke_9 rfl ?_
    obtain rfl := Option.some.inj hf
    exact ret _ _ _ _ _ dX1_stroke_10 rfl rfl hw
set_option maxHeartbeats 4000000 in
set_option maxRecDepth 100000 in
theorem metX1_nap  {res : (Nat → Int32)} (hf : fX1_nap cells = some res) : CtV l yX1_nap cX1_nap 5 1 D E sz [.ref a0] (WX1 a0 a1 a2 a3 a4 E cells points fouls evening sights seenStep seenCell isKept touches cushions p_row p_column p_down p_right p_cushions) (WX1 a0 a1 a2 a3 a4 E res points fouls evening sights seenStep seenCell isKept touches cushions p_row p_column p_down p_right p_cushions) := by
  refine startV (own := RX1) (by decide) rfl (Nat.le_of_ble_eq_true rfl) ?_
  intro p e s m args below meth c A Q ls hC ret hl hw
  have hx := hC.1.1
  have hb := hC.1.2.1
  have hown := hC.1.2.2.2.1
  have hts := hC.1.2.2.2.2
  have hl : lv_has ls 5 [(0, .ref a0)] := hl
  have L58 : ∀ (k2c : Int32 → (Nat → Int32) → Option ((Nat → Int32))) (hk2 : ∀ (v1 : Int32) (cells : Nat → Int32) (H : Heap) (locs : List Loc) (ls : Array Slot), Wo D A s.heap H locs (WX1 a0 a1 a2 a3 a4 E cells points fouls evening sights seenStep seenCell isKept touches cushions p_row p_column p_down p_right p_cushions) → lv_has ls 5 [(0, .ref a0), (1, .int v1)] → k2c v1 cells = some res → W p l e (rmN 1) s m args below meth c H locs 0 0 Q (F0 m 2 ls [])) (k10c : Int32 → Int32 → (Nat → Int32) → Option ((Nat → Int32))) (hk10 : ∀ (v1 : Int32) (v2 : Int32) (cells : Nat → Int32) (H : Heap) (locs : List Loc) (ls : Array Slot), Wo D A s.heap H locs (WX1 a0 a1 a2 a3 a4 E cells points fouls evening sights seenStep seenCell isKept touches cushions p_row p_column p_down p_right p_cushions) → lv_has ls 5 [(0, .ref a0), (1, .int v1), (2, .int v2)] → k10c v1 v2 cells = some res → W p l e (rmN 1) s m args below meth c H locs 0 0 Q (F0 m 10 ls [])) (v1 : Int32) (v2 : Int32) (v3 : Int32) (k0 : Int32) (cells : Nat → Int32) (H : Heap) (locs : List Loc) (ls : Array Slot), Wo D A s.heap H locs (WX1 a0 a1 a2 a3 a4 E cells points fouls evening sights seenStep seenCell isKept touches cushions p_row p_column p_down p_right p_cushions) → lv_has ls 5 [(0, .ref a0), (1, .int v1), (2, .int v2), (3, .int v3)] → fX1_nap_L58  k2c k10c v1 v2 v3 k0 cells = some res → W p l e (rmN 1) s m args below meth c H locs 0 0 Q (F0 m 58 ls [.int k0]) := by
    intro k2c hk2 k10c hk10 v1 v2 v3 k0 cells H locs ls hw hl hf
    refine lv_istore (lv' := [(4, .int k0), (0, .ref a0), (1, .int v1), (2, .int v2), (3, .int v3)]) hx hb dX1_nap_58 hl (by decide) rfl (fun ls hl => ?_)
    refine lv_aload_n hx hb dX1_nap_60 rfl (lv_at hl 1 rfl) ?_
    refine gX1_this_cells hC hw dX1_nap_61 ?_
    refine lv_iload_n hx hb dX1_nap_64 rfl (lv_at hl 3 rfl) ?_
    refine lv_iload hx hb dX1_nap_65 (lv_at hl 0 rfl) ?_
    refine lv_if_eq (tgt := 76) hx hb dX1_nap_67 rfl (fun c4 => ?_) (fun c4 => ?_)
    · have hf := dk_t c4 hf
      refine lv_iload_n hx hb dX1_nap_76 rfl (lv_at hl 4 rfl) ?_
      obtain ⟨b2, hf⟩ := dk_c hf
      refine sX1_cells hC hw b2 dX1_nap_77 (fun H locs hw => ?_)
      refine lv_iinc (v := (v2 + 1)) (lv' := [(2, .int (v2 + 1)), (4, .int k0), (0, .ref a0), (1, .int v1), (3, .int v3)]) hx hb dX1_nap_78 hl (k := 3) rfl rfl (by decide) rfl (fun ls hl => ?_)
      refine lv_goto (tgt := 10) hx hb dX1_nap_81 rfl ?_
      exact hk10 v1 (v2 + 1) (upd cells v2.toNatClampNeg v3) _ _ _ hw (lv_sub hl [2, 3, 0] rfl) hf
    · have hf := dk_f c4 hf
      refine lv_iload_n hx hb dX1_nap_70 rfl (lv_at hl 4 rfl) ?_
      refine lv_iconst (v := 1) hx hb dX1_nap_71 rfl ?_
      refine lv_isub hx hb dX1_nap_72 ?_
      refine lv_goto (tgt := 77) hx hb dX1_nap_73 rfl ?_
      obtain ⟨b3, hf⟩ := dk_c hf
      refine sX1_cells hC hw b3 dX1_nap_77 (fun H locs hw => ?_)
      refine lv_iinc (v := (v2 + 1)) (lv' := [(2, .int (v2 + 1)), (4, .int k0), (0, .ref a0), (1, .int v1), (3, .int v3)]) hx hb dX1_nap_78 hl (k := 3) rfl rfl (by decide) rfl (fun ls hl => ?_)
      refine lv_goto (tgt := 10) hx hb dX1_nap_81 rfl ?_
      exact hk10 v1 (v2 + 1) (upd cells v2.toNatClampNeg (v3 - 1)) _ _ _ hw (lv_sub hl [2, 3, 0] rfl) hf
  have L10 : ∀ (k2c : Int32 → (Nat → Int32) → Option ((Nat → Int32))) (hk2 : ∀ (v1 : Int32) (cells : Nat → Int32) (H : Heap) (locs : List Loc) (ls : Array Slot), Wo D A s.heap H locs (WX1 a0 a1 a2 a3 a4 E cells points fouls evening sights seenStep seenCell isKept touches cushions p_row p_column p_down p_right p_cushions) → lv_has ls 5 [(0, .ref a0), (1, .int v1)] → k2c v1 cells = some res → W p l e (rmN 1) s m args below meth c H locs 0 0 Q (F0 m 2 ls [])) (n : Nat), ∀ (v1 : Int32) (v2 : Int32) (cells : Nat → Int32) (H : Heap) (locs : List Loc) (ls : Array Slot), Wo D A s.heap H locs (WX1 a0 a1 a2 a3 a4 E cells points fouls evening sights seenStep seenCell isKept touches cushions p_row p_column p_down p_right p_cushions) → lv_has ls 5 [(0, .ref a0), (1, .int v1), (2, .int v2)] → fX1_nap_L10  k2c n v1 v2 cells = some res → W p l e (rmN 1) s m args below meth c H locs 0 0 Q (F0 m 10 ls []) := by
    intro k2c hk2 n
    induction n with
    | zero =>
      intro v1 v2 cells H locs ls hw hl hf
      exact dk_n hf
    | succ n ih =>
      intro v1 v2 cells H locs ls hw hl hf
      refine lv_iload_n hx hb dX1_nap_10 rfl (lv_at hl 2 rfl) ?_
      refine lv_iconst (v := 3) hx hb dX1_nap_11 rfl ?_
      refine lv_icmp_ge (tgt := 84) hx hb dX1_nap_12 rfl (fun c10 => ?_) (fun c10 => ?_)
      · have hf := dk_t c10 hf
        refine lv_iinc (v := (v1 + 1)) (lv' := [(1, .int (v1 + 1)), (0, .ref a0), (2, .int v2)]) hx hb dX1_nap_84 hl (k := 1) rfl rfl (by decide) rfl (fun ls hl => ?_)
        refine lv_goto (tgt := 2) hx hb dX1_nap_87 rfl ?_
        exact hk2 (v1 + 1) cells _ _ _ hw (lv_sub hl [1, 0] rfl) hf
      · have hf := dk_f c10 hf
        refine lv_aload_n hx hb dX1_nap_15 rfl (lv_at hl 0 rfl) ?_
        refine gX1_this_cells hC hw dX1_nap_16 ?_
        refine lv_iload_n hx hb dX1_nap_19 rfl (lv_at hl 2 rfl) ?_
        obtain ⟨b1, hf⟩ := dk_c hf
        refine aX1_cells hC hw b1 dX1_nap_20 ?_
        refine lv_istore_n (lv' := [(3, .int (cells v2.toNatClampNeg)), (0, .ref a0), (1, .int v1), (2, .int v2)]) hx hb dX1_nap_21 rfl hl (by decide) rfl (fun ls hl => ?_)
        refine lv_iload_n hx hb dX1_nap_22 rfl (lv_at hl 0 rfl) ?_
        refine lv_if_lt (tgt := 57) hx hb dX1_nap_23 rfl (fun c9 => ?_) (fun c9 => ?_)
        · have hf := dk_t c9 hf
          refine lv_iconst (v := 0) hx hb dX1_nap_57 rfl ?_
          exact L58 k2c hk2 (fun y0 y1 y2 => fX1_nap_L10 k2c n y0 y1 y2) ih v1 v2 (cells v2.toNatClampNeg) 0 cells _ _ _ hw (lv_sub hl [1, 2, 3, 0] rfl) hf
        · have hf := dk_f c9 hf
          refine lv_iload_n hx hb dX1_nap_26 rfl (lv_at hl 0 rfl) ?_
          refine lv_bipush (v := 9) hx hb dX1_nap_27 rfl ?_
          refine lv_irem hx hb dX1_nap_29 (by decide) ?_
          refine lv_iload_n hx hb dX1_nap_30 rfl (lv_at hl 2 rfl) ?_
          refine lv_icmp_ne (tgt := 57) hx hb dX1_nap_31 rfl (fun c8 => ?_) (fun c8 => ?_)
          · have hf := dk_f c8 hf
            refine lv_iconst (v := 0) hx hb dX1_nap_57 rfl ?_
            exact L58 k2c hk2 (fun y0 y1 y2 => fX1_nap_L10 k2c n y0 y1 y2) ih v1 v2 (cells v2.toNatClampNeg) 0 cells _ _ _ hw (lv_sub hl [1, 2, 3, 0] rfl) hf
          · have hf := dk_t c8 hf
            refine lv_iload_n hx hb dX1_nap_34 rfl (lv_at hl 0 rfl) ?_
            refine lv_iconst (v := 1) hx hb dX1_nap_35 rfl ?_
            refine lv_isub hx hb dX1_nap_36 ?_
            refine callSNI (rest := []) 0 0 hC hw (st1 _) (metX0_isPocket rfl) mi_X0_isPocket (nq262 hC.2.1.2) (rm_ok (by decide) (by decide)) rfl hl.1 rfl (Nat.le_of_ble_eq_true rfl) dX1_nap_37 ⟨Nat.zero_le _, Nat.zero_le _⟩ (st2 _) (fun H locs hw => ?_)
            refine lv_if_ne (tgt := 57) hx hb dX1_nap_40 rfl (fun c7 => ?_) (fun c7 => ?_)
            · have hf := dk_f c7 hf
              refine lv_iconst (v := 0) hx hb dX1_nap_57 rfl ?_
              exact L58 k2c hk2 (fun y0 y1 y2 => fX1_nap_L10 k2c n y0 y1 y2) ih v1 v2 (cells v2.toNatClampNeg) 0 cells _ _ _ hw (lv_sub hl [1, 2, 3, 0] rfl) hf
            · have hf := dk_t c7 hf
              refine lv_aload_n hx hb dX1_nap_43 rfl (lv_at hl 1 rfl) ?_
              refine lv_iload_n hx hb dX1_nap_44 rfl (lv_at hl 0 rfl) ?_
              refine lv_iconst (v := 1) hx hb dX1_nap_45 rfl ?_
              refine lv_isub hx hb dX1_nap_46 ?_
              obtain ⟨z5, hz5, hf⟩ := dk_b hf
              refine callVI (rest := []) 0 _ 1 hC hw (sm1 _) (metX1_ballOn hz5) mi_X1_ballOn q263 (rm_ok (by decide) (by decide)) rfl rfl rfl hl.1 rfl (Nat.le_of_ble_eq_true rfl) dX1_nap_47 ⟨Nat.zero_le _, Nat.zero_le _⟩ (sm2 _ _) (fun H locs hw => ?_)
              refine lv_if_ge (tgt := 57) hx hb dX1_nap_50 rfl (fun c6 => ?_) (fun c6 => ?_)
              · have hf := dk_t c6 hf
                refine lv_iconst (v := 0) hx hb dX1_nap_57 rfl ?_
                exact L58 k2c hk2 (fun y0 y1 y2 => fX1_nap_L10 k2c n y0 y1 y2) ih v1 v2 (cells v2.toNatClampNeg) 0 cells _ _ _ hw (lv_sub hl [1, 2, 3, 0] rfl) hf
              · have hf := dk_f c6 hf
                refine lv_iconst (v := 1) hx hb dX1_nap_53 rfl ?_
                refine lv_goto (tgt := 58) hx hb dX1_nap_54 rfl ?_
                exact L58 k2c hk2 (fun y0 y1 y2 => fX1_nap_L10 k2c n y0 y1 y2) ih v1 v2 (cells v2.toNatClampNeg) 1 cells _ _ _ hw (lv_sub hl [1, 2, 3, 0] rfl) hf
  have L2 : ∀ (n : Nat), ∀ (v1 : Int32) (cells : Nat → Int32) (H : Heap) (locs : List Loc) (ls : Array Slot), Wo D A s.heap H locs (WX1 a0 a1 a2 a3 a4 E cells points fouls evening sights seenStep seenCell isKept touches cushions p_row p_column p_down p_right p_cushions) → lv_has ls 5 [(0, .ref a0), (1, .int v1)] → fX1_nap_L2   n v1 cells = some res → W p l e (rmN 1) s m args below meth c H locs 0 0 Q (F0 m 2 ls []) := by
    intro  n
    induction n with
    | zero =>
      intro v1 cells H locs ls hw hl hf
      exact dk_n hf
    | succ n ih =>
      intro v1 cells H locs ls hw hl hf
      refine lv_iload_n hx hb dX1_nap_2 rfl (lv_at hl 1 rfl) ?_
      refine lv_bipush (v := 9) hx hb dX1_nap_3 rfl ?_
      refine lv_icmp_ge (tgt := 90) hx hb dX1_nap_5 rfl (fun c11 => ?_) (fun c11 => ?_)
      · have hf := dk_t c11 hf
        obtain rfl := Option.some.inj hf
        exact ret _ _ _ _ dX1_nap_90 hw
      · have hf := dk_f c11 hf
        refine lv_iconst (v := 0) hx hb dX1_nap_8 rfl ?_
        refine lv_istore_n (lv' := [(2, .int 0), (0, .ref a0), (1, .int v1)]) hx hb dX1_nap_9 rfl hl (by decide) rfl (fun ls hl => ?_)
        exact L10 (fun y0 y1 => fX1_nap_L2  n y0 y1) ih FU v1 0 cells _ _ _ hw (lv_sub hl [1, 2, 0] rfl) hf
  refine lv_iconst (v := 1) hx hb dX1_nap_0 rfl ?_
  refine lv_istore_n (lv' := [(1, .int 1), (0, .ref a0)]) hx hb dX1_nap_1 rfl hl (by decide) rfl (fun ls hl => ?_)
  exact L2 FU 1 cells _ _ _ hw (lv_sub hl [1, 0] rfl) hf
set_option maxHeartbeats 4000000 in
set_option maxRecDepth 100000 in
theorem metX1_pass  {res : Int32 × Int32} (hf : fX1_pass evening = some res) : CtI l yX1_pass cX1_pass 1 .int 0 D E sz [.ref a0] (WX1 a0 a1 a2 a3 a4 E cells points fouls evening sights seenStep seenCell isKept touches cushions p_row p_column p_down p_right p_cushions) (WX1 a0 a1 a2 a3 a4 E cells points fouls res.2 sights seenStep seenCell isKept touches cushions p_row p_column p_down p_right p_cushions) res.1 := by
  refine startI (own := RX1) (by decide) rfl (Nat.le_of_ble_eq_true rfl) ?_
  intro p e s m args below meth c A Q ls hC ret hl hw
  have hx := hC.1.1
  have hb := hC.1.2.1
  have hown := hC.1.2.2.2.1
  have hts := hC.1.2.2.2.2
  have hl : lv_has ls 1 [(0, .ref a0)] := hl
  refine lv_aload_n hx hb dX1_pass_0 rfl (lv_at hl 0 rfl) ?_
  refine gX1_this_evening hC hw dX1_pass_1 ?_
  refine lv_bipush (v := 99) hx hb dX1_pass_4 rfl ?_
  refine lv_icmp_ne (tgt := 11) hx hb dX1_pass_6 rfl (fun c1 => ?_) (fun c1 => ?_)
  · have hf := dk_f c1 hf
    refine lv_aload_n hx hb dX1_pass_11 rfl (lv_at hl 0 rfl) ?_
    refine lv_dup hx hb dX1_pass_12 rfl ?_
    refine gX1_this_evening hC hw dX1_pass_13 ?_
    refine lv_iconst (v := 1) hx hb dX1_pass_16 rfl ?_
    refine lv_iadd hx hb dX1_pass_17 ?_
    refine pX1_this_evening hC hw dX1_pass_18 (fun H locs hw => ?_)
    refine lv_iconst (v := 0) hx hb dX1_pass_21 rfl ?_
    obtain rfl := Option.some.inj hf
    exact ret _ _ _ _ _ dX1_pass_22 rfl rfl hw
  · have hf := dk_t c1 hf
    refine lv_iconst (v := 3) hx hb dX1_pass_9 rfl ?_
    obtain rfl := Option.some.inj hf
    exact ret _ _ _ _ _ dX1_pass_10 rfl rfl hw
set_option maxHeartbeats 4000000 in
set_option maxRecDepth 100000 in
theorem metX1_countDown  {res : Int32} (hf : fX1_countDown cells = some res) : CtI l yX1_countDown cX1_countDown 6 .int 1 D E sz [.ref a0] (WX1 a0 a1 a2 a3 a4 E cells points fouls evening sights seenStep seenCell isKept touches cushions p_row p_column p_down p_right p_cushions) (WX1 a0 a1 a2 a3 a4 E cells points fouls evening sights seenStep seenCell isKept touches cushions p_row p_column p_down p_right p_cushions) res := by
  refine startI (own := RX1) (by decide) rfl (Nat.le_of_ble_eq_true rfl) ?_
  intro p e s m args below meth c A Q ls hC ret hl hw
  have hx := hC.1.1
  have hb := hC.1.2.1
  have hown := hC.1.2.2.2.1
  have hts := hC.1.2.2.2.2
  have hl : lv_has ls 6 [(0, .ref a0)] := hl
  have L13 : ∀ (n : Nat), ∀ (v1 : Int32) (v3 : Int32) (v4 : Int32) (H : Heap) (locs : List Loc) (ls : Array Slot), Wo D A s.heap H locs (WX1 a0 a1 a2 a3 a4 E cells points fouls evening sights seenStep seenCell isKept touches cushions p_row p_column p_down p_right p_cushions) → lv_has ls 6 [(1, .int v1), (2, .ref a1), (3, .int v3), (4, .int v4)] → fX1_countDown_L13 cells  n v1 v3 v4 = some res → W p l e (rmN 1) s m args below meth c H locs 0 0 Q (F0 m 13 ls []) := by
    intro  n
    induction n with
    | zero =>
      intro v1 v3 v4 H locs ls hw hl hf
      exact dk_n hf
    | succ n ih =>
      intro v1 v3 v4 H locs ls hw hl hf
      refine lv_iload hx hb dX1_countDown_13 (lv_at hl 3 rfl) ?_
      refine lv_iload_n hx hb dX1_countDown_15 rfl (lv_at hl 2 rfl) ?_
      refine lv_icmp_ge (tgt := 47) hx hb dX1_countDown_16 rfl (fun c3 => ?_) (fun c3 => ?_)
      · have hf := dk_t c3 hf
        refine lv_iload_n hx hb dX1_countDown_47 rfl (lv_at hl 0 rfl) ?_
        exact ret _ _ _ _ _ dX1_countDown_48 rfl (Option.some.inj hf) hw
      · have hf := dk_f c3 hf
        refine lv_aload_n hx hb dX1_countDown_19 rfl (lv_at hl 1 rfl) ?_
        refine lv_iload hx hb dX1_countDown_20 (lv_at hl 3 rfl) ?_
        obtain ⟨b1, hf⟩ := dk_c hf
        refine aX1_cells hC hw b1 dX1_countDown_22 ?_
        refine lv_istore (lv' := [(5, .int (cells v4.toNatClampNeg)), (1, .int v1), (2, .ref a1), (3, .int v3), (4, .int v4)]) hx hb dX1_countDown_23 hl (by decide) rfl (fun ls hl => ?_)
        refine lv_iload_n hx hb dX1_countDown_25 rfl (lv_at hl 1 rfl) ?_
        refine lv_iload hx hb dX1_countDown_26 (lv_at hl 0 rfl) ?_
        refine lv_if_ge (tgt := 35) hx hb dX1_countDown_28 rfl (fun c2 => ?_) (fun c2 => ?_)
        · have hf := dk_t c2 hf
          refine lv_iconst (v := 0) hx hb dX1_countDown_35 rfl ?_
          refine callSNI (rest := [.int v1]) 0 0 hC hw (st1 _) (metX0_asNumber rfl) mi_X0_asNumber (nq288 hC.2.1.2) (rm_ok (by decide) (by decide)) rfl hl.1 rfl (Nat.le_of_ble_eq_true rfl) dX1_countDown_36 ⟨Nat.zero_le _, Nat.zero_le _⟩ (st2 _) (fun H locs hw => ?_)
          refine lv_iadd hx hb dX1_countDown_39 ?_
          refine lv_istore_n (lv' := [(1, .int (v1 + (fX0_asNumber 0))), (5, .int (cells v4.toNatClampNeg)), (2, .ref a1), (3, .int v3), (4, .int v4)]) hx hb dX1_countDown_40 rfl hl (by decide) rfl (fun ls hl => ?_)
          refine lv_iinc (v := (v4 + 1)) (lv' := [(4, .int (v4 + 1)), (1, .int (v1 + (fX0_asNumber 0))), (5, .int (cells v4.toNatClampNeg)), (2, .ref a1), (3, .int v3)]) hx hb dX1_countDown_41 hl (k := 4) rfl rfl (by decide) rfl (fun ls hl => ?_)
          refine lv_goto (tgt := 13) hx hb dX1_countDown_44 rfl ?_
          exact ih (v1 + (fX0_asNumber 0)) v3 (v4 + 1) _ _ _ hw (lv_sub hl [1, 3, 4, 0] rfl) hf
        · have hf := dk_f c2 hf
          refine lv_iconst (v := 1) hx hb dX1_countDown_31 rfl ?_
          refine lv_goto (tgt := 36) hx hb dX1_countDown_32 rfl ?_
          refine callSNI (rest := [.int v1]) 0 0 hC hw (st1 _) (metX0_asNumber rfl) mi_X0_asNumber (nq288 hC.2.1.2) (rm_ok (by decide) (by decide)) rfl hl.1 rfl (Nat.le_of_ble_eq_true rfl) dX1_countDown_36 ⟨Nat.zero_le _, Nat.zero_le _⟩ (st2 _) (fun H locs hw => ?_)
          refine lv_iadd hx hb dX1_countDown_39 ?_
          refine lv_istore_n (lv' := [(1, .int (v1 + (fX0_asNumber 1))), (5, .int (cells v4.toNatClampNeg)), (2, .ref a1), (3, .int v3), (4, .int v4)]) hx hb dX1_countDown_40 rfl hl (by decide) rfl (fun ls hl => ?_)
          refine lv_iinc (v := (v4 + 1)) (lv' := [(4, .int (v4 + 1)), (1, .int (v1 + (fX0_asNumber 1))), (5, .int (cells v4.toNatClampNeg)), (2, .ref a1), (3, .int v3)]) hx hb dX1_countDown_41 hl (k := 4) rfl rfl (by decide) rfl (fun ls hl => ?_)
          refine lv_goto (tgt := 13) hx hb dX1_countDown_44 rfl ?_
          exact ih (v1 + (fX0_asNumber 1)) v3 (v4 + 1) _ _ _ hw (lv_sub hl [1, 3, 4, 0] rfl) hf
  refine lv_iconst (v := 0) hx hb dX1_countDown_0 rfl ?_
  refine lv_istore_n (lv' := [(1, .int 0), (0, .ref a0)]) hx hb dX1_countDown_1 rfl hl (by decide) rfl (fun ls hl => ?_)
  refine lv_aload_n hx hb dX1_countDown_2 rfl (lv_at hl 1 rfl) ?_
  refine gX1_this_cells hC hw dX1_countDown_3 ?_
  refine lv_astore_n (lv' := [(2, .ref a1), (1, .int 0), (0, .ref a0)]) hx hb dX1_countDown_6 rfl hl (by decide) rfl (fun ls hl => ?_)
  refine lv_aload_n hx hb dX1_countDown_7 rfl (lv_at hl 0 rfl) ?_
  refine nX1_cells hC hw dX1_countDown_8 ?_
  refine lv_istore_n (lv' := [(3, .int 3), (2, .ref a1), (1, .int 0), (0, .ref a0)]) hx hb dX1_countDown_9 rfl hl (by decide) rfl (fun ls hl => ?_)
  refine lv_iconst (v := 0) hx hb dX1_countDown_10 rfl ?_
  refine lv_istore (lv' := [(4, .int 0), (3, .int 3), (2, .ref a1), (1, .int 0), (0, .ref a0)]) hx hb dX1_countDown_11 hl (by decide) rfl (fun ls hl => ?_)
  exact L13 FU 0 3 0 _ _ _ hw (lv_sub hl [3, 2, 1, 0] rfl) hf
end METX1
