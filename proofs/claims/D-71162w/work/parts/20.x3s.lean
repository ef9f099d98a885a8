set_option maxRecDepth 100000
theorem mi_X3_in : MiS yX3_in cX3_in 6 (some .boolean) 3 := ⟨q591, q46, q592, by decide +kernel, by decide⟩
theorem mi_X3_isCell : MiS yX3_isCell cX3_isCell 1 (some .boolean) 1 := ⟨q597, q46, q598, by decide +kernel, by decide⟩
theorem mi_X3_isPocket : MiS yX3_isPocket cX3_isPocket 1 (some .boolean) 1 := ⟨q601, q46, q602, by decide +kernel, by decide⟩
theorem mi_X3_downwards : MiS yX3_downwards cX3_downwards 1 (some .int) 1 := ⟨q693, q46, q694, by decide +kernel, by decide⟩
theorem mi_X3_across : MiS yX3_across cX3_across 1 (some .int) 1 := ⟨q697, q46, q698, by decide +kernel, by decide⟩
theorem mi_X3_turned : MiS yX3_turned cX3_turned 5 (some .int) 2 := ⟨q690, q46, q691, by decide +kernel, by decide⟩
theorem mi_X3_ahead : MiS yX3_ahead cX3_ahead 2 (some .int) 2 := ⟨q701, q46, q702, by decide +kernel, by decide⟩
theorem mi_X3_next : MiS yX3_next cX3_next 2 (some .int) 1 := ⟨q761, q46, q762, by decide +kernel, by decide⟩
section METN
variable {l : Launch} {D : va_G} {E : Nat → ClassId} {sz : Nat}
def fX3_home (v0 : Int32)  : Int32 := (if v0 = 0 then 10 else (if v0 = 1 then 16 else 24))
def fX3_in (v0 : Int64) (v2 : Int64) (v4 : Int64)  : Int32 := (if (lg_cmp v0 v2) < 0 then 0 else (if (0 : Int32) < (lg_cmp v0 v4) then 0 else 1))
def fX3_isBall (v0 : Int32)  : Int32 := (fX3_in (v0.toInt64) 0 2)
def fX3_isCell (v0 : Int32)  : Int32 := (fX3_in (v0.toInt64) 0 44)
def fX3_isPocket_L15 (v0 : Int32)    : Int32 := (if ((v0 - v0 / 9 * 9) - (v0 - v0 / 9 * 9) / 4 * 4) = 0 then 1 else 0)
def fX3_isPocket (v0 : Int32)  : Int32 := (if (v0 / 9) = 0 then (fX3_isPocket_L15 v0) else (if (v0 / 9) = 4 then (fX3_isPocket_L15 v0) else 0))
def fX3_isPlace (v0 : Int32)  : Int32 := (if (fX3_isCell v0) = 0 then 0 else (if (fX3_isPocket v0) = 0 then 1 else 0))
def fX3_columnOf (v0 : Int32)  : Int32 := (if (0 : Int32) ≤ v0 then (v0 - v0 / 9 * 9) else 9)
def fX3_downwards (v0 : Int32)  : Int32 := (if v0 = 0 then (-1) else (if v0 = 1 then (-1) else (if v0 = 7 then (-1) else (if v0 = 2 then 0 else (if v0 = 6 then 0 else 1)))))
def fX3_across (v0 : Int32)  : Int32 := (if v0 = 0 then 0 else (if v0 = 4 then 0 else (if (4 : Int32) ≤ v0 then (-1) else 1)))
def fX3_turned_L67 (v0 : Int32) (v1 : Int32)   (v3 : Int32) (k0 : Int32) : Int32 := (if v3 = 0 then k0 else (((8 : Int32) - k0) - ((8 : Int32) - k0) / 8 * 8))
def fX3_turned_L51 (v0 : Int32) (v1 : Int32)   (v2 : Int32) (k0 : Int32) : Int32 := (if v2 = 0 then (fX3_turned_L67 v0 v1 k0 v1) else (fX3_turned_L67 v0 v1 k0 (((12 : Int32) - v1) - ((12 : Int32) - v1) / 8 * 8)))
def fX3_turned_L25 (v0 : Int32) (v1 : Int32)   (k0 : Int32) : Int32 := (if (fX3_in (((v0 - v0 / 9 * 9) + (fX3_across v1)).toInt64) 0 8) = 0 then (fX3_turned_L51 v0 v1 k0 1) else (fX3_turned_L51 v0 v1 k0 0))
def fX3_turned (v0 : Int32) (v1 : Int32)  : Int32 := (if (fX3_in (((v0 / 9) + (fX3_downwards v1)).toInt64) 0 4) = 0 then (fX3_turned_L25 v0 v1 1) else (fX3_turned_L25 v0 v1 0))
def fX3_ahead (v0 : Int32) (v1 : Int32)  : Int32 := ((v0 + ((9 : Int32) * (fX3_downwards v1))) + (fX3_across v1))
def fX3_next (v0 : Int32)  : Int32 := (((10 : Int32) * (fX3_ahead (v0 / 10) (fX3_turned (v0 / 10) (v0 - v0 / 10 * 10)))) + (fX3_turned (v0 / 10) (v0 - v0 / 10 * 10)))
def fX3_behindSteps_L4 (v0 : Int32) (v1 : Int32)   : Nat → Int32 → Int32 → Option (Int32)
  | 0, _, _ => none
  | n + 1, v2, v3 => (if v1 ≤ v3 then (some v2) else (fX3_behindSteps_L4 v0 v1 n (fX3_next v2) (v3 + 1)))
def fX3_behindSteps (v0 : Int32) (v1 : Int32)  : Option (Int32) := (fX3_behindSteps_L4 v0 v1 FU v0 0)
def fX3_stepsBack_L7 (v0 : Int32)   : Nat → Int32 → Int32 → Option (Int32)
  | 0, _, _ => none
  | n + 1, v1, v2 => (if (400 : Int32) ≤ v2 then (some (-6)) else (if v1 = v0 then (some v2) else (fX3_stepsBack_L7 v0 n (fX3_next v1) (v2 + 1))))
def fX3_stepsBack (v0 : Int32)  : Option (Int32) := (fX3_stepsBack_L7 v0 FU (fX3_next v0) 1)
def fX3_digit (v0 : Int32) (v1 : Int32)  : Int32 := (if v1 = 0 then (v0 / 100) else (if v1 = 1 then ((v0 / 10) - (v0 / 10) / 10 * 10) else (v0 - v0 / 10 * 10)))
def fX3_tenTo (v0 : Int32)  : Int32 := (if v0 = 0 then 100 else (if v0 = 1 then 10 else 1))
def fX3_power_L5 (v0 : Int64) (v2 : Int32)   : Nat → Int64 → Int32 → Option (Int64)
  | 0, _, _ => none
  | n + 1, v3, v5 => (if v2 ≤ v5 then (some v3) else (fX3_power_L5 v0 v2 n (v3 * v0) (v5 + 1)))
def fX3_power (v0 : Int64) (v2 : Int32)  : Option (Int64) := (fX3_power_L5 v0 v2 FU 1 0)
def fX3_lowest_L6 (v0 : Int64) (v2 : Int64) (v4 : Int32)   : Nat → Int64 → Int64 → Option (Int64)
  | 0, _, _ => none
  | n + 1, v5, v7 => (if (lg_cmp v7 0) = 0 then (if v4 = 0 then (if ¬ v5 = 0 then (some (v0 / v5)) else none) else (if ¬ v5 = 0 then (some (v2 / v5)) else none)) else (if ¬ v7 = 0 then (fX3_lowest_L6 v0 v2 v4 n v7 (v5 - v5 / v7 * v7)) else none))
def fX3_lowest (v0 : Int64) (v2 : Int64) (v4 : Int32)  : Option (Int64) := (fX3_lowest_L6 v0 v2 v4 FU v2 v0)
def fX3_actBy (v0 : Int32)  : Int32 := (if (5 : Int32) ≤ v0 then (if v0 = 5 then 1 else (if v0 = 6 then 2 else 3)) else 0)
set_option maxHeartbeats 4000000 in
set_option maxRecDepth 100000 in
theorem metX3_home {v0 : Int32} {res : Int32} (hf : fX3_home v0 = res) : CtI l yX3_home cX3_home 1 .int 0 D E sz [.int v0] [] [] res := by
  refine startI (own := RX3) (by decide) rfl (Nat.le_of_ble_eq_true rfl) ?_
  intro p e s m args below meth c A Q ls hC ret hl hw
  have hx := hC.1.1
  have hb := hC.1.2.1
  have hown := hC.1.2.2.2.1
  have hts := hC.1.2.2.2.2
  have hl : lv_has ls 1 [(0, .int v0)] := hl
  refine lv_iload_n hx hb dX3_home_0 rfl (lv_at hl 0 rfl) ?_
  refine lv_if_ne (tgt := 9) hx hb dX3_home_1 rfl (fun c2 => ?_) (fun c2 => ?_)
  · have hf := dk_f c2 hf
    refine lv_iload_n hx hb dX3_home_9 rfl (lv_at hl 0 rfl) ?_
    refine lv_iconst (v := 1) hx hb dX3_home_10 rfl ?_
    refine lv_icmp_ne (tgt := 19) hx hb dX3_home_11 rfl (fun c1 => ?_) (fun c1 => ?_)
    · have hf := dk_f c1 hf
      refine lv_bipush (v := 24) hx hb dX3_home_19 rfl ?_
      exact ret _ _ _ _ _ dX3_home_21 rfl hf hw
    · have hf := dk_t c1 hf
      refine lv_bipush (v := 16) hx hb dX3_home_14 rfl ?_
      refine lv_goto (tgt := 21) hx hb dX3_home_16 rfl ?_
      exact ret _ _ _ _ _ dX3_home_21 rfl hf hw
  · have hf := dk_t c2 hf
    refine lv_bipush (v := 10) hx hb dX3_home_4 rfl ?_
    refine lv_goto (tgt := 21) hx hb dX3_home_6 rfl ?_
    exact ret _ _ _ _ _ dX3_home_21 rfl hf hw
set_option maxHeartbeats 4000000 in
set_option maxRecDepth 100000 in
theorem metX3_in {v0 : Int64} {v2 : Int64} {v4 : Int64} {res : Int32} (hf : fX3_in v0 v2 v4 = res) : CtI l yX3_in cX3_in 6 .boolean 0 D E sz [.long v0, .long v2, .long v4] [] [] res := by
  refine startI (own := RX3) (by decide) rfl (Nat.le_of_ble_eq_true rfl) ?_
  intro p e s m args below meth c A Q ls hC ret hl hw
  have hx := hC.1.1
  have hb := hC.1.2.1
  have hown := hC.1.2.2.2.1
  have hts := hC.1.2.2.2.2
  have hl : lv_has ls 6 [(0, .long v0), (2, .long v2), (4, .long v4)] := hl
  refine lv_lload_n hx hb dX3_in_0 rfl (lv_at hl 0 rfl) ?_
  refine lv_lload_n hx hb dX3_in_1 rfl (lv_at hl 1 rfl) ?_
  refine W.lcmp hx hb dX3_in_2 ?_
  refine lv_if_lt (tgt := 17) hx hb dX3_in_3 rfl (fun c2 => ?_) (fun c2 => ?_)
  · have hf := dk_t c2 hf
    refine lv_iconst (v := 0) hx hb dX3_in_17 rfl ?_
    exact ret _ _ _ _ _ dX3_in_18 rfl hf hw
  · have hf := dk_f c2 hf
    refine lv_lload_n hx hb dX3_in_6 rfl (lv_at hl 0 rfl) ?_
    refine lv_lload hx hb dX3_in_7 (lv_at hl 2 rfl) ?_
    refine W.lcmp hx hb dX3_in_9 ?_
    refine lv_if_gt (tgt := 17) hx hb dX3_in_10 rfl (fun c1 => ?_) (fun c1 => ?_)
    · have hf := dk_t c1 hf
      refine lv_iconst (v := 0) hx hb dX3_in_17 rfl ?_
      exact ret _ _ _ _ _ dX3_in_18 rfl hf hw
    · have hf := dk_f c1 hf
      refine lv_iconst (v := 1) hx hb dX3_in_13 rfl ?_
      refine lv_goto (tgt := 18) hx hb dX3_in_14 rfl ?_
      exact ret _ _ _ _ _ dX3_in_18 rfl hf hw
theorem bz_X3_in (v0 : Int64) (v2 : Int64) (v4 : Int64) : narrow .boolean (.int (fX3_in v0 v2 v4)) = .int (fX3_in v0 v2 v4) := by
  unfold fX3_in
  repeat' split
  all_goals first | rfl
set_option maxHeartbeats 4000000 in
set_option maxRecDepth 100000 in
theorem metX3_isBall {v0 : Int32} {res : Int32} (hf : fX3_isBall v0 = res) : CtI l yX3_isBall cX3_isBall 1 .boolean 1 D E sz [.int v0] [] [] res := by
  refine startI (own := RX3) (by decide) rfl (Nat.le_of_ble_eq_true rfl) ?_
  intro p e s m args below meth c A Q ls hC ret hl hw
  have hx := hC.1.1
  have hb := hC.1.2.1
  have hown := hC.1.2.2.2.1
  have hts := hC.1.2.2.2.2
  have hl : lv_has ls 1 [(0, .int v0)] := hl
  refine lv_iload_n hx hb dX3_isBall_0 rfl (lv_at hl 0 rfl) ?_
  refine lv_i2l (v := (v0.toInt64)) hx hb dX3_isBall_1 rfl ?_
  refine lv_lconst (v := 0) hx hb dX3_isBall_2 rfl ?_
  refine W.ldc2 (v := 2) hx hb hown (hts _ q589) rfl dX3_isBall_3 ?_
  refine callSI (rest := []) 0 0 hC hw (st1 _) (metX3_in rfl) mi_X3_in q590 (rm_ok (by decide) (by decide)) rfl hl.1 rfl (Nat.le_of_ble_eq_true rfl) dX3_isBall_6 ⟨Nat.zero_le _, Nat.zero_le _⟩ (st2 _) (fun H locs hw => ?_)
  exact ret _ _ _ _ _ dX3_isBall_9 (bz_X3_in _ _ _ ) hf hw
theorem bz_X3_isBall (v0 : Int32) : narrow .boolean (.int (fX3_isBall v0)) = .int (fX3_isBall v0) := by
  unfold fX3_isBall
  repeat' split
  all_goals first | rfl | exact bz_X3_in _ _ _ 
set_option maxHeartbeats 4000000 in
set_option maxRecDepth 100000 in
theorem metX3_isCell {v0 : Int32} {res : Int32} (hf : fX3_isCell v0 = res) : CtI l yX3_isCell cX3_isCell 1 .boolean 1 D E sz [.int v0] [] [] res := by
  refine startI (own := RX3) (by decide) rfl (Nat.le_of_ble_eq_true rfl) ?_
  intro p e s m args below meth c A Q ls hC ret hl hw
  have hx := hC.1.1
  have hb := hC.1.2.1
  have hown := hC.1.2.2.2.1
  have hts := hC.1.2.2.2.2
  have hl : lv_has ls 1 [(0, .int v0)] := hl
  refine lv_iload_n hx hb dX3_isCell_0 rfl (lv_at hl 0 rfl) ?_
  refine lv_i2l (v := (v0.toInt64)) hx hb dX3_isCell_1 rfl ?_
  refine lv_lconst (v := 0) hx hb dX3_isCell_2 rfl ?_
  refine W.ldc2 (v := 44) hx hb hown (hts _ q599) rfl dX3_isCell_3 ?_
  refine callSI (rest := []) 0 0 hC hw (st1 _) (metX3_in rfl) mi_X3_in q590 (rm_ok (by decide) (by decide)) rfl hl.1 rfl (Nat.le_of_ble_eq_true rfl) dX3_isCell_6 ⟨Nat.zero_le _, Nat.zero_le _⟩ (st2 _) (fun H locs hw => ?_)
  exact ret _ _ _ _ _ dX3_isCell_9 (bz_X3_in _ _ _ ) hf hw
theorem bz_X3_isCell (v0 : Int32) : narrow .boolean (.int (fX3_isCell v0)) = .int (fX3_isCell v0) := by
  unfold fX3_isCell
  repeat' split
  all_goals first | rfl | exact bz_X3_in _ _ _ 
set_option maxHeartbeats 4000000 in
set_option maxRecDepth 100000 in
theorem metX3_isPocket {v0 : Int32} {res : Int32} (hf : fX3_isPocket v0 = res) : CtI l yX3_isPocket cX3_isPocket 1 .boolean 0 D E sz [.int v0] [] [] res := by
  refine startI (own := RX3) (by decide) rfl (Nat.le_of_ble_eq_true rfl) ?_
  intro p e s m args below meth c A Q ls hC ret hl hw
  have hx := hC.1.1
  have hb := hC.1.2.1
  have hown := hC.1.2.2.2.1
  have hts := hC.1.2.2.2.2
  have hl : lv_has ls 1 [(0, .int v0)] := hl
  have L15 : ∀ (H : Heap) (locs : List Loc) (ls : Array Slot), Wo D A s.heap H locs [] → lv_has ls 1 [(0, .int v0)] → fX3_isPocket_L15 v0   = res → W p l e (rmN 0) s m args below meth c H locs 0 0 Q (F0 m 15 ls []) := by
    intro   H locs ls hw hl hf
    refine lv_iload_n hx hb dX3_isPocket_15 rfl (lv_at hl 0 rfl) ?_
    refine lv_bipush (v := 9) hx hb dX3_isPocket_16 rfl ?_
    refine lv_irem hx hb dX3_isPocket_18 (by decide) ?_
    refine lv_iconst (v := 4) hx hb dX3_isPocket_19 rfl ?_
    refine lv_irem hx hb dX3_isPocket_20 (by decide) ?_
    refine lv_if_ne (tgt := 28) hx hb dX3_isPocket_21 rfl (fun c1 => ?_) (fun c1 => ?_)
    · have hf := dk_f c1 hf
      refine lv_iconst (v := 0) hx hb dX3_isPocket_28 rfl ?_
      exact ret _ _ _ _ _ dX3_isPocket_29 rfl hf hw
    · have hf := dk_t c1 hf
      refine lv_iconst (v := 1) hx hb dX3_isPocket_24 rfl ?_
      refine lv_goto (tgt := 29) hx hb dX3_isPocket_25 rfl ?_
      exact ret _ _ _ _ _ dX3_isPocket_29 rfl hf hw
  refine lv_iload_n hx hb dX3_isPocket_0 rfl (lv_at hl 0 rfl) ?_
  refine lv_bipush (v := 9) hx hb dX3_isPocket_1 rfl ?_
  refine lv_idiv hx hb dX3_isPocket_3 (by decide) ?_
  refine lv_if_eq (tgt := 15) hx hb dX3_isPocket_4 rfl (fun c3 => ?_) (fun c3 => ?_)
  · have hf := dk_t c3 hf
    exact L15  _ _ _ hw (lv_sub hl [0] rfl) hf
  · have hf := dk_f c3 hf
    refine lv_iload_n hx hb dX3_isPocket_7 rfl (lv_at hl 0 rfl) ?_
    refine lv_bipush (v := 9) hx hb dX3_isPocket_8 rfl ?_
    refine lv_idiv hx hb dX3_isPocket_10 (by decide) ?_
    refine lv_iconst (v := 4) hx hb dX3_isPocket_11 rfl ?_
    refine lv_icmp_ne (tgt := 28) hx hb dX3_isPocket_12 rfl (fun c2 => ?_) (fun c2 => ?_)
    · have hf := dk_f c2 hf
      refine lv_iconst (v := 0) hx hb dX3_isPocket_28 rfl ?_
      exact ret _ _ _ _ _ dX3_isPocket_29 rfl hf hw
    · have hf := dk_t c2 hf
      exact L15  _ _ _ hw (lv_sub hl [0] rfl) hf
theorem bz_X3_isPocket (v0 : Int32) : narrow .boolean (.int (fX3_isPocket v0)) = .int (fX3_isPocket v0) := by
  unfold fX3_isPocket; try unfold fX3_isPocket_L15
  repeat' split
  all_goals first | rfl
set_option maxHeartbeats 4000000 in
set_option maxRecDepth 100000 in
theorem metX3_isPlace {v0 : Int32} {res : Int32} (hf : fX3_isPlace v0 = res) : CtI l yX3_isPlace cX3_isPlace 1 .boolean 2 D E sz [.int v0] [] [] res := by
  refine startI (own := RX3) (by decide) rfl (Nat.le_of_ble_eq_true rfl) ?_
  intro p e s m args below meth c A Q ls hC ret hl hw
  have hx := hC.1.1
  have hb := hC.1.2.1
  have hown := hC.1.2.2.2.1
  have hts := hC.1.2.2.2.2
  have hl : lv_has ls 1 [(0, .int v0)] := hl
  refine lv_iload_n hx hb dX3_isPlace_0 rfl (lv_at hl 0 rfl) ?_
  refine callSI (rest := []) 0 0 hC hw (st1 _) (metX3_isCell rfl) mi_X3_isCell q596 (rm_ok (by decide) (by decide)) rfl hl.1 rfl (Nat.le_of_ble_eq_true rfl) dX3_isPlace_1 ⟨Nat.zero_le _, Nat.zero_le _⟩ (st2 _) (fun H locs hw => ?_)
  refine lv_if_eq (tgt := 18) hx hb dX3_isPlace_4 rfl (fun c2 => ?_) (fun c2 => ?_)
  · have hf := dk_t c2 hf
    refine lv_iconst (v := 0) hx hb dX3_isPlace_18 rfl ?_
    exact ret _ _ _ _ _ dX3_isPlace_19 rfl hf hw
  · have hf := dk_f c2 hf
    refine lv_iload_n hx hb dX3_isPlace_7 rfl (lv_at hl 0 rfl) ?_
    refine callSI (rest := []) 0 0 hC hw (st1 _) (metX3_isPocket rfl) mi_X3_isPocket q600 (rm_ok (by decide) (by decide)) rfl hl.1 rfl (Nat.le_of_ble_eq_true rfl) dX3_isPlace_8 ⟨Nat.zero_le _, Nat.zero_le _⟩ (st2 _) (fun H locs hw => ?_)
    refine lv_if_ne (tgt := 18) hx hb dX3_isPlace_11 rfl (fun c1 => ?_) (fun c1 => ?_)
    · have hf := dk_f c1 hf
      refine lv_iconst (v := 0) hx hb dX3_isPlace_18 rfl ?_
      exact ret _ _ _ _ _ dX3_isPlace_19 rfl hf hw
    · have hf := dk_t c1 hf
      refine lv_iconst (v := 1) hx hb dX3_isPlace_14 rfl ?_
      refine lv_goto (tgt := 19) hx hb dX3_isPlace_15 rfl ?_
      exact ret _ _ _ _ _ dX3_isPlace_19 rfl hf hw
theorem bz_X3_isPlace (v0 : Int32) : narrow .boolean (.int (fX3_isPlace v0)) = .int (fX3_isPlace v0) := by
  unfold fX3_isPlace
  repeat' split
  all_goals first | rfl | exact bz_X3_isPocket _  | exact bz_X3_isCell _ 
set_option maxHeartbeats 4000000 in
set_option maxRecDepth 100000 in
theorem metX3_columnOf {v0 : Int32} {res : Int32} (hf : fX3_columnOf v0 = res) : CtI l yX3_columnOf cX3_columnOf 1 .int 0 D E sz [.int v0] [] [] res := by
  refine startI (own := RX3) (by decide) rfl (Nat.le_of_ble_eq_true rfl) ?_
  intro p e s m args below meth c A Q ls hC ret hl hw
  have hx := hC.1.1
  have hb := hC.1.2.1
  have hown := hC.1.2.2.2.1
  have hts := hC.1.2.2.2.2
  have hl : lv_has ls 1 [(0, .int v0)] := hl
  refine lv_iload_n hx hb dX3_columnOf_0 rfl (lv_at hl 0 rfl) ?_
  refine lv_if_ge (tgt := 9) hx hb dX3_columnOf_1 rfl (fun c1 => ?_) (fun c1 => ?_)
  · have hf := dk_t c1 hf
    refine lv_iload_n hx hb dX3_columnOf_9 rfl (lv_at hl 0 rfl) ?_
    refine lv_bipush (v := 9) hx hb dX3_columnOf_10 rfl ?_
    refine lv_irem hx hb dX3_columnOf_12 (by decide) ?_
    exact ret _ _ _ _ _ dX3_columnOf_13 rfl hf hw
  · have hf := dk_f c1 hf
    refine lv_bipush (v := 9) hx hb dX3_columnOf_4 rfl ?_
    refine lv_goto (tgt := 13) hx hb dX3_columnOf_6 rfl ?_
    exact ret _ _ _ _ _ dX3_columnOf_13 rfl hf hw
set_option maxHeartbeats 4000000 in
set_option maxRecDepth 100000 in
theorem metX3_downwards {v0 : Int32} {res : Int32} (hf : fX3_downwards v0 = res) : CtI l yX3_downwards cX3_downwards 1 .int 0 D E sz [.int v0] [] [] res := by
  refine startI (own := RX3) (by decide) rfl (Nat.le_of_ble_eq_true rfl) ?_
  intro p e s m args below meth c A Q ls hC ret hl hw
  have hx := hC.1.1
  have hb := hC.1.2.1
  have hown := hC.1.2.2.2.1
  have hts := hC.1.2.2.2.2
  have hl : lv_has ls 1 [(0, .int v0)] := hl
  refine lv_iload_n hx hb dX3_downwards_0 rfl (lv_at hl 0 rfl) ?_
  refine lv_if_eq (tgt := 15) hx hb dX3_downwards_1 rfl (fun c5 => ?_) (fun c5 => ?_)
  · have hf := dk_t c5 hf
    refine lv_iconst (v := (-1)) hx hb dX3_downwards_15 rfl ?_
    refine lv_goto (tgt := 35) hx hb dX3_downwards_16 rfl ?_
    exact ret _ _ _ _ _ dX3_downwards_35 rfl hf hw
  · have hf := dk_f c5 hf
    refine lv_iload_n hx hb dX3_downwards_4 rfl (lv_at hl 0 rfl) ?_
    refine lv_iconst (v := 1) hx hb dX3_downwards_5 rfl ?_
    refine lv_icmp_eq (tgt := 15) hx hb dX3_downwards_6 rfl (fun c4 => ?_) (fun c4 => ?_)
    · have hf := dk_t c4 hf
      refine lv_iconst (v := (-1)) hx hb dX3_downwards_15 rfl ?_
      refine lv_goto (tgt := 35) hx hb dX3_downwards_16 rfl ?_
      exact ret _ _ _ _ _ dX3_downwards_35 rfl hf hw
    · have hf := dk_f c4 hf
      refine lv_iload_n hx hb dX3_downwards_9 rfl (lv_at hl 0 rfl) ?_
      refine lv_bipush (v := 7) hx hb dX3_downwards_10 rfl ?_
      refine lv_icmp_ne (tgt := 19) hx hb dX3_downwards_12 rfl (fun c3 => ?_) (fun c3 => ?_)
      · have hf := dk_f c3 hf
        refine lv_iload_n hx hb dX3_downwards_19 rfl (lv_at hl 0 rfl) ?_
        refine lv_iconst (v := 2) hx hb dX3_downwards_20 rfl ?_
        refine lv_icmp_eq (tgt := 30) hx hb dX3_downwards_21 rfl (fun c2 => ?_) (fun c2 => ?_)
        · have hf := dk_t c2 hf
          refine lv_iconst (v := 0) hx hb dX3_downwards_30 rfl ?_
          refine lv_goto (tgt := 35) hx hb dX3_downwards_31 rfl ?_
          exact ret _ _ _ _ _ dX3_downwards_35 rfl hf hw
        · have hf := dk_f c2 hf
          refine lv_iload_n hx hb dX3_downwards_24 rfl (lv_at hl 0 rfl) ?_
          refine lv_bipush (v := 6) hx hb dX3_downwards_25 rfl ?_
          refine lv_icmp_ne (tgt := 34) hx hb dX3_downwards_27 rfl (fun c1 => ?_) (fun c1 => ?_)
          · have hf := dk_f c1 hf
            refine lv_iconst (v := 1) hx hb dX3_downwards_34 rfl ?_
            exact ret _ _ _ _ _ dX3_downwards_35 rfl hf hw
          · have hf := dk_t c1 hf
            refine lv_iconst (v := 0) hx hb dX3_downwards_30 rfl ?_
            refine lv_goto (tgt := 35) hx hb dX3_downwards_31 rfl ?_
            exact ret _ _ _ _ _ dX3_downwards_35 rfl hf hw
      · have hf := dk_t c3 hf
        refine lv_iconst (v := (-1)) hx hb dX3_downwards_15 rfl ?_
        refine lv_goto (tgt := 35) hx hb dX3_downwards_16 rfl ?_
        exact ret _ _ _ _ _ dX3_downwards_35 rfl hf hw
set_option maxHeartbeats 4000000 in
set_option maxRecDepth 100000 in
theorem metX3_across {v0 : Int32} {res : Int32} (hf : fX3_across v0 = res) : CtI l yX3_across cX3_across 1 .int 0 D E sz [.int v0] [] [] res := by
  refine startI (own := RX3) (by decide) rfl (Nat.le_of_ble_eq_true rfl) ?_
  intro p e s m args below meth c A Q ls hC ret hl hw
  have hx := hC.1.1
  have hb := hC.1.2.1
  have hown := hC.1.2.2.2.1
  have hts := hC.1.2.2.2.2
  have hl : lv_has ls 1 [(0, .int v0)] := hl
  refine lv_iload_n hx hb dX3_across_0 rfl (lv_at hl 0 rfl) ?_
  refine lv_if_eq (tgt := 9) hx hb dX3_across_1 rfl (fun c3 => ?_) (fun c3 => ?_)
  · have hf := dk_t c3 hf
    refine lv_iconst (v := 0) hx hb dX3_across_9 rfl ?_
    refine lv_goto (tgt := 23) hx hb dX3_across_10 rfl ?_
    exact ret _ _ _ _ _ dX3_across_23 rfl hf hw
  · have hf := dk_f c3 hf
    refine lv_iload_n hx hb dX3_across_4 rfl (lv_at hl 0 rfl) ?_
    refine lv_iconst (v := 4) hx hb dX3_across_5 rfl ?_
    refine lv_icmp_ne (tgt := 13) hx hb dX3_across_6 rfl (fun c2 => ?_) (fun c2 => ?_)
    · have hf := dk_f c2 hf
      refine lv_iload_n hx hb dX3_across_13 rfl (lv_at hl 0 rfl) ?_
      refine lv_iconst (v := 4) hx hb dX3_across_14 rfl ?_
      refine lv_icmp_ge (tgt := 22) hx hb dX3_across_15 rfl (fun c1 => ?_) (fun c1 => ?_)
      · have hf := dk_t c1 hf
        refine lv_iconst (v := (-1)) hx hb dX3_across_22 rfl ?_
        exact ret _ _ _ _ _ dX3_across_23 rfl hf hw
      · have hf := dk_f c1 hf
        refine lv_iconst (v := 1) hx hb dX3_across_18 rfl ?_
        refine lv_goto (tgt := 23) hx hb dX3_across_19 rfl ?_
        exact ret _ _ _ _ _ dX3_across_23 rfl hf hw
    · have hf := dk_t c2 hf
      refine lv_iconst (v := 0) hx hb dX3_across_9 rfl ?_
      refine lv_goto (tgt := 23) hx hb dX3_across_10 rfl ?_
      exact ret _ _ _ _ _ dX3_across_23 rfl hf hw
set_option maxHeartbeats 4000000 in
set_option maxRecDepth 100000 in
theorem metX3_turned {v0 : Int32} {v1 : Int32} {res : Int32} (hf : fX3_turned v0 v1 = res) : CtI l yX3_turned cX3_turned 5 .int 1 D E sz [.int v0, .int v1] [] [] res := by
  refine startI (own := RX3) (by decide) rfl (Nat.le_of_ble_eq_true rfl) ?_
  intro p e s m args below meth c A Q ls hC ret hl hw
  have hx := hC.1.1
  have hb := hC.1.2.1
  have hown := hC.1.2.2.2.1
  have hts := hC.1.2.2.2.2
  have hl : lv_has ls 5 [(0, .int v0), (1, .int v1)] := hl
  have L67 : ∀ (v3 : Int32) (k0 : Int32) (H : Heap) (locs : List Loc) (ls : Array Slot), Wo D A s.heap H locs [] → lv_has ls 5 [(3, .int v3)] → fX3_turned_L67 v0 v1  v3 k0 = res → W p l e (rmN 1) s m args below meth c H locs 0 0 Q (F0 m 67 ls [.int k0]) := by
    intro  v3 k0 H locs ls hw hl hf
    refine lv_istore (lv' := [(4, .int k0), (3, .int v3)]) hx hb dX3_turned_67 hl (by decide) rfl (fun ls hl => ?_)
    refine lv_iload_n hx hb dX3_turned_69 rfl (lv_at hl 1 rfl) ?_
    refine lv_if_eq (tgt := 84) hx hb dX3_turned_70 rfl (fun c1 => ?_) (fun c1 => ?_)
    · have hf := dk_t c1 hf
      refine lv_iload hx hb dX3_turned_84 (lv_at hl 0 rfl) ?_
      exact ret _ _ _ _ _ dX3_turned_86 rfl hf hw
    · have hf := dk_f c1 hf
      refine lv_bipush (v := 8) hx hb dX3_turned_73 rfl ?_
      refine lv_iload hx hb dX3_turned_75 (lv_at hl 0 rfl) ?_
      refine lv_isub hx hb dX3_turned_77 ?_
      refine lv_bipush (v := 8) hx hb dX3_turned_78 rfl ?_
      refine lv_irem hx hb dX3_turned_80 (by decide) ?_
      refine lv_goto (tgt := 86) hx hb dX3_turned_81 rfl ?_
      exact ret _ _ _ _ _ dX3_turned_86 rfl hf hw
  have L51 : ∀ (v2 : Int32) (k0 : Int32) (H : Heap) (locs : List Loc) (ls : Array Slot), Wo D A s.heap H locs [] → lv_has ls 5 [(1, .int v1), (2, .int v2)] → fX3_turned_L51 v0 v1  v2 k0 = res → W p l e (rmN 1) s m args below meth c H locs 0 0 Q (F0 m 51 ls [.int k0]) := by
    intro  v2 k0 H locs ls hw hl hf
    refine lv_istore_n (lv' := [(3, .int k0), (1, .int v1), (2, .int v2)]) hx hb dX3_turned_51 rfl hl (by decide) rfl (fun ls hl => ?_)
    refine lv_iload_n hx hb dX3_turned_52 rfl (lv_at hl 2 rfl) ?_
    refine lv_if_eq (tgt := 66) hx hb dX3_turned_53 rfl (fun c2 => ?_) (fun c2 => ?_)
    · have hf := dk_t c2 hf
      refine lv_iload_n hx hb dX3_turned_66 rfl (lv_at hl 1 rfl) ?_
      exact L67 k0 v1 _ _ _ hw (lv_sub hl [0] rfl) hf
    · have hf := dk_f c2 hf
      refine lv_bipush (v := 12) hx hb dX3_turned_56 rfl ?_
      refine lv_iload_n hx hb dX3_turned_58 rfl (lv_at hl 1 rfl) ?_
      refine lv_isub hx hb dX3_turned_59 ?_
      refine lv_bipush (v := 8) hx hb dX3_turned_60 rfl ?_
      refine lv_irem hx hb dX3_turned_62 (by decide) ?_
      refine lv_goto (tgt := 67) hx hb dX3_turned_63 rfl ?_
      exact L67 k0 (((12 : Int32) - v1) - ((12 : Int32) - v1) / 8 * 8) _ _ _ hw (lv_sub hl [0] rfl) hf
  have L25 : ∀ (k0 : Int32) (H : Heap) (locs : List Loc) (ls : Array Slot), Wo D A s.heap H locs [] → lv_has ls 5 [(0, .int v0), (1, .int v1)] → fX3_turned_L25 v0 v1  k0 = res → W p l e (rmN 1) s m args below meth c H locs 0 0 Q (F0 m 25 ls [.int k0]) := by
    intro  k0 H locs ls hw hl hf
    refine lv_istore_n (lv' := [(2, .int k0), (0, .int v0), (1, .int v1)]) hx hb dX3_turned_25 rfl hl (by decide) rfl (fun ls hl => ?_)
    refine lv_iload_n hx hb dX3_turned_26 rfl (lv_at hl 1 rfl) ?_
    refine lv_bipush (v := 9) hx hb dX3_turned_27 rfl ?_
    refine lv_irem hx hb dX3_turned_29 (by decide) ?_
    refine lv_iload_n hx hb dX3_turned_30 rfl (lv_at hl 2 rfl) ?_
    refine callSI (rest := [.int (v0 - v0 / 9 * 9)]) 0 0 hC hw (st1 _) (metX3_across rfl) mi_X3_across q696 (rm_ok (by decide) (by decide)) rfl hl.1 rfl (Nat.le_of_ble_eq_true rfl) dX3_turned_31 ⟨Nat.zero_le _, Nat.zero_le _⟩ (st2 _) (fun H locs hw => ?_)
    refine lv_iadd hx hb dX3_turned_34 ?_
    refine lv_i2l (v := (((v0 - v0 / 9 * 9) + (fX3_across v1)).toInt64)) hx hb dX3_turned_35 rfl ?_
    refine lv_lconst (v := 0) hx hb dX3_turned_36 rfl ?_
    refine W.ldc2 (v := 8) hx hb hown (hts _ q699) rfl dX3_turned_37 ?_
    refine callSI (rest := []) 0 0 hC hw (st1 _) (metX3_in rfl) mi_X3_in q590 (rm_ok (by decide) (by decide)) rfl hl.1 rfl (Nat.le_of_ble_eq_true rfl) dX3_turned_40 ⟨Nat.zero_le _, Nat.zero_le _⟩ (st2 _) (fun H locs hw => ?_)
    refine lv_if_ne (tgt := 50) hx hb dX3_turned_43 rfl (fun c3 => ?_) (fun c3 => ?_)
    · have hf := dk_f c3 hf
      refine lv_iconst (v := 0) hx hb dX3_turned_50 rfl ?_
      exact L51 k0 0 _ _ _ hw (lv_sub hl [2, 0] rfl) hf
    · have hf := dk_t c3 hf
      refine lv_iconst (v := 1) hx hb dX3_turned_46 rfl ?_
      refine lv_goto (tgt := 51) hx hb dX3_turned_47 rfl ?_
      exact L51 k0 1 _ _ _ hw (lv_sub hl [2, 0] rfl) hf
  refine lv_iload_n hx hb dX3_turned_0 rfl (lv_at hl 0 rfl) ?_
  refine lv_bipush (v := 9) hx hb dX3_turned_1 rfl ?_
  refine lv_idiv hx hb dX3_turned_3 (by decide) ?_
  refine lv_iload_n hx hb dX3_turned_4 rfl (lv_at hl 1 rfl) ?_
  refine callSI (rest := [.int (v0 / 9)]) 0 0 hC hw (st1 _) (metX3_downwards rfl) mi_X3_downwards q692 (rm_ok (by decide) (by decide)) rfl hl.1 rfl (Nat.le_of_ble_eq_true rfl) dX3_turned_5 ⟨Nat.zero_le _, Nat.zero_le _⟩ (st2 _) (fun H locs hw => ?_)
  refine lv_iadd hx hb dX3_turned_8 ?_
  refine lv_i2l (v := (((v0 / 9) + (fX3_downwards v1)).toInt64)) hx hb dX3_turned_9 rfl ?_
  refine lv_lconst (v := 0) hx hb dX3_turned_10 rfl ?_
  refine W.ldc2 (v := 4) hx hb hown (hts _ q695) rfl dX3_turned_11 ?_
  refine callSI (rest := []) 0 0 hC hw (st1 _) (metX3_in rfl) mi_X3_in q590 (rm_ok (by decide) (by decide)) rfl hl.1 rfl (Nat.le_of_ble_eq_true rfl) dX3_turned_14 ⟨Nat.zero_le _, Nat.zero_le _⟩ (st2 _) (fun H locs hw => ?_)
  refine lv_if_ne (tgt := 24) hx hb dX3_turned_17 rfl (fun c4 => ?_) (fun c4 => ?_)
  · have hf := dk_f c4 hf
    refine lv_iconst (v := 0) hx hb dX3_turned_24 rfl ?_
    exact L25 0 _ _ _ hw (lv_sub hl [0, 1] rfl) hf
  · have hf := dk_t c4 hf
    refine lv_iconst (v := 1) hx hb dX3_turned_20 rfl ?_
    refine lv_goto (tgt := 25) hx hb dX3_turned_21 rfl ?_
    exact L25 1 _ _ _ hw (lv_sub hl [0, 1] rfl) hf
set_option maxHeartbeats 4000000 in
set_option maxRecDepth 100000 in
theorem metX3_ahead {v0 : Int32} {v1 : Int32} {res : Int32} (hf : fX3_ahead v0 v1 = res) : CtI l yX3_ahead cX3_ahead 2 .int 1 D E sz [.int v0, .int v1] [] [] res := by
  refine startI (own := RX3) (by decide) rfl (Nat.le_of_ble_eq_true rfl) ?_
  intro p e s m args below meth c A Q ls hC ret hl hw
  have hx := hC.1.1
  have hb := hC.1.2.1
  have hown := hC.1.2.2.2.1
  have hts := hC.1.2.2.2.2
  have hl : lv_has ls 2 [(0, .int v0), (1, .int v1)] := hl
  refine lv_iload_n hx hb dX3_ahead_0 rfl (lv_at hl 0 rfl) ?_
  refine lv_bipush (v := 9) hx hb dX3_ahead_1 rfl ?_
  refine lv_iload_n hx hb dX3_ahead_3 rfl (lv_at hl 1 rfl) ?_
  refine callSI (rest := [.int 9, .int v0]) 0 0 hC hw (st1 _) (metX3_downwards rfl) mi_X3_downwards q692 (rm_ok (by decide) (by decide)) rfl hl.1 rfl (Nat.le_of_ble_eq_true rfl) dX3_ahead_4 ⟨Nat.zero_le _, Nat.zero_le _⟩ (st2 _) (fun H locs hw => ?_)
  refine lv_imul hx hb dX3_ahead_7 ?_
  refine lv_iadd hx hb dX3_ahead_8 ?_
  refine lv_iload_n hx hb dX3_ahead_9 rfl (lv_at hl 1 rfl) ?_
  refine callSI (rest := [.int (v0 + ((9 : Int32) * (fX3_downwards v1)))]) 0 0 hC hw (st1 _) (metX3_across rfl) mi_X3_across q696 (rm_ok (by decide) (by decide)) rfl hl.1 rfl (Nat.le_of_ble_eq_true rfl) dX3_ahead_10 ⟨Nat.zero_le _, Nat.zero_le _⟩ (st2 _) (fun H locs hw => ?_)
  refine lv_iadd hx hb dX3_ahead_13 ?_
  exact ret _ _ _ _ _ dX3_ahead_14 rfl hf hw
set_option maxHeartbeats 4000000 in
set_option maxRecDepth 100000 in
theorem metX3_next {v0 : Int32} {res : Int32} (hf : fX3_next v0 = res) : CtI l yX3_next cX3_next 2 .int 2 D E sz [.int v0] [] [] res := by
  refine startI (own := RX3) (by decide) rfl (Nat.le_of_ble_eq_true rfl) ?_
  intro p e s m args below meth c A Q ls hC ret hl hw
  have hx := hC.1.1
  have hb := hC.1.2.1
  have hown := hC.1.2.2.2.1
  have hts := hC.1.2.2.2.2
  have hl : lv_has ls 2 [(0, .int v0)] := hl
  refine lv_iload_n hx hb dX3_next_0 rfl (lv_at hl 0 rfl) ?_
  refine lv_bipush (v := 10) hx hb dX3_next_1 rfl ?_
  refine lv_idiv hx hb dX3_next_3 (by decide) ?_
  refine lv_iload_n hx hb dX3_next_4 rfl (lv_at hl 0 rfl) ?_
  refine lv_bipush (v := 10) hx hb dX3_next_5 rfl ?_
  refine lv_irem hx hb dX3_next_7 (by decide) ?_
  refine callSI (rest := []) 0 0 hC hw (st1 _) (metX3_turned rfl) mi_X3_turned q689 (rm_ok (by decide) (by decide)) rfl hl.1 rfl (Nat.le_of_ble_eq_true rfl) dX3_next_8 ⟨Nat.zero_le _, Nat.zero_le _⟩ (st2 _) (fun H locs hw => ?_)
  refine lv_istore_n (lv' := [(1, .int (fX3_turned (v0 / 10) (v0 - v0 / 10 * 10))), (0, .int v0)]) hx hb dX3_next_11 rfl hl (by decide) rfl (fun ls hl => ?_)
  refine lv_bipush (v := 10) hx hb dX3_next_12 rfl ?_
  refine lv_iload_n hx hb dX3_next_14 rfl (lv_at hl 1 rfl) ?_
  refine lv_bipush (v := 10) hx hb dX3_next_15 rfl ?_
  refine lv_idiv hx hb dX3_next_17 (by decide) ?_
  refine lv_iload_n hx hb dX3_next_18 rfl (lv_at hl 0 rfl) ?_
  refine callSI (rest := [.int 10]) 0 0 hC hw (st1 _) (metX3_ahead rfl) mi_X3_ahead q700 (rm_ok (by decide) (by decide)) rfl hl.1 rfl (Nat.le_of_ble_eq_true rfl) dX3_next_19 ⟨Nat.zero_le _, Nat.zero_le _⟩ (st2 _) (fun H locs hw => ?_)
  refine lv_imul hx hb dX3_next_22 ?_
  refine lv_iload_n hx hb dX3_next_23 rfl (lv_at hl 0 rfl) ?_
  refine lv_iadd hx hb dX3_next_24 ?_
  exact ret _ _ _ _ _ dX3_next_25 rfl hf hw
set_option maxHeartbeats 4000000 in
set_option maxRecDepth 100000 in
theorem metX3_behindSteps {v0 : Int32} {v1 : Int32} {res : Int32} (hf : fX3_behindSteps v0 v1 = some res) : CtI l yX3_behindSteps cX3_behindSteps 4 .int 3 D E sz [.int v0, .int v1] [] [] res := by
  refine startI (own := RX3) (by decide) rfl (Nat.le_of_ble_eq_true rfl) ?_
  intro p e s m args below meth c A Q ls hC ret hl hw
  have hx := hC.1.1
  have hb := hC.1.2.1
  have hown := hC.1.2.2.2.1
  have hts := hC.1.2.2.2.2
  have hl : lv_has ls 4 [(0, .int v0), (1, .int v1)] := hl
  have L4 : ∀ (n : Nat), ∀ (v2 : Int32) (v3 : Int32) (H : Heap) (locs : List Loc) (ls : Array Slot), Wo D A s.heap H locs [] → lv_has ls 4 [(1, .int v1), (2, .int v2), (3, .int v3)] → fX3_behindSteps_L4 v0 v1  n v2 v3 = some res → W p l e (rmN 3) s m args below meth c H locs 0 0 Q (F0 m 4 ls []) := by
    intro  n
    induction n with
    | zero =>
      intro v2 v3 H locs ls hw hl hf
      exact dk_n hf
    | succ n ih =>
      intro v2 v3 H locs ls hw hl hf
      refine lv_iload_n hx hb dX3_behindSteps_4 rfl (lv_at hl 2 rfl) ?_
      refine lv_iload_n hx hb dX3_behindSteps_5 rfl (lv_at hl 0 rfl) ?_
      refine lv_icmp_ge (tgt := 20) hx hb dX3_behindSteps_6 rfl (fun c1 => ?_) (fun c1 => ?_)
      · have hf := dk_t c1 hf
        refine lv_iload_n hx hb dX3_behindSteps_20 rfl (lv_at hl 1 rfl) ?_
        exact ret _ _ _ _ _ dX3_behindSteps_21 rfl (Option.some.inj hf) hw
      · have hf := dk_f c1 hf
        refine lv_iload_n hx hb dX3_behindSteps_9 rfl (lv_at hl 1 rfl) ?_
        refine callSI (rest := []) 0 0 hC hw (st1 _) (metX3_next rfl) mi_X3_next q760 (rm_ok (by decide) (by decide)) rfl hl.1 rfl (Nat.le_of_ble_eq_true rfl) dX3_behindSteps_10 ⟨Nat.zero_le _, Nat.zero_le _⟩ (st2 _) (fun H locs hw => ?_)
        refine lv_istore_n (lv' := [(2, .int (fX3_next v2)), (1, .int v1), (3, .int v3)]) hx hb dX3_behindSteps_13 rfl hl (by decide) rfl (fun ls hl => ?_)
        refine lv_iinc (v := (v3 + 1)) (lv' := [(3, .int (v3 + 1)), (2, .int (fX3_next v2)), (1, .int v1)]) hx hb dX3_behindSteps_14 hl (k := 2) rfl rfl (by decide) rfl (fun ls hl => ?_)
        refine lv_goto (tgt := 4) hx hb dX3_behindSteps_17 rfl ?_
        exact ih (fX3_next v2) (v3 + 1) _ _ _ hw (lv_sub hl [2, 1, 0] rfl) hf
  refine lv_iload_n hx hb dX3_behindSteps_0 rfl (lv_at hl 0 rfl) ?_
  refine lv_istore_n (lv' := [(2, .int v0), (0, .int v0), (1, .int v1)]) hx hb dX3_behindSteps_1 rfl hl (by decide) rfl (fun ls hl => ?_)
  refine lv_iconst (v := 0) hx hb dX3_behindSteps_2 rfl ?_
  refine lv_istore_n (lv' := [(3, .int 0), (2, .int v0), (0, .int v0), (1, .int v1)]) hx hb dX3_behindSteps_3 rfl hl (by decide) rfl (fun ls hl => ?_)
  exact L4 FU v0 0 _ _ _ hw (lv_sub hl [3, 1, 0] rfl) hf
set_option maxHeartbeats 4000000 in
set_option maxRecDepth 100000 in
theorem metX3_stepsBack {v0 : Int32} {res : Int32} (hf : fX3_stepsBack v0 = some res) : CtI l yX3_stepsBack cX3_stepsBack 3 .int 3 D E sz [.int v0] [] [] res := by
  refine startI (own := RX3) (by decide) rfl (Nat.le_of_ble_eq_true rfl) ?_
  intro p e s m args below meth c A Q ls hC ret hl hw
  have hx := hC.1.1
  have hb := hC.1.2.1
  have hown := hC.1.2.2.2.1
  have hts := hC.1.2.2.2.2
  have hl : lv_has ls 3 [(0, .int v0)] := hl
  have L7 : ∀ (n : Nat), ∀ (v1 : Int32) (v2 : Int32) (H : Heap) (locs : List Loc) (ls : Array Slot), Wo D A s.heap H locs [] → lv_has ls 3 [(0, .int v0), (1, .int v1), (2, .int v2)] → fX3_stepsBack_L7 v0  n v1 v2 = some res → W p l e (rmN 3) s m args below meth c H locs 0 0 Q (F0 m 7 ls []) := by
    intro  n
    induction n with
    | zero =>
      intro v1 v2 H locs ls hw hl hf
      exact dk_n hf
    | succ n ih =>
      intro v1 v2 H locs ls hw hl hf
      refine lv_iload_n hx hb dX3_stepsBack_7 rfl (lv_at hl 2 rfl) ?_
      refine lv_sipush (v := 400) hx hb dX3_stepsBack_8 rfl ?_
      refine lv_icmp_ge (tgt := 32) hx hb dX3_stepsBack_11 rfl (fun c2 => ?_) (fun c2 => ?_)
      · have hf := dk_t c2 hf
        refine lv_bipush (v := (-6)) hx hb dX3_stepsBack_32 rfl ?_
        exact ret _ _ _ _ _ dX3_stepsBack_34 rfl (Option.some.inj hf) hw
      · have hf := dk_f c2 hf
        refine lv_iload_n hx hb dX3_stepsBack_14 rfl (lv_at hl 1 rfl) ?_
        refine lv_iload_n hx hb dX3_stepsBack_15 rfl (lv_at hl 0 rfl) ?_
        refine lv_icmp_ne (tgt := 21) hx hb dX3_stepsBack_16 rfl (fun c1 => ?_) (fun c1 => ?_)
        · have hf := dk_f c1 hf
          refine lv_iload_n hx hb dX3_stepsBack_21 rfl (lv_at hl 1 rfl) ?_
          refine callSI (rest := []) 0 0 hC hw (st1 _) (metX3_next rfl) mi_X3_next q760 (rm_ok (by decide) (by decide)) rfl hl.1 rfl (Nat.le_of_ble_eq_true rfl) dX3_stepsBack_22 ⟨Nat.zero_le _, Nat.zero_le _⟩ (st2 _) (fun H locs hw => ?_)
          refine lv_istore_n (lv' := [(1, .int (fX3_next v1)), (0, .int v0), (2, .int v2)]) hx hb dX3_stepsBack_25 rfl hl (by decide) rfl (fun ls hl => ?_)
          refine lv_iinc (v := (v2 + 1)) (lv' := [(2, .int (v2 + 1)), (1, .int (fX3_next v1)), (0, .int v0)]) hx hb dX3_stepsBack_26 hl (k := 2) rfl rfl (by decide) rfl (fun ls hl => ?_)
          refine lv_goto (tgt := 7) hx hb dX3_stepsBack_29 rfl ?_
          exact ih (fX3_next v1) (v2 + 1) _ _ _ hw (lv_sub hl [2, 1, 0] rfl) hf
        · have hf := dk_t c1 hf
          refine lv_iload_n hx hb dX3_stepsBack_19 rfl (lv_at hl 2 rfl) ?_
          exact ret _ _ _ _ _ dX3_stepsBack_20 rfl (Option.some.inj hf) hw
  refine lv_iload_n hx hb dX3_stepsBack_0 rfl (lv_at hl 0 rfl) ?_
  refine callSI (rest := []) 0 0 hC hw (st1 _) (metX3_next rfl) mi_X3_next q760 (rm_ok (by decide) (by decide)) rfl hl.1 rfl (Nat.le_of_ble_eq_true rfl) dX3_stepsBack_1 ⟨Nat.zero_le _, Nat.zero_le _⟩ (st2 _) (fun H locs hw => ?_)
  refine lv_istore_n (lv' := [(1, .int (fX3_next v0)), (0, .int v0)]) hx hb dX3_stepsBack_4 rfl hl (by decide) rfl (fun ls hl => ?_)
  refine lv_iconst (v := 1) hx hb dX3_stepsBack_5 rfl ?_
  refine lv_istore_n (lv' := [(2, .int 1), (1, .int (fX3_next v0)), (0, .int v0)]) hx hb dX3_stepsBack_6 rfl hl (by decide) rfl (fun ls hl => ?_)
  exact L7 FU (fX3_next v0) 1 _ _ _ hw (lv_sub hl [2, 1, 0] rfl) hf
set_option maxHeartbeats 4000000 in
set_option maxRecDepth 100000 in
theorem metX3_digit {v0 : Int32} {v1 : Int32} {res : Int32} (hf : fX3_digit v0 v1 = res) : CtI l yX3_digit cX3_digit 2 .int 0 D E sz [.int v0, .int v1] [] [] res := by
  refine startI (own := RX3) (by decide) rfl (Nat.le_of_ble_eq_true rfl) ?_
  intro p e s m args below meth c A Q ls hC ret hl hw
  have hx := hC.1.1
  have hb := hC.1.2.1
  have hown := hC.1.2.2.2.1
  have hts := hC.1.2.2.2.2
  have hl : lv_has ls 2 [(0, .int v0), (1, .int v1)] := hl
  refine lv_iload_n hx hb dX3_digit_0 rfl (lv_at hl 1 rfl) ?_
  refine lv_if_ne (tgt := 11) hx hb dX3_digit_1 rfl (fun c2 => ?_) (fun c2 => ?_)
  · have hf := dk_f c2 hf
    refine lv_iload_n hx hb dX3_digit_11 rfl (lv_at hl 1 rfl) ?_
    refine lv_iconst (v := 1) hx hb dX3_digit_12 rfl ?_
    refine lv_icmp_ne (tgt := 26) hx hb dX3_digit_13 rfl (fun c1 => ?_) (fun c1 => ?_)
    · have hf := dk_f c1 hf
      refine lv_iload_n hx hb dX3_digit_26 rfl (lv_at hl 0 rfl) ?_
      refine lv_bipush (v := 10) hx hb dX3_digit_27 rfl ?_
      refine lv_irem hx hb dX3_digit_29 (by decide) ?_
      exact ret _ _ _ _ _ dX3_digit_30 rfl hf hw
    · have hf := dk_t c1 hf
      refine lv_iload_n hx hb dX3_digit_16 rfl (lv_at hl 0 rfl) ?_
      refine lv_bipush (v := 10) hx hb dX3_digit_17 rfl ?_
      refine lv_idiv hx hb dX3_digit_19 (by decide) ?_
      refine lv_bipush (v := 10) hx hb dX3_digit_20 rfl ?_
      refine lv_irem hx hb dX3_digit_22 (by decide) ?_
      refine lv_goto (tgt := 30) hx hb dX3_digit_23 rfl ?_
      exact ret _ _ _ _ _ dX3_digit_30 rfl hf hw
  · have hf := dk_t c2 hf
    refine lv_iload_n hx hb dX3_digit_4 rfl (lv_at hl 0 rfl) ?_
    refine lv_bipush (v := 100) hx hb dX3_digit_5 rfl ?_
    refine lv_idiv hx hb dX3_digit_7 (by decide) ?_
    refine lv_goto (tgt := 30) hx hb dX3_digit_8 rfl ?_
    exact ret _ _ _ _ _ dX3_digit_30 rfl hf hw
set_option maxHeartbeats 4000000 in
set_option maxRecDepth 100000 in
theorem metX3_tenTo {v0 : Int32} {res : Int32} (hf : fX3_tenTo v0 = res) : CtI l yX3_tenTo cX3_tenTo 1 .int 0 D E sz [.int v0] [] [] res := by
  refine startI (own := RX3) (by decide) rfl (Nat.le_of_ble_eq_true rfl) ?_
  intro p e s m args below meth c A Q ls hC ret hl hw
  have hx := hC.1.1
  have hb := hC.1.2.1
  have hown := hC.1.2.2.2.1
  have hts := hC.1.2.2.2.2
  have hl : lv_has ls 1 [(0, .int v0)] := hl
  refine lv_iload_n hx hb dX3_tenTo_0 rfl (lv_at hl 0 rfl) ?_
  refine lv_if_ne (tgt := 9) hx hb dX3_tenTo_1 rfl (fun c2 => ?_) (fun c2 => ?_)
  · have hf := dk_f c2 hf
    refine lv_iload_n hx hb dX3_tenTo_9 rfl (lv_at hl 0 rfl) ?_
    refine lv_iconst (v := 1) hx hb dX3_tenTo_10 rfl ?_
    refine lv_icmp_ne (tgt := 19) hx hb dX3_tenTo_11 rfl (fun c1 => ?_) (fun c1 => ?_)
    · have hf := dk_f c1 hf
      refine lv_iconst (v := 1) hx hb dX3_tenTo_19 rfl ?_
      exact ret _ _ _ _ _ dX3_tenTo_20 rfl hf hw
    · have hf := dk_t c1 hf
      refine lv_bipush (v := 10) hx hb dX3_tenTo_14 rfl ?_
      refine lv_goto (tgt := 20) hx hb dX3_tenTo_16 rfl ?_
      exact ret _ _ _ _ _ dX3_tenTo_20 rfl hf hw
  · have hf := dk_t c2 hf
    refine lv_bipush (v := 100) hx hb dX3_tenTo_4 rfl ?_
    refine lv_goto (tgt := 20) hx hb dX3_tenTo_6 rfl ?_
    exact ret _ _ _ _ _ dX3_tenTo_20 rfl hf hw
set_option maxHeartbeats 4000000 in
set_option maxRecDepth 100000 in
theorem metX3_power {v0 : Int64} {v2 : Int32} {res : Int64} (hf : fX3_power v0 v2 = some res) : CtL l yX3_power cX3_power 6 0 D E sz [.long v0, .int v2] [] [] res := by
  refine startL (own := RX3) (by decide) rfl (Nat.le_of_ble_eq_true rfl) ?_
  intro p e s m args below meth c A Q ls hC ret hl hw
  have hx := hC.1.1
  have hb := hC.1.2.1
  have hown := hC.1.2.2.2.1
  have hts := hC.1.2.2.2.2
  have hl : lv_has ls 6 [(0, .long v0), (2, .int v2)] := hl
  have L5 : ∀ (n : Nat), ∀ (v3 : Int64) (v5 : Int32) (H : Heap) (locs : List Loc) (ls : Array Slot), Wo D A s.heap H locs [] → lv_has ls 6 [(0, .long v0), (2, .int v2), (3, .long v3), (5, .int v5)] → fX3_power_L5 v0 v2  n v3 v5 = some res → W p l e (rmN 0) s m args below meth c H locs 0 0 Q (F0 m 5 ls []) := by
    intro  n
    induction n with
    | zero =>
      intro v3 v5 H locs ls hw hl hf
      exact dk_n hf
    | succ n ih =>
      intro v3 v5 H locs ls hw hl hf
      refine lv_iload hx hb dX3_power_5 (lv_at hl 3 rfl) ?_
      refine lv_iload_n hx hb dX3_power_7 rfl (lv_at hl 1 rfl) ?_
      refine lv_icmp_ge (tgt := 21) hx hb dX3_power_8 rfl (fun c1 => ?_) (fun c1 => ?_)
      · have hf := dk_t c1 hf
        refine lv_lload_n hx hb dX3_power_21 rfl (lv_at hl 2 rfl) ?_
        exact ret _ _ _ _ _ dX3_power_22 (Option.some.inj hf) hw
      · have hf := dk_f c1 hf
        refine lv_lload_n hx hb dX3_power_11 rfl (lv_at hl 2 rfl) ?_
        refine lv_lload_n hx hb dX3_power_12 rfl (lv_at hl 0 rfl) ?_
        refine lv_lmul hx hb dX3_power_13 ?_
        refine lv_lstore_n (lv' := [(3, .long (v3 * v0)), (0, .long v0), (2, .int v2), (5, .int v5)]) hx hb dX3_power_14 rfl hl (by decide) rfl (fun ls hl => ?_)
        refine lv_iinc (v := (v5 + 1)) (lv' := [(5, .int (v5 + 1)), (3, .long (v3 * v0)), (0, .long v0), (2, .int v2)]) hx hb dX3_power_15 hl (k := 3) rfl rfl (by decide) rfl (fun ls hl => ?_)
        refine lv_goto (tgt := 5) hx hb dX3_power_18 rfl ?_
        exact ih (v3 * v0) (v5 + 1) _ _ _ hw (lv_sub hl [2, 3, 1, 0] rfl) hf
  refine lv_lconst (v := 1) hx hb dX3_power_0 rfl ?_
  refine lv_lstore_n (lv' := [(3, .long 1), (0, .long v0), (2, .int v2)]) hx hb dX3_power_1 rfl hl (by decide) rfl (fun ls hl => ?_)
  refine lv_iconst (v := 0) hx hb dX3_power_2 rfl ?_
  refine lv_istore (lv' := [(5, .int 0), (3, .long 1), (0, .long v0), (2, .int v2)]) hx hb dX3_power_3 hl (by decide) rfl (fun ls hl => ?_)
  exact L5 FU 1 0 _ _ _ hw (lv_sub hl [2, 3, 1, 0] rfl) hf
set_option maxHeartbeats 4000000 in
set_option maxRecDepth 100000 in
theorem metX3_lowest {v0 : Int64} {v2 : Int64} {v4 : Int32} {res : Int64} (hf : fX3_lowest v0 v2 v4 = some res) : CtL l yX3_lowest cX3_lowest 11 0 D E sz [.long v0, .long v2, .int v4] [] [] res := by
  refine startL (own := RX3) (by decide) rfl (Nat.le_of_ble_eq_true rfl) ?_
  intro p e s m args below meth c A Q ls hC ret hl hw
  have hx := hC.1.1
  have hb := hC.1.2.1
  have hown := hC.1.2.2.2.1
  have hts := hC.1.2.2.2.2
  have hl : lv_has ls 11 [(0, .long v0), (2, .long v2), (4, .int v4)] := hl
  have L6 : ∀ (n : Nat), ∀ (v5 : Int64) (v7 : Int64) (H : Heap) (locs : List Loc) (ls : Array Slot), Wo D A s.heap H locs [] → lv_has ls 11 [(0, .long v0), (2, .long v2), (4, .int v4), (5, .long v5), (7, .long v7)] → fX3_lowest_L6 v0 v2 v4  n v5 v7 = some res → W p l e (rmN 0) s m args below meth c H locs 0 0 Q (F0 m 6 ls []) := by
    intro  n
    induction n with
    | zero =>
      intro v5 v7 H locs ls hw hl hf
      exact dk_n hf
    | succ n ih =>
      intro v5 v7 H locs ls hw hl hf
      refine lv_lload hx hb dX3_lowest_6 (lv_at hl 4 rfl) ?_
      refine lv_lconst (v := 0) hx hb dX3_lowest_8 rfl ?_
      refine W.lcmp hx hb dX3_lowest_9 ?_
      refine lv_if_eq (tgt := 31) hx hb dX3_lowest_10 rfl (fun c5 => ?_) (fun c5 => ?_)
      · have hf := dk_t c5 hf
        refine lv_iload hx hb dX3_lowest_31 (lv_at hl 2 rfl) ?_
        refine lv_if_ne (tgt := 43) hx hb dX3_lowest_33 rfl (fun c3 => ?_) (fun c3 => ?_)
        · have hf := dk_f c3 hf
          refine lv_lload_n hx hb dX3_lowest_43 rfl (lv_at hl 1 rfl) ?_
          refine lv_lload hx hb dX3_lowest_44 (lv_at hl 3 rfl) ?_
          obtain ⟨e1, hf⟩ := dk_c hf
          refine lv_ldiv hx hb dX3_lowest_46 e1 ?_
          exact ret _ _ _ _ _ dX3_lowest_47 (Option.some.inj hf) hw
        · have hf := dk_t c3 hf
          refine lv_lload_n hx hb dX3_lowest_36 rfl (lv_at hl 0 rfl) ?_
          refine lv_lload hx hb dX3_lowest_37 (lv_at hl 3 rfl) ?_
          obtain ⟨e2, hf⟩ := dk_c hf
          refine lv_ldiv hx hb dX3_lowest_39 e2 ?_
          refine lv_goto (tgt := 47) hx hb dX3_lowest_40 rfl ?_
          exact ret _ _ _ _ _ dX3_lowest_47 (Option.some.inj hf) hw
      · have hf := dk_f c5 hf
        refine lv_lload hx hb dX3_lowest_13 (lv_at hl 3 rfl) ?_
        refine lv_lload hx hb dX3_lowest_15 (lv_at hl 4 rfl) ?_
        obtain ⟨e4, hf⟩ := dk_c hf
        refine lv_lrem hx hb dX3_lowest_17 e4 ?_
        refine lv_lstore (lv' := [(9, .long (v5 - v5 / v7 * v7)), (0, .long v0), (2, .long v2), (4, .int v4), (5, .long v5), (7, .long v7)]) hx hb dX3_lowest_18 hl (by decide) rfl (fun ls hl => ?_)
        refine lv_lload hx hb dX3_lowest_20 (lv_at hl 5 rfl) ?_
        refine lv_lstore (lv' := [(5, .long v7), (9, .long (v5 - v5 / v7 * v7)), (0, .long v0), (2, .long v2), (4, .int v4), (7, .long v7)]) hx hb dX3_lowest_22 hl (by decide) rfl (fun ls hl => ?_)
        refine lv_lload hx hb dX3_lowest_24 (lv_at hl 1 rfl) ?_
        refine lv_lstore (lv' := [(7, .long (v5 - v5 / v7 * v7)), (5, .long v7), (9, .long (v5 - v5 / v7 * v7)), (0, .long v0), (2, .long v2), (4, .int v4)]) hx hb dX3_lowest_26 hl (by decide) rfl (fun ls hl => ?_)
        refine lv_goto (tgt := 6) hx hb dX3_lowest_28 rfl ?_
        exact ih v7 (v5 - v5 / v7 * v7) _ _ _ hw (lv_sub hl [3, 4, 5, 1, 0] rfl) hf
  refine lv_lload_n hx hb dX3_lowest_0 rfl (lv_at hl 1 rfl) ?_
  refine lv_lstore (lv' := [(5, .long v2), (0, .long v0), (2, .long v2), (4, .int v4)]) hx hb dX3_lowest_1 hl (by decide) rfl (fun ls hl => ?_)
  refine lv_lload_n hx hb dX3_lowest_3 rfl (lv_at hl 1 rfl) ?_
  refine lv_lstore (lv' := [(7, .long v0), (5, .long v2), (0, .long v0), (2, .long v2), (4, .int v4)]) hx hb dX3_lowest_4 hl (by decide) rfl (fun ls hl => ?_)
  exact L6 FU v2 v0 _ _ _ hw (lv_sub hl [2, 3, 4, 1, 0] rfl) hf
set_option maxHeartbeats 4000000 in
set_option maxRecDepth 100000 in
theorem metX3_actBy {v0 : Int32} {res : Int32} (hf : fX3_actBy v0 = res) : CtI l yX3_actBy cX3_actBy 1 .int 0 D E sz [.int v0] [] [] res := by
  refine startI (own := RX3) (by decide) rfl (Nat.le_of_ble_eq_true rfl) ?_
  intro p e s m args below meth c A Q ls hC ret hl hw
  have hx := hC.1.1
  have hb := hC.1.2.1
  have hown := hC.1.2.2.2.1
  have hts := hC.1.2.2.2.2
  have hl : lv_has ls 1 [(0, .int v0)] := hl
  refine lv_iload_n hx hb dX3_actBy_0 rfl (lv_at hl 0 rfl) ?_
  refine lv_iconst (v := 5) hx hb dX3_actBy_1 rfl ?_
  refine lv_icmp_ge (tgt := 9) hx hb dX3_actBy_2 rfl (fun c3 => ?_) (fun c3 => ?_)
  · have hf := dk_t c3 hf
    refine lv_iload_n hx hb dX3_actBy_9 rfl (lv_at hl 0 rfl) ?_
    refine lv_iconst (v := 5) hx hb dX3_actBy_10 rfl ?_
    refine lv_icmp_ne (tgt := 18) hx hb dX3_actBy_11 rfl (fun c2 => ?_) (fun c2 => ?_)
    · have hf := dk_f c2 hf
      refine lv_iload_n hx hb dX3_actBy_18 rfl (lv_at hl 0 rfl) ?_
      refine lv_bipush (v := 6) hx hb dX3_actBy_19 rfl ?_
      refine lv_icmp_ne (tgt := 28) hx hb dX3_actBy_21 rfl (fun c1 => ?_) (fun c1 => ?_)
      · have hf := dk_f c1 hf
        refine lv_iconst (v := 3) hx hb dX3_actBy_28 rfl ?_
        exact ret _ _ _ _ _ dX3_actBy_29 rfl hf hw
      · have hf := dk_t c1 hf
        refine lv_iconst (v := 2) hx hb dX3_actBy_24 rfl ?_
        refine lv_goto (tgt := 29) hx hb dX3_actBy_25 rfl ?_
        exact ret _ _ _ _ _ dX3_actBy_29 rfl hf hw
    · have hf := dk_t c2 hf
      refine lv_iconst (v := 1) hx hb dX3_actBy_14 rfl ?_
      refine lv_goto (tgt := 29) hx hb dX3_actBy_15 rfl ?_
      exact ret _ _ _ _ _ dX3_actBy_29 rfl hf hw
  · have hf := dk_f c3 hf
    refine lv_iconst (v := 0) hx hb dX3_actBy_5 rfl ?_
    refine lv_goto (tgt := 29) hx hb dX3_actBy_6 rfl ?_
    exact ret _ _ _ _ _ dX3_actBy_29 rfl hf hw
end METN
