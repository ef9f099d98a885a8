set_option maxRecDepth 100000
theorem mi_X0_isIn : MiS yX0_isIn cX0_isIn 3 (some .boolean) 3 := ⟨q204, q43, q205, by decide +kernel, by decide⟩
theorem mi_X0_isBall : MiS yX0_isBall cX0_isBall 1 (some .boolean) 1 := ⟨q201, q43, q202, by decide +kernel, by decide⟩
theorem mi_X0_isCell : MiS yX0_isCell cX0_isCell 1 (some .boolean) 1 := ⟨q207, q43, q208, by decide +kernel, by decide⟩
theorem mi_X0_isPocket : MiS yX0_isPocket cX0_isPocket 2 (some .boolean) 1 := ⟨q210, q43, q211, by decide +kernel, by decide⟩
theorem mi_X0_divisor : MiS yX0_divisor cX0_divisor 4 (some .long) 2 := ⟨q422, q43, q423, by decide +kernel, by decide⟩
section METN
variable {l : Launch} {D : va_G} {E : Nat → ClassId} {sz : Nat}
def fX0_spotOf (v0 : Int32)  : Int32 := (if v0 = 0 then 10 else (if v0 = 1 then 16 else 24))
def fX0_isIn (v0 : Int32) (v1 : Int32) (v2 : Int32)  : Int32 := (if v0 < v1 then 0 else (if v2 < v0 then 0 else 1))
def fX0_isBall (v0 : Int32)  : Int32 := (fX0_isIn v0 0 2)
def fX0_isCell (v0 : Int32)  : Int32 := (fX0_isIn v0 0 44)
def fX0_isPocket_L14 (v0 : Int32)    : Int32 := (if ((v0 - v0 / 9 * 9) - (v0 - v0 / 9 * 9) / 4 * 4) = 0 then 1 else 0)
def fX0_isPocket (v0 : Int32)  : Int32 := (if (v0 / 9) = 0 then (fX0_isPocket_L14 v0) else (if (v0 / 9) = 4 then (fX0_isPocket_L14 v0) else 0))
def fX0_step (v0 : Int32) (v1 : Int32)  : Int32 := (if v0 = 0 then (if (fX0_isBall (v1 - 65)) = 0 then (if v1 = 126 then 0 else (if v1 = 46 then 0 else (-6))) else 1) else (if v0 = 1 then (if (fX0_isIn v1 48 55) = 0 then (if v1 = 94 then 0 else (-6)) else 2) else (if (fX0_isIn v1 49 57) = 0 then (-6) else 0)))
def fX0_asNumber (v0 : Int32)  : Int32 := (if v0 = 0 then 0 else 1)
def fX0_isOpen (v0 : Int32)  : Int32 := (if (fX0_isCell v0) = 0 then 0 else (if (fX0_isPocket v0) = 0 then 1 else 0))
def fX0_taken_L20 (v0 : Int32) (v1 : Int32) (v2 : Int32)   (k0 : Int32) : Option (Int32) := (if ¬ k0 = 0 then (if v2 ≤ ((v0 / k0) - (v0 / k0) / 10 * 10) then (some (v0 - (v2 * k0))) else (some (-6))) else none)
def fX0_taken (v0 : Int32) (v1 : Int32) (v2 : Int32)  : Option (Int32) := (if v1 = 0 then (fX0_taken_L20 v0 v1 v2 100) else (if v1 = 1 then (fX0_taken_L20 v0 v1 v2 10) else (fX0_taken_L20 v0 v1 v2 1)))
def fX0_power_L4 (v0 : Int32)   : Nat → Int64 → Int32 → Option (Int64)
  | 0, _, _ => none
  | n + 1, v1, v3 => (if v0 ≤ v3 then (some v1) else (fX0_power_L4 v0 n (v1 * 10) (v3 + 1)))
def fX0_power (v0 : Int32)  : Option (Int64) := (fX0_power_L4 v0 FU 1 0)
def fX0_divisor : Nat → Int64 → Int64 → Option Int64
  | 0, _, _ => none
  | n + 1, v0, v2 => (if (lg_cmp v2 0) = 0 then (some v0) else (if ¬ v2 = 0 then fX0_divisor n v2 (v0 - v0 / v2 * v2) else none))
set_option maxHeartbeats 4000000 in
theorem metX0_divisor_d : ∀ (d : Nat) {sz : Nat} {v0 v2 res : Int64}, fX0_divisor d v0 v2 = some res → CtL l yX0_divisor cX0_divisor 4 d D E sz [.long v0, .long v2] [] [] res := by
  intro d
  induction d with
  | zero =>
    intro sz v0 v2 res hf
    exact dk_n hf
  | succ d ih =>
    intro sz v0 v2 res hf
    refine startL (own := RX0) (by decide) rfl (Nat.le_of_ble_eq_true rfl) ?_
    intro p e s m args below meth c A Q ls hC ret hl hw
    have hx := hC.1.1
    have hb := hC.1.2.1
    have hl : lv_has ls 4 [(0, .long v0), (2, .long v2)] := hl
    refine lv_lload_n hx hb dX0_divisor_0 rfl (lv_at hl 1 rfl) ?_
    refine lv_lconst (v := 0) hx hb dX0_divisor_1 rfl ?_
    refine W.lcmp hx hb dX0_divisor_2 ?_
    refine lv_if_ne (tgt := 10) hx hb dX0_divisor_3 rfl (fun c1 => ?_) (fun c1 => ?_)
    · have hf := dk_f c1 hf
      obtain ⟨e1, hf⟩ := dk_c hf
      refine lv_lload_n hx hb dX0_divisor_10 rfl (lv_at hl 1 rfl) ?_
      refine lv_lload_n hx hb dX0_divisor_11 rfl (lv_at hl 0 rfl) ?_
      refine lv_lload_n hx hb dX0_divisor_12 rfl (lv_at hl 1 rfl) ?_
      refine lv_lrem hx hb dX0_divisor_13 e1 ?_
      refine callSL (rest := []) 0 0 hC hw (st1 _) (ih hf) mi_X0_divisor q421 (rm_ok (Nat.lt_succ_self d) (by decide)) rfl hl.1 rfl (Nat.le_of_ble_eq_true rfl) dX0_divisor_14 ⟨Nat.zero_le _, Nat.zero_le _⟩ (st2 _) (fun H locs hw => ?_)
      exact ret _ _ _ _ _ dX0_divisor_17 rfl hw
    · have hf := dk_t c1 hf
      refine lv_lload_n hx hb dX0_divisor_6 rfl (lv_at hl 0 rfl) ?_
      refine lv_goto (tgt := 17) hx hb dX0_divisor_7 rfl ?_
      exact ret _ _ _ _ _ dX0_divisor_17 (Option.some.inj hf) hw
theorem metX0_divisor {v0 v2 res : Int64} (hf : fX0_divisor 120 v0 v2 = some res) : CtL l yX0_divisor cX0_divisor 4 120 D E sz [.long v0, .long v2] [] [] res := metX0_divisor_d 120 hf
set_option maxHeartbeats 4000000 in
set_option maxRecDepth 100000 in
theorem metX0_spotOf {v0 : Int32} {res : Int32} (hf : fX0_spotOf v0 = res) : CtI l yX0_spotOf cX0_spotOf 1 .int 0 D E sz [.int v0] [] [] res := by
  refine startI (own := RX0) (by decide) rfl (Nat.le_of_ble_eq_true rfl) ?_
  intro p e s m args below meth c A Q ls hC ret hl hw
  have hx := hC.1.1
  have hb := hC.1.2.1
  have hown := hC.1.2.2.2.1
  have hts := hC.1.2.2.2.2
  have hl : lv_has ls 1 [(0, .int v0)] := hl
  refine lv_iload_n hx hb dX0_spotOf_0 rfl (lv_at hl 0 rfl) ?_
  refine lv_if_ne (tgt := 9) hx hb dX0_spotOf_1 rfl (fun c2 => ?_) (fun c2 => ?_)
  · have hf := dk_f c2 hf
    refine lv_iload_n hx hb dX0_spotOf_9 rfl (lv_at hl 0 rfl) ?_
    refine lv_iconst (v := 1) hx hb dX0_spotOf_10 rfl ?_
    refine lv_icmp_ne (tgt := 19) hx hb dX0_spotOf_11 rfl (fun c1 => ?_) (fun c1 => ?_)
    · have hf := dk_f c1 hf
      refine lv_bipush (v := 24) hx hb dX0_spotOf_19 rfl ?_
      exact ret _ _ _ _ _ dX0_spotOf_21 rfl hf hw
    · have hf := dk_t c1 hf
      refine lv_bipush (v := 16) hx hb dX0_spotOf_14 rfl ?_
      refine lv_goto (tgt := 21) hx hb dX0_spotOf_16 rfl ?_
      exact ret _ _ _ _ _ dX0_spotOf_21 rfl hf hw
  · have hf := dk_t c2 hf
    refine lv_bipush (v := 10) hx hb dX0_spotOf_4 rfl ?_
    refine lv_goto (tgt := 21) hx hb dX0_spotOf_6 rfl ?_
    exact ret _ _ _ _ _ dX0_spotOf_21 rfl hf hw
set_option maxHeartbeats 4000000 in
set_option maxRecDepth 100000 in
theorem metX0_isIn {v0 : Int32} {v1 : Int32} {v2 : Int32} {res : Int32} (hf : fX0_isIn v0 v1 v2 = res) : CtI l yX0_isIn cX0_isIn 3 .boolean 0 D E sz [.int v0, .int v1, .int v2] [] [] res := by
  refine startI (own := RX0) (by decide) rfl (Nat.le_of_ble_eq_true rfl) ?_
  intro p e s m args below meth c A Q ls hC ret hl hw
  have hx := hC.1.1
  have hb := hC.1.2.1
  have hown := hC.1.2.2.2.1
  have hts := hC.1.2.2.2.2
  have hl : lv_has ls 3 [(0, .int v0), (1, .int v1), (2, .int v2)] := hl
  refine lv_iload_n hx hb dX0_isIn_0 rfl (lv_at hl 0 rfl) ?_
  refine lv_iload_n hx hb dX0_isIn_1 rfl (lv_at hl 1 rfl) ?_
  refine lv_icmp_lt (tgt := 14) hx hb dX0_isIn_2 rfl (fun c2 => ?_) (fun c2 => ?_)
  · have hf := dk_t c2 hf
    refine lv_iconst (v := 0) hx hb dX0_isIn_14 rfl ?_
    exact ret _ _ _ _ _ dX0_isIn_15 rfl hf hw
  · have hf := dk_f c2 hf
    refine lv_iload_n hx hb dX0_isIn_5 rfl (lv_at hl 0 rfl) ?_
    refine lv_iload_n hx hb dX0_isIn_6 rfl (lv_at hl 2 rfl) ?_
    refine lv_icmp_gt (tgt := 14) hx hb dX0_isIn_7 rfl (fun c1 => ?_) (fun c1 => ?_)
    · have hf := dk_t c1 hf
      refine lv_iconst (v := 0) hx hb dX0_isIn_14 rfl ?_
      exact ret _ _ _ _ _ dX0_isIn_15 rfl hf hw
    · have hf := dk_f c1 hf
      refine lv_iconst (v := 1) hx hb dX0_isIn_10 rfl ?_
      refine lv_goto (tgt := 15) hx hb dX0_isIn_11 rfl ?_
      exact ret _ _ _ _ _ dX0_isIn_15 rfl hf hw
theorem bz_X0_isIn (v0 : Int32) (v1 : Int32) (v2 : Int32) : narrow .boolean (.int (fX0_isIn v0 v1 v2)) = .int (fX0_isIn v0 v1 v2) := by
  unfold fX0_isIn
  repeat' split
  all_goals first | rfl
set_option maxHeartbeats 4000000 in
set_option maxRecDepth 100000 in
theorem metX0_isBall {v0 : Int32} {res : Int32} (hf : fX0_isBall v0 = res) : CtI l yX0_isBall cX0_isBall 1 .boolean 1 D E sz [.int v0] [] [] res := by
  refine startI (own := RX0) (by decide) rfl (Nat.le_of_ble_eq_true rfl) ?_
  intro p e s m args below meth c A Q ls hC ret hl hw
  have hx := hC.1.1
  have hb := hC.1.2.1
  have hown := hC.1.2.2.2.1
  have hts := hC.1.2.2.2.2
  have hl : lv_has ls 1 [(0, .int v0)] := hl
  refine lv_iload_n hx hb dX0_isBall_0 rfl (lv_at hl 0 rfl) ?_
  refine lv_iconst (v := 0) hx hb dX0_isBall_1 rfl ?_
  refine lv_iconst (v := 2) hx hb dX0_isBall_2 rfl ?_
  refine callSI (rest := []) 0 0 hC hw (st1 _) (metX0_isIn rfl) mi_X0_isIn q203 (rm_ok (by decide) (by decide)) rfl hl.1 rfl (Nat.le_of_ble_eq_true rfl) dX0_isBall_3 ⟨Nat.zero_le _, Nat.zero_le _⟩ (st2 _) (fun H locs hw => ?_)
  exact ret _ _ _ _ _ dX0_isBall_6 (bz_X0_isIn _ _ _ ) hf hw
theorem bz_X0_isBall (v0 : Int32) : narrow .boolean (.int (fX0_isBall v0)) = .int (fX0_isBall v0) := by
  unfold fX0_isBall
  repeat' split
  all_goals first | rfl | exact bz_X0_isIn _ _ _ 
set_option maxHeartbeats 4000000 in
set_option maxRecDepth 100000 in
theorem metX0_isCell {v0 : Int32} {res : Int32} (hf : fX0_isCell v0 = res) : CtI l yX0_isCell cX0_isCell 1 .boolean 1 D E sz [.int v0] [] [] res := by
  refine startI (own := RX0) (by decide) rfl (Nat.le_of_ble_eq_true rfl) ?_
  intro p e s m args below meth c A Q ls hC ret hl hw
  have hx := hC.1.1
  have hb := hC.1.2.1
  have hown := hC.1.2.2.2.1
  have hts := hC.1.2.2.2.2
  have hl : lv_has ls 1 [(0, .int v0)] := hl
  refine lv_iload_n hx hb dX0_isCell_0 rfl (lv_at hl 0 rfl) ?_
  refine lv_iconst (v := 0) hx hb dX0_isCell_1 rfl ?_
  refine lv_bipush (v := 44) hx hb dX0_isCell_2 rfl ?_
  refine callSI (rest := []) 0 0 hC hw (st1 _) (metX0_isIn rfl) mi_X0_isIn q203 (rm_ok (by decide) (by decide)) rfl hl.1 rfl (Nat.le_of_ble_eq_true rfl) dX0_isCell_4 ⟨Nat.zero_le _, Nat.zero_le _⟩ (st2 _) (fun H locs hw => ?_)
  exact ret _ _ _ _ _ dX0_isCell_7 (bz_X0_isIn _ _ _ ) hf hw
theorem bz_X0_isCell (v0 : Int32) : narrow .boolean (.int (fX0_isCell v0)) = .int (fX0_isCell v0) := by
  unfold fX0_isCell
  repeat' split
  all_goals first | rfl | exact bz_X0_isIn _ _ _ 
set_option maxHeartbeats 4000000 in
set_option maxRecDepth 100000 in
theorem metX0_isPocket {v0 : Int32} {res : Int32} (hf : fX0_isPocket v0 = res) : CtI l yX0_isPocket cX0_isPocket 2 .boolean 0 D E sz [.int v0] [] [] res := by
  refine startI (own := RX0) (by decide) rfl (Nat.le_of_ble_eq_true rfl) ?_
  intro p e s m args below meth c A Q ls hC ret hl hw
  have hx := hC.1.1
  have hb := hC.1.2.1
  have hown := hC.1.2.2.2.1
  have hts := hC.1.2.2.2.2
  have hl : lv_has ls 2 [(0, .int v0)] := hl
  have L14 : ∀ (H : Heap) (locs : List Loc) (ls : Array Slot), Wo D A s.heap H locs [] → lv_has ls 2 [(0, .int v0)] → fX0_isPocket_L14 v0   = res → W p l e (rmN 0) s m args below meth c H locs 0 0 Q (F0 m 14 ls []) := by
    intro   H locs ls hw hl hf
    refine lv_iload_n hx hb dX0_isPocket_14 rfl (lv_at hl 0 rfl) ?_
    refine lv_bipush (v := 9) hx hb dX0_isPocket_15 rfl ?_
    refine lv_irem hx hb dX0_isPocket_17 (by decide) ?_
    refine lv_iconst (v := 4) hx hb dX0_isPocket_18 rfl ?_
    refine lv_irem hx hb dX0_isPocket_19 (by decide) ?_
    refine lv_if_ne (tgt := 27) hx hb dX0_isPocket_20 rfl (fun c1 => ?_) (fun c1 => ?_)
    · have hf := dk_f c1 hf
      refine lv_iconst (v := 0) hx hb dX0_isPocket_27 rfl ?_
      exact ret _ _ _ _ _ dX0_isPocket_28 rfl hf hw
    · have hf := dk_t c1 hf
      refine lv_iconst (v := 1) hx hb dX0_isPocket_23 rfl ?_
      refine lv_goto (tgt := 28) hx hb dX0_isPocket_24 rfl ?_
      exact ret _ _ _ _ _ dX0_isPocket_28 rfl hf hw
  refine lv_iload_n hx hb dX0_isPocket_0 rfl (lv_at hl 0 rfl) ?_
  refine lv_bipush (v := 9) hx hb dX0_isPocket_1 rfl ?_
  refine lv_idiv hx hb dX0_isPocket_3 (by decide) ?_
  refine lv_istore_n (lv' := [(1, .int (v0 / 9)), (0, .int v0)]) hx hb dX0_isPocket_4 rfl hl (by decide) rfl (fun ls hl => ?_)
  refine lv_iload_n hx hb dX0_isPocket_5 rfl (lv_at hl 0 rfl) ?_
  refine lv_if_eq (tgt := 14) hx hb dX0_isPocket_6 rfl (fun c3 => ?_) (fun c3 => ?_)
  · have hf := dk_t c3 hf
    exact L14  _ _ _ hw (lv_sub hl [1] rfl) hf
  · have hf := dk_f c3 hf
    refine lv_iload_n hx hb dX0_isPocket_9 rfl (lv_at hl 0 rfl) ?_
    refine lv_iconst (v := 4) hx hb dX0_isPocket_10 rfl ?_
    refine lv_icmp_ne (tgt := 27) hx hb dX0_isPocket_11 rfl (fun c2 => ?_) (fun c2 => ?_)
    · have hf := dk_f c2 hf
      refine lv_iconst (v := 0) hx hb dX0_isPocket_27 rfl ?_
      exact ret _ _ _ _ _ dX0_isPocket_28 rfl hf hw
    · have hf := dk_t c2 hf
      exact L14  _ _ _ hw (lv_sub hl [1] rfl) hf
theorem bz_X0_isPocket (v0 : Int32) : narrow .boolean (.int (fX0_isPocket v0)) = .int (fX0_isPocket v0) := by
  unfold fX0_isPocket; try unfold fX0_isPocket_L14
  repeat' split
  all_goals first | rfl
set_option maxHeartbeats 4000000 in
set_option maxRecDepth 100000 in
theorem metX0_step {v0 : Int32} {v1 : Int32} {res : Int32} (hf : fX0_step v0 v1 = res) : CtI l yX0_step cX0_step 2 .int 2 D E sz [.int v0, .int v1] [] [] res := by
  refine startI (own := RX0) (by decide) rfl (Nat.le_of_ble_eq_true rfl) ?_
  intro p e s m args below meth c A Q ls hC ret hl hw
  have hx := hC.1.1
  have hb := hC.1.2.1
  have hown := hC.1.2.2.2.1
  have hts := hC.1.2.2.2.2
  have hl : lv_has ls 2 [(0, .int v0), (1, .int v1)] := hl
  refine lv_iload_n hx hb dX0_step_0 rfl (lv_at hl 0 rfl) ?_
  by_cases c1 : v0 = 0
  · have hf := dk_t c1 hf
    refine lv_lookup (tgt := 28) hx hb dX0_step_1 (by decide) (by rw [c1] <;> rfl) rfl ?_
    refine lv_iload_n hx hb dX0_step_28 rfl (lv_at hl 1 rfl) ?_
    refine lv_bipush (v := 65) hx hb dX0_step_29 rfl ?_
    refine lv_isub hx hb dX0_step_31 ?_
    refine callSI (rest := []) 0 0 hC hw (st1 _) (metX0_isBall rfl) mi_X0_isBall q200 (rm_ok (by decide) (by decide)) rfl hl.1 rfl (Nat.le_of_ble_eq_true rfl) dX0_step_32 ⟨Nat.zero_le _, Nat.zero_le _⟩ (st2 _) (fun H locs hw => ?_)
    refine lv_if_eq (tgt := 42) hx hb dX0_step_35 rfl (fun c4 => ?_) (fun c4 => ?_)
    · have hf := dk_t c4 hf
      refine lv_iload_n hx hb dX0_step_42 rfl (lv_at hl 1 rfl) ?_
      refine lv_bipush (v := 126) hx hb dX0_step_43 rfl ?_
      refine lv_icmp_eq (tgt := 54) hx hb dX0_step_45 rfl (fun c3 => ?_) (fun c3 => ?_)
      · have hf := dk_t c3 hf
        refine lv_iconst (v := 0) hx hb dX0_step_54 rfl ?_
        refine lv_goto (tgt := 60) hx hb dX0_step_55 rfl ?_
        exact ret _ _ _ _ _ dX0_step_60 rfl hf hw
      · have hf := dk_f c3 hf
        refine lv_iload_n hx hb dX0_step_48 rfl (lv_at hl 1 rfl) ?_
        refine lv_bipush (v := 46) hx hb dX0_step_49 rfl ?_
        refine lv_icmp_ne (tgt := 58) hx hb dX0_step_51 rfl (fun c2 => ?_) (fun c2 => ?_)
        · have hf := dk_f c2 hf
          refine lv_bipush (v := (-6)) hx hb dX0_step_58 rfl ?_
          exact ret _ _ _ _ _ dX0_step_60 rfl hf hw
        · have hf := dk_t c2 hf
          refine lv_iconst (v := 0) hx hb dX0_step_54 rfl ?_
          refine lv_goto (tgt := 60) hx hb dX0_step_55 rfl ?_
          exact ret _ _ _ _ _ dX0_step_60 rfl hf hw
    · have hf := dk_f c4 hf
      refine lv_iconst (v := 1) hx hb dX0_step_38 rfl ?_
      refine lv_goto (tgt := 60) hx hb dX0_step_39 rfl ?_
      exact ret _ _ _ _ _ dX0_step_60 rfl hf hw
  · have hf := dk_f c1 hf
    by_cases c5 : v0 = 1
    · have hf := dk_t c5 hf
      refine lv_lookup (tgt := 61) hx hb dX0_step_1 (by decide) (by rw [c5] <;> rfl) rfl ?_
      refine lv_iload_n hx hb dX0_step_61 rfl (lv_at hl 1 rfl) ?_
      refine lv_bipush (v := 48) hx hb dX0_step_62 rfl ?_
      refine lv_bipush (v := 55) hx hb dX0_step_64 rfl ?_
      refine callSI (rest := []) 0 0 hC hw (st1 _) (metX0_isIn rfl) mi_X0_isIn q203 (rm_ok (by decide) (by decide)) rfl hl.1 rfl (Nat.le_of_ble_eq_true rfl) dX0_step_66 ⟨Nat.zero_le _, Nat.zero_le _⟩ (st2 _) (fun H locs hw => ?_)
      refine lv_if_eq (tgt := 76) hx hb dX0_step_69 rfl (fun c7 => ?_) (fun c7 => ?_)
      · have hf := dk_t c7 hf
        refine lv_iload_n hx hb dX0_step_76 rfl (lv_at hl 1 rfl) ?_
        refine lv_bipush (v := 94) hx hb dX0_step_77 rfl ?_
        refine lv_icmp_ne (tgt := 86) hx hb dX0_step_79 rfl (fun c6 => ?_) (fun c6 => ?_)
        · have hf := dk_f c6 hf
          refine lv_bipush (v := (-6)) hx hb dX0_step_86 rfl ?_
          exact ret _ _ _ _ _ dX0_step_88 rfl hf hw
        · have hf := dk_t c6 hf
          refine lv_iconst (v := 0) hx hb dX0_step_82 rfl ?_
          refine lv_goto (tgt := 88) hx hb dX0_step_83 rfl ?_
          exact ret _ _ _ _ _ dX0_step_88 rfl hf hw
      · have hf := dk_f c7 hf
        refine lv_iconst (v := 2) hx hb dX0_step_72 rfl ?_
        refine lv_goto (tgt := 88) hx hb dX0_step_73 rfl ?_
        exact ret _ _ _ _ _ dX0_step_88 rfl hf hw
    · have hf := dk_f c5 hf
      refine lv_lookup (tgt := 89) hx hb dX0_step_1 (by decide) ((lv_osw c1 (by decide)).trans ((lv_osw c5 (by decide)).trans (rfl))) rfl ?_
      refine lv_iload_n hx hb dX0_step_89 rfl (lv_at hl 1 rfl) ?_
      refine lv_bipush (v := 49) hx hb dX0_step_90 rfl ?_
      refine lv_bipush (v := 57) hx hb dX0_step_92 rfl ?_
      refine callSI (rest := []) 0 0 hC hw (st1 _) (metX0_isIn rfl) mi_X0_isIn q203 (rm_ok (by decide) (by decide)) rfl hl.1 rfl (Nat.le_of_ble_eq_true rfl) dX0_step_94 ⟨Nat.zero_le _, Nat.zero_le _⟩ (st2 _) (fun H locs hw => ?_)
      refine lv_if_eq (tgt := 104) hx hb dX0_step_97 rfl (fun c8 => ?_) (fun c8 => ?_)
      · have hf := dk_t c8 hf
        refine lv_bipush (v := (-6)) hx hb dX0_step_104 rfl ?_
        exact ret _ _ _ _ _ dX0_step_106 rfl hf hw
      · have hf := dk_f c8 hf
        refine lv_iconst (v := 0) hx hb dX0_step_100 rfl ?_
        refine lv_goto (tgt := 106) hx hb dX0_step_101 rfl ?_
        exact ret _ _ _ _ _ dX0_step_106 rfl hf hw
set_option maxHeartbeats 4000000 in
set_option maxRecDepth 100000 in
theorem metX0_asNumber {v0 : Int32} {res : Int32} (hf : fX0_asNumber v0 = res) : CtI l yX0_asNumber cX0_asNumber 1 .int 0 D E sz [.int v0] [] [] res := by
  refine startI (own := RX0) (by decide) rfl (Nat.le_of_ble_eq_true rfl) ?_
  intro p e s m args below meth c A Q ls hC ret hl hw
  have hx := hC.1.1
  have hb := hC.1.2.1
  have hown := hC.1.2.2.2.1
  have hts := hC.1.2.2.2.2
  have hl : lv_has ls 1 [(0, .int v0)] := hl
  refine lv_iload_n hx hb dX0_asNumber_0 rfl (lv_at hl 0 rfl) ?_
  refine lv_if_eq (tgt := 8) hx hb dX0_asNumber_1 rfl (fun c1 => ?_) (fun c1 => ?_)
  · have hf := dk_t c1 hf
    refine lv_iconst (v := 0) hx hb dX0_asNumber_8 rfl ?_
    exact ret _ _ _ _ _ dX0_asNumber_9 rfl hf hw
  · have hf := dk_f c1 hf
    refine lv_iconst (v := 1) hx hb dX0_asNumber_4 rfl ?_
    refine lv_goto (tgt := 9) hx hb dX0_asNumber_5 rfl ?_
    exact ret _ _ _ _ _ dX0_asNumber_9 rfl hf hw
set_option maxHeartbeats 4000000 in
set_option maxRecDepth 100000 in
theorem metX0_isOpen {v0 : Int32} {res : Int32} (hf : fX0_isOpen v0 = res) : CtI l yX0_isOpen cX0_isOpen 1 .boolean 2 D E sz [.int v0] [] [] res := by
  refine startI (own := RX0) (by decide) rfl (Nat.le_of_ble_eq_true rfl) ?_
  intro p e s m args below meth c A Q ls hC ret hl hw
  have hx := hC.1.1
  have hb := hC.1.2.1
  have hown := hC.1.2.2.2.1
  have hts := hC.1.2.2.2.2
  have hl : lv_has ls 1 [(0, .int v0)] := hl
  refine lv_iload_n hx hb dX0_isOpen_0 rfl (lv_at hl 0 rfl) ?_
  refine callSI (rest := []) 0 0 hC hw (st1 _) (metX0_isCell rfl) mi_X0_isCell q206 (rm_ok (by decide) (by decide)) rfl hl.1 rfl (Nat.le_of_ble_eq_true rfl) dX0_isOpen_1 ⟨Nat.zero_le _, Nat.zero_le _⟩ (st2 _) (fun H locs hw => ?_)
  refine lv_if_eq (tgt := 18) hx hb dX0_isOpen_4 rfl (fun c2 => ?_) (fun c2 => ?_)
  · have hf := dk_t c2 hf
    refine lv_iconst (v := 0) hx hb dX0_isOpen_18 rfl ?_
    exact ret _ _ _ _ _ dX0_isOpen_19 rfl hf hw
  · have hf := dk_f c2 hf
    refine lv_iload_n hx hb dX0_isOpen_7 rfl (lv_at hl 0 rfl) ?_
    refine callSI (rest := []) 0 0 hC hw (st1 _) (metX0_isPocket rfl) mi_X0_isPocket q209 (rm_ok (by decide) (by decide)) rfl hl.1 rfl (Nat.le_of_ble_eq_true rfl) dX0_isOpen_8 ⟨Nat.zero_le _, Nat.zero_le _⟩ (st2 _) (fun H locs hw => ?_)
    refine lv_if_ne (tgt := 18) hx hb dX0_isOpen_11 rfl (fun c1 => ?_) (fun c1 => ?_)
    · have hf := dk_f c1 hf
      refine lv_iconst (v := 0) hx hb dX0_isOpen_18 rfl ?_
      exact ret _ _ _ _ _ dX0_isOpen_19 rfl hf hw
    · have hf := dk_t c1 hf
      refine lv_iconst (v := 1) hx hb dX0_isOpen_14 rfl ?_
      refine lv_goto (tgt := 19) hx hb dX0_isOpen_15 rfl ?_
      exact ret _ _ _ _ _ dX0_isOpen_19 rfl hf hw
theorem bz_X0_isOpen (v0 : Int32) : narrow .boolean (.int (fX0_isOpen v0)) = .int (fX0_isOpen v0) := by
  unfold fX0_isOpen
  repeat' split
  all_goals first | rfl | exact bz_X0_isPocket _  | exact bz_X0_isCell _ 
set_option maxHeartbeats 4000000 in
set_option maxRecDepth 100000 in
theorem metX0_taken {v0 : Int32} {v1 : Int32} {v2 : Int32} {res : Int32} (hf : fX0_taken v0 v1 v2 = some res) : CtI l yX0_taken cX0_taken 4 .int 0 D E sz [.int v0, .int v1, .int v2] [] [] res := by
  refine startI (own := RX0) (by decide) rfl (Nat.le_of_ble_eq_true rfl) ?_
  intro p e s m args below meth c A Q ls hC ret hl hw
  have hx := hC.1.1
  have hb := hC.1.2.1
  have hown := hC.1.2.2.2.1
  have hts := hC.1.2.2.2.2
  have hl : lv_has ls 4 [(0, .int v0), (1, .int v1), (2, .int v2)] := hl
  have L20 : ∀ (k0 : Int32) (H : Heap) (locs : List Loc) (ls : Array Slot), Wo D A s.heap H locs [] → lv_has ls 4 [(0, .int v0), (2, .int v2)] → fX0_taken_L20 v0 v1 v2  k0 = some res → W p l e (rmN 0) s m args below meth c H locs 0 0 Q (F0 m 20 ls [.int k0]) := by
    intro  k0 H locs ls hw hl hf
    refine lv_istore_n (lv' := [(3, .int k0), (0, .int v0), (2, .int v2)]) hx hb dX0_taken_20 rfl hl (by decide) rfl (fun ls hl => ?_)
    refine lv_iload_n hx hb dX0_taken_21 rfl (lv_at hl 1 rfl) ?_
    refine lv_iload_n hx hb dX0_taken_22 rfl (lv_at hl 0 rfl) ?_
    obtain ⟨e1, hf⟩ := dk_c hf
    refine lv_idiv hx hb dX0_taken_23 e1 ?_
    refine lv_bipush (v := 10) hx hb dX0_taken_24 rfl ?_
    refine lv_irem hx hb dX0_taken_26 (by decide) ?_
    refine lv_iload_n hx hb dX0_taken_27 rfl (lv_at hl 2 rfl) ?_
    refine lv_icmp_ge (tgt := 36) hx hb dX0_taken_28 rfl (fun c2 => ?_) (fun c2 => ?_)
    · have hf := dk_t c2 hf
      refine lv_iload_n hx hb dX0_taken_36 rfl (lv_at hl 1 rfl) ?_
      refine lv_iload_n hx hb dX0_taken_37 rfl (lv_at hl 2 rfl) ?_
      refine lv_iload_n hx hb dX0_taken_38 rfl (lv_at hl 0 rfl) ?_
      refine lv_imul hx hb dX0_taken_39 ?_
      refine lv_isub hx hb dX0_taken_40 ?_
      exact ret _ _ _ _ _ dX0_taken_41 rfl (Option.some.inj hf) hw
    · have hf := dk_f c2 hf
      refine lv_bipush (v := (-6)) hx hb dX0_taken_31 rfl ?_
      refine lv_goto (tgt := 41) hx hb dX0_taken_33 rfl ?_
      exact ret _ _ _ _ _ dX0_taken_41 rfl (Option.some.inj hf) hw
  refine lv_iload_n hx hb dX0_taken_0 rfl (lv_at hl 1 rfl) ?_
  refine lv_if_ne (tgt := 9) hx hb dX0_taken_1 rfl (fun c4 => ?_) (fun c4 => ?_)
  · have hf := dk_f c4 hf
    refine lv_iload_n hx hb dX0_taken_9 rfl (lv_at hl 1 rfl) ?_
    refine lv_iconst (v := 1) hx hb dX0_taken_10 rfl ?_
    refine lv_icmp_ne (tgt := 19) hx hb dX0_taken_11 rfl (fun c3 => ?_) (fun c3 => ?_)
    · have hf := dk_f c3 hf
      refine lv_iconst (v := 1) hx hb dX0_taken_19 rfl ?_
      exact L20 1 _ _ _ hw (lv_sub hl [0, 2] rfl) hf
    · have hf := dk_t c3 hf
      refine lv_bipush (v := 10) hx hb dX0_taken_14 rfl ?_
      refine lv_goto (tgt := 20) hx hb dX0_taken_16 rfl ?_
      exact L20 10 _ _ _ hw (lv_sub hl [0, 2] rfl) hf
  · have hf := dk_t c4 hf
    refine lv_bipush (v := 100) hx hb dX0_taken_4 rfl ?_
    refine lv_goto (tgt := 20) hx hb dX0_taken_6 rfl ?_
    exact L20 100 _ _ _ hw (lv_sub hl [0, 2] rfl) hf
set_option maxHeartbeats 4000000 in
set_option maxRecDepth 100000 in
theorem metX0_power {v0 : Int32} {res : Int64} (hf : fX0_power v0 = some res) : CtL l yX0_power cX0_power 4 0 D E sz [.int v0] [] [] res := by
  refine startL (own := RX0) (by decide) rfl (Nat.le_of_ble_eq_true rfl) ?_
  intro p e s m args below meth c A Q ls hC ret hl hw
  have hx := hC.1.1
  have hb := hC.1.2.1
  have hown := hC.1.2.2.2.1
  have hts := hC.1.2.2.2.2
  have hl : lv_has ls 4 [(0, .int v0)] := hl
  have L4 : ∀ (n : Nat), ∀ (v1 : Int64) (v3 : Int32) (H : Heap) (locs : List Loc) (ls : Array Slot), Wo D A s.heap H locs [] → lv_has ls 4 [(0, .int v0), (1, .long v1), (3, .int v3)] → fX0_power_L4 v0  n v1 v3 = some res → W p l e (rmN 0) s m args below meth c H locs 0 0 Q (F0 m 4 ls []) := by
    intro  n
    induction n with
    | zero =>
      intro v1 v3 H locs ls hw hl hf
      exact dk_n hf
    | succ n ih =>
      intro v1 v3 H locs ls hw hl hf
      refine lv_iload_n hx hb dX0_power_4 rfl (lv_at hl 2 rfl) ?_
      refine lv_iload_n hx hb dX0_power_5 rfl (lv_at hl 0 rfl) ?_
      refine lv_icmp_ge (tgt := 21) hx hb dX0_power_6 rfl (fun c1 => ?_) (fun c1 => ?_)
      · have hf := dk_t c1 hf
        refine lv_lload_n hx hb dX0_power_21 rfl (lv_at hl 1 rfl) ?_
        exact ret _ _ _ _ _ dX0_power_22 (Option.some.inj hf) hw
      · have hf := dk_f c1 hf
        refine lv_lload_n hx hb dX0_power_9 rfl (lv_at hl 1 rfl) ?_
        refine W.ldc2 (v := 10) hx hb hown (hts _ q420) rfl dX0_power_10 ?_
        refine lv_lmul hx hb dX0_power_13 ?_
        refine lv_lstore_n (lv' := [(1, .long (v1 * 10)), (0, .int v0), (3, .int v3)]) hx hb dX0_power_14 rfl hl (by decide) rfl (fun ls hl => ?_)
        refine lv_iinc (v := (v3 + 1)) (lv' := [(3, .int (v3 + 1)), (1, .long (v1 * 10)), (0, .int v0)]) hx hb dX0_power_15 hl (k := 2) rfl rfl (by decide) rfl (fun ls hl => ?_)
        refine lv_goto (tgt := 4) hx hb dX0_power_18 rfl ?_
        exact ih (v1 * 10) (v3 + 1) _ _ _ hw (lv_sub hl [2, 1, 0] rfl) hf
  refine lv_lconst (v := 1) hx hb dX0_power_0 rfl ?_
  refine lv_lstore_n (lv' := [(1, .long 1), (0, .int v0)]) hx hb dX0_power_1 rfl hl (by decide) rfl (fun ls hl => ?_)
  refine lv_iconst (v := 0) hx hb dX0_power_2 rfl ?_
  refine lv_istore_n (lv' := [(3, .int 0), (1, .long 1), (0, .int v0)]) hx hb dX0_power_3 rfl hl (by decide) rfl (fun ls hl => ?_)
  exact L4 FU 1 0 _ _ _ hw (lv_sub hl [2, 1, 0] rfl) hf
end METN
