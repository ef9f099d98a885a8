set_option maxRecDepth 100000
theorem mi_X3_isBall : MiS yX3_isBall cX3_isBall 1 (some .boolean) 1 := ⟨q587, q46, q588, by decide +kernel, by decide⟩
theorem mi_X3_ballOn : MiV RX3 yX3_ballOn cX3_ballOn 4 (some .int) 1 := ⟨q605, qs10, q46, q606, by decide +kernel, by decide⟩
theorem mi_X3_isPlace : MiS yX3_isPlace cX3_isPlace 1 (some .boolean) 1 := ⟨q594, q46, q595, by decide +kernel, by decide⟩
theorem mi_X3_close : MiV RX3 yX3_close cX3_close 2 (some .int) 1 := ⟨q638, qs13, q46, q639, by decide +kernel, by decide⟩
theorem mi_X3_force : MiV RX3 yX3_force cX3_force 2 (some .int) 1 := ⟨q648, qs15, q46, q649, by decide +kernel, by decide⟩
theorem mi_X3_deed : MiV RX3 yX3_deed cX3_deed 2 (some .int) 1 := ⟨q642, qs14, q46, q643, by decide +kernel, by decide⟩
theorem mi_X3_begin : MiV RX3 yX3_begin cX3_begin 3 (some .int) 1 := ⟨q632, qs12, q46, q633, by decide +kernel, by decide⟩
theorem mi_X3_readOn : MiV RX3 yX3_readOn cX3_readOn 3 (some .int) 2 := ⟨q628, qs11, q46, q629, by decide +kernel, by decide⟩
theorem mi_X3_home : MiS yX3_home cX3_home 1 (some .int) 1 := ⟨q453, q46, q454, by decide +kernel, by decide⟩
theorem mi_X3_drift : MiV RX3 yX3_drift cX3_drift 3 none 1 := ⟨q716, qs26, q46, q717, by decide +kernel, by decide⟩
theorem mi_X3_columnOf : MiS yX3_columnOf cX3_columnOf 1 (some .int) 1 := ⟨q712, q46, q713, by decide +kernel, by decide⟩
theorem mi_X3_touch : MiV RX3 yX3_touch cX3_touch 3 none 2 := ⟨q705, qs24, q46, q706, by decide +kernel, by decide⟩
theorem mi_X3_step : MiV RX3 yX3_step cX3_step 5 none 1 := ⟨q687, qs23, q46, q688, by decide +kernel, by decide⟩
theorem mi_X3_send : MiV RX3 yX3_send cX3_send 4 none 3 := ⟨q683, qs22, q46, q684, by decide +kernel, by decide⟩
theorem mi_X3_stroke : MiV RX3 yX3_stroke cX3_stroke 4 none 3 := ⟨q679, qs21, q46, q680, by decide +kernel, by decide⟩
theorem mi_X3_nap : MiV RX3 yX3_nap cX3_nap 3 none 0 := ⟨q709, qs25, q46, q710, by decide +kernel, by decide⟩
theorem mi_X3_whyNot : MiV RX3 yX3_whyNot cX3_whyNot 3 (some .int) 2 := ⟨q671, qs19, q46, q672, by decide +kernel, by decide⟩
theorem mi_X3_happen : MiV RX3 yX3_happen cX3_happen 5 none 4 := ⟨q675, qs20, q46, q676, by decide +kernel, by decide⟩
theorem mi_X3_keepNow : MiV RX3 yX3_keepNow cX3_keepNow 2 none 0 := ⟨q662, qs17, q46, q663, by decide +kernel, by decide⟩
theorem mi_X3_fault : MiV RX3 yX3_fault cX3_fault 3 (some .int) 0 := ⟨q623, q624, q46, q625, by decide +kernel, by decide⟩
theorem mi_X3_goCrises : MiV RX3 yX3_goCrises cX3_goCrises 4 none 0 := ⟨q667, qs18, q46, q668, by decide +kernel, by decide⟩
theorem mi_X3_refusal : MiV RX3 yX3_refusal cX3_refusal 1 (some .int) 0 := ⟨q658, qs16, q46, q659, by decide +kernel, by decide⟩
theorem mi_X3_back : MiV RX3 yX3_back cX3_back 3 (some .int) 1 := ⟨q720, qs27, q46, q721, by decide +kernel, by decide⟩
theorem mi_X3_downMany : MiV RX3 yX3_downMany cX3_downMany 3 (some .int) 0 := ⟨q733, qs28, q46, q734, by decide +kernel, by decide⟩
theorem mi_X3_stepsBy : MiV RX3 yX3_stepsBy cX3_stepsBy 6 (some .int) 4 := ⟨q749, qs29, q46, q750, by decide +kernel, by decide⟩
theorem mi_X3_metMany : MiV RX3 yX3_metMany cX3_metMany 5 (some .int) 1 := ⟨q768, qs30, q46, q769, by decide +kernel, by decide⟩
theorem mi_X3_stepsBack : MiS yX3_stepsBack cX3_stepsBack 3 (some .int) 1 := ⟨q764, q46, q765, by decide +kernel, by decide⟩
theorem mi_X3_behindSteps : MiS yX3_behindSteps cX3_behindSteps 4 (some .int) 2 := ⟨q758, q46, q759, by decide +kernel, by decide⟩
theorem mi_X3_leadsTo : MiV RX3 yX3_leadsTo cX3_leadsTo 8 (some .boolean) 3 := ⟨q784, qs33, q46, q785, by decide +kernel, by decide⟩
theorem mi_X3_wayTo : MiV RX3 yX3_wayTo cX3_wayTo 5 (some .int) 2 := ⟨q780, qs32, q46, q781, by decide +kernel, by decide⟩
theorem mi_X3_findFar : MiV RX3 yX3_findFar cX3_findFar 5 (some .boolean) 1 := ⟨q776, qs31, q46, q777, by decide +kernel, by decide⟩
theorem mi_X3_isFit : MiV RX3 yX3_isFit cX3_isFit 4 (some .boolean) 1 := ⟨q805, qs35, q46, q806, by decide +kernel, by decide⟩
theorem mi_X3_findFits : MiV RX3 yX3_findFits cX3_findFits 2 none 0 := ⟨q801, qs34, q46, q802, by decide +kernel, by decide⟩
theorem mi_X3_mostNow : MiV RX3 yX3_mostNow cX3_mostNow 4 (some .int) 0 := ⟨q813, qs36, q46, q814, by decide +kernel, by decide⟩
theorem mi_X3_digit : MiS yX3_digit cX3_digit 2 (some .int) 2 := ⟨q825, q46, q826, by decide +kernel, by decide⟩
theorem mi_X3_tenTo : MiS yX3_tenTo cX3_tenTo 1 (some .int) 1 := ⟨q828, q46, q829, by decide +kernel, by decide⟩
theorem mi_X3_leastTake : MiV RX3 yX3_leastTake cX3_leastTake 7 (some .int) 2 := ⟨q822, qs37, q46, q823, by decide +kernel, by decide⟩
theorem mi_X3_findChance : MiV RX3 yX3_findChance cX3_findChance 7 none 4 := ⟨q838, qs38, q46, q839, by decide +kernel, by decide⟩
theorem mi_X3_power : MiS yX3_power cX3_power 6 (some .long) 2 := ⟨q841, q46, q842, by decide +kernel, by decide⟩
theorem mi_X3_lowest : MiS yX3_lowest cX3_lowest 11 (some .long) 3 := ⟨q844, q46, q845, by decide +kernel, by decide⟩
theorem mi_X3_actBy : MiS yX3_actBy cX3_actBy 1 (some .int) 1 := ⟨q855, q46, q856, by decide +kernel, by decide⟩
theorem mi_X3_pass : MiV RX3 yX3_pass cX3_pass 3 (some .int) 1 := ⟨q867, qs40, q46, q868, by decide +kernel, by decide⟩
theorem mi_X3_passRow : MiV RX3 yX3_passRow cX3_passRow 4 none 2 := ⟨q871, qs41, q46, q872, by decide +kernel, by decide⟩
theorem mi_X3_passAll : MiV RX3 yX3_passAll cX3_passAll 1 none 0 := ⟨q863, qs39, q46, q864, by decide +kernel, by decide⟩
section ROWSX3
variable {p : Program} {l : Launch} {e : Env} {R : Room} {s : State} {m : MethodId} {args : Array Value} {below : List Frame} {meth : Method} {c : Code} {H : Heap} {locs : List Loc} {cel slo : Nat} {Q : State → Prop} {pc : Nat} {ls : Array Slot} {rest : List Value} {D : va_G} {E : Nat → ClassId} {A : Nat → Prop} {cc : ByteArray} {nL : Nat}
variable {h : Nat → Nat}
variable {m_cell m_sightStep m_sightCell m_pad m_act m_which m_whither m_hard m_were m_had m_met m_far m_fit m_now m_byCell m_wins m_kept m_isKept : Nat → Int32}
variable {m_points m_fouls m_evening m_sights m_padMany m_acts m_moving m_goes m_left m_touches m_cushions m_cushionsThen m_touchedFirst m_stepsThen m_downNow m_touchedMany m_cushionMany m_badAct m_badWhy m_foulAct m_fitMany m_keptAt m_isWriting : Int32}
variable {m_chance : Nat → Int64}
theorem gX3_this_cell (hC : Cx p m c cc nL s args RX3 D E A) (hw : Wo D A s.heap H locs (WX3 h E m_cell m_points m_fouls m_evening m_sightStep m_sightCell m_sights m_pad m_padMany m_act m_which m_whither m_hard m_acts m_moving m_goes m_left m_touches m_cushions m_cushionsThen m_touchedFirst m_stepsThen m_downNow m_touchedMany m_cushionMany m_were m_had m_badAct m_badWhy m_foulAct m_met m_far m_fit m_now m_fitMany m_byCell m_wins m_chance m_kept m_isKept m_keptAt m_isWriting)) (hdg : decode cc pc = .ok (.getfield 7, 3)) (kk : W p l e R s m args below meth c H locs cel slo Q (F0 m (pc + 3) ls (.ref (h 1) :: rest))) : W p l e R s m args below meth c H locs cel slo Q (F0 m pc ls (.ref (h 0) :: rest)) :=
  va_get (D := D) (ci := 3) (C := RX3) (T := TX3) (N := 42) hC.1.1 hC.1.2.1 hC.1.2.2.2.2 in_X3 hC.1.2.2.2.1 hC.2.1.1 hw.1 0 rfl rfl 0 (by decide) (hC.1.2.2.2.2 _ q455) (fun _ h9 => h9) rfl hdg kk
theorem aX3_m_cell {own : String} {i : Int32} (hC : Cx p m c cc nL s args own D E A) (hw : Wo D A s.heap H locs (WX3 h E m_cell m_points m_fouls m_evening m_sightStep m_sightCell m_sights m_pad m_padMany m_act m_which m_whither m_hard m_acts m_moving m_goes m_left m_touches m_cushions m_cushionsThen m_touchedFirst m_stepsThen m_downNow m_touchedMany m_cushionMany m_were m_had m_badAct m_badWhy m_foulAct m_met m_far m_fit m_now m_fitMany m_byCell m_wins m_chance m_kept m_isKept m_keptAt m_isWriting)) (hi : bIn i 3) (hdg : decode cc pc = .ok (.iaload, 1)) (kk : W p l e R s m args below meth c H locs cel slo Q (F0 m (pc + 1) ls (.int (m_cell i.toNatClampNeg) :: rest))) : W p l e R s m args below meth c H locs cel slo Q (F0 m pc ls (.int i :: .ref (h 1) :: rest)) :=
  va_iald hC.1.1 hC.1.2.1 hC.2.1.1 hw.1 1 0 rfl rfl (bIn_in hi) hdg kk
theorem sX3_m_cell {own : String} {i : Int32} {x : Int32} (hC : Cx p m c cc nL s args own D E A) (hw : Wo D A s.heap H locs (WX3 h E m_cell m_points m_fouls m_evening m_sightStep m_sightCell m_sights m_pad m_padMany m_act m_which m_whither m_hard m_acts m_moving m_goes m_left m_touches m_cushions m_cushionsThen m_touchedFirst m_stepsThen m_downNow m_touchedMany m_cushionMany m_were m_had m_badAct m_badWhy m_foulAct m_met m_far m_fit m_now m_fitMany m_byCell m_wins m_chance m_kept m_isKept m_keptAt m_isWriting)) (hi : bIn i 3) (hdg : decode cc pc = .ok (.iastore, 1)) (kk : ∀ (H1 : Heap) (locs1 : List Loc), Wo D A s.heap H1 locs1 (WX3 h E (upd m_cell i.toNatClampNeg x) m_points m_fouls m_evening m_sightStep m_sightCell m_sights m_pad m_padMany m_act m_which m_whither m_hard m_acts m_moving m_goes m_left m_touches m_cushions m_cushionsThen m_touchedFirst m_stepsThen m_downNow m_touchedMany m_cushionMany m_were m_had m_badAct m_badWhy m_foulAct m_met m_far m_fit m_now m_fitMany m_byCell m_wins m_chance m_kept m_isKept m_keptAt m_isWriting) → W p l e R s m args below meth c H1 locs1 cel slo Q (F0 m (pc + 1) ls rest)) : W p l e R s m args below meth c H locs cel slo Q (F0 m pc ls (.int x :: .int i :: .ref (h 1) :: rest)) :=
  va_iast hC.1.1 hC.1.2.1 hC.2.1.1 hw.1 hw.2.1 hw.2.2 1 0 rfl rfl (bIn_in hi) hdg (fun H1 l1 a b c => kk H1 l1 ⟨a, b, c⟩)
theorem gX3_this_points (hC : Cx p m c cc nL s args RX3 D E A) (hw : Wo D A s.heap H locs (WX3 h E m_cell m_points m_fouls m_evening m_sightStep m_sightCell m_sights m_pad m_padMany m_act m_which m_whither m_hard m_acts m_moving m_goes m_left m_touches m_cushions m_cushionsThen m_touchedFirst m_stepsThen m_downNow m_touchedMany m_cushionMany m_were m_had m_badAct m_badWhy m_foulAct m_met m_far m_fit m_now m_fitMany m_byCell m_wins m_chance m_kept m_isKept m_keptAt m_isWriting)) (hdg : decode cc pc = .ok (.getfield 109, 3)) (kk : W p l e R s m args below meth c H locs cel slo Q (F0 m (pc + 3) ls (.int m_points :: rest))) : W p l e R s m args below meth c H locs cel slo Q (F0 m pc ls (.ref (h 0) :: rest)) :=
  va_get (D := D) (ci := 3) (C := RX3) (T := TX3) (N := 42) hC.1.1 hC.1.2.1 hC.1.2.2.2.2 in_X3 hC.1.2.2.2.1 hC.2.1.1 hw.1 0 rfl rfl 1 (by decide) (hC.1.2.2.2.2 _ q456) (fun _ h9 => h9) rfl hdg kk
theorem gX3_this_fouls (hC : Cx p m c cc nL s args RX3 D E A) (hw : Wo D A s.heap H locs (WX3 h E m_cell m_points m_fouls m_evening m_sightStep m_sightCell m_sights m_pad m_padMany m_act m_which m_whither m_hard m_acts m_moving m_goes m_left m_touches m_cushions m_cushionsThen m_touchedFirst m_stepsThen m_downNow m_touchedMany m_cushionMany m_were m_had m_badAct m_badWhy m_foulAct m_met m_far m_fit m_now m_fitMany m_byCell m_wins m_chance m_kept m_isKept m_keptAt m_isWriting)) (hdg : decode cc pc = .ok (.getfield 113, 3)) (kk : W p l e R s m args below meth c H locs cel slo Q (F0 m (pc + 3) ls (.int m_fouls :: rest))) : W p l e R s m args below meth c H locs cel slo Q (F0 m pc ls (.ref (h 0) :: rest)) :=
  va_get (D := D) (ci := 3) (C := RX3) (T := TX3) (N := 42) hC.1.1 hC.1.2.1 hC.1.2.2.2.2 in_X3 hC.1.2.2.2.1 hC.2.1.1 hw.1 0 rfl rfl 2 (by decide) (hC.1.2.2.2.2 _ q457) (fun _ h9 => h9) rfl hdg kk
theorem pX3_this_points {v : Int32} (hC : Cx p m c cc nL s args RX3 D E A) (hw : Wo D A s.heap H locs (WX3 h E m_cell m_points m_fouls m_evening m_sightStep m_sightCell m_sights m_pad m_padMany m_act m_which m_whither m_hard m_acts m_moving m_goes m_left m_touches m_cushions m_cushionsThen m_touchedFirst m_stepsThen m_downNow m_touchedMany m_cushionMany m_were m_had m_badAct m_badWhy m_foulAct m_met m_far m_fit m_now m_fitMany m_byCell m_wins m_chance m_kept m_isKept m_keptAt m_isWriting)) (hdg : decode cc pc = .ok (.putfield 109, 3)) (kk : ∀ (H1 : Heap) (locs1 : List Loc), Wo D A s.heap H1 locs1 (WX3 h E m_cell v m_fouls m_evening m_sightStep m_sightCell m_sights m_pad m_padMany m_act m_which m_whither m_hard m_acts m_moving m_goes m_left m_touches m_cushions m_cushionsThen m_touchedFirst m_stepsThen m_downNow m_touchedMany m_cushionMany m_were m_had m_badAct m_badWhy m_foulAct m_met m_far m_fit m_now m_fitMany m_byCell m_wins m_chance m_kept m_isKept m_keptAt m_isWriting) → W p l e R s m args below meth c H1 locs1 cel slo Q (F0 m (pc + 3) ls rest)) : W p l e R s m args below meth c H locs cel slo Q (F0 m pc ls (.int v :: .ref (h 0) :: rest)) :=
  va_put (D := D) (ci := 3) (v := .int v) (ty := .int) (C := RX3) (T := TX3) (N := 42) hC.1.1 hC.1.2.1 hC.1.2.2.2.2 in_X3 tyX3 tyX3_ok nmX3 hC.1.2.2.2.1 hC.2.1.1 hw.1 hw.2.1 hw.2.2 0 rfl rfl 1 (by decide) (hC.1.2.2.2.2 _ q456) (fun _ h9 => h9) rfl (by decide +kernel) rfl rfl (Nat.le_of_ble_eq_true rfl) hdg (fun H1 l1 a b c => kk H1 l1 ⟨a, b, c⟩)
theorem pX3_this_fouls {v : Int32} (hC : Cx p m c cc nL s args RX3 D E A) (hw : Wo D A s.heap H locs (WX3 h E m_cell m_points m_fouls m_evening m_sightStep m_sightCell m_sights m_pad m_padMany m_act m_which m_whither m_hard m_acts m_moving m_goes m_left m_touches m_cushions m_cushionsThen m_touchedFirst m_stepsThen m_downNow m_touchedMany m_cushionMany m_were m_had m_badAct m_badWhy m_foulAct m_met m_far m_fit m_now m_fitMany m_byCell m_wins m_chance m_kept m_isKept m_keptAt m_isWriting)) (hdg : decode cc pc = .ok (.putfield 113, 3)) (kk : ∀ (H1 : Heap) (locs1 : List Loc), Wo D A s.heap H1 locs1 (WX3 h E m_cell m_points v m_evening m_sightStep m_sightCell m_sights m_pad m_padMany m_act m_which m_whither m_hard m_acts m_moving m_goes m_left m_touches m_cushions m_cushionsThen m_touchedFirst m_stepsThen m_downNow m_touchedMany m_cushionMany m_were m_had m_badAct m_badWhy m_foulAct m_met m_far m_fit m_now m_fitMany m_byCell m_wins m_chance m_kept m_isKept m_keptAt m_isWriting) → W p l e R s m args below meth c H1 locs1 cel slo Q (F0 m (pc + 3) ls rest)) : W p l e R s m args below meth c H locs cel slo Q (F0 m pc ls (.int v :: .ref (h 0) :: rest)) :=
  va_put (D := D) (ci := 3) (v := .int v) (ty := .int) (C := RX3) (T := TX3) (N := 42) hC.1.1 hC.1.2.1 hC.1.2.2.2.2 in_X3 tyX3 tyX3_ok nmX3 hC.1.2.2.2.1 hC.2.1.1 hw.1 hw.2.1 hw.2.2 0 rfl rfl 2 (by decide) (hC.1.2.2.2.2 _ q457) (fun _ h9 => h9) rfl (by decide +kernel) rfl rfl (Nat.le_of_ble_eq_true rfl) hdg (fun H1 l1 a b c => kk H1 l1 ⟨a, b, c⟩)
theorem gX3_this_padMany (hC : Cx p m c cc nL s args RX3 D E A) (hw : Wo D A s.heap H locs (WX3 h E m_cell m_points m_fouls m_evening m_sightStep m_sightCell m_sights m_pad m_padMany m_act m_which m_whither m_hard m_acts m_moving m_goes m_left m_touches m_cushions m_cushionsThen m_touchedFirst m_stepsThen m_downNow m_touchedMany m_cushionMany m_were m_had m_badAct m_badWhy m_foulAct m_met m_far m_fit m_now m_fitMany m_byCell m_wins m_chance m_kept m_isKept m_keptAt m_isWriting)) (hdg : decode cc pc = .ok (.getfield 120, 3)) (kk : W p l e R s m args below meth c H locs cel slo Q (F0 m (pc + 3) ls (.int m_padMany :: rest))) : W p l e R s m args below meth c H locs cel slo Q (F0 m pc ls (.ref (h 0) :: rest)) :=
  va_get (D := D) (ci := 3) (C := RX3) (T := TX3) (N := 42) hC.1.1 hC.1.2.1 hC.1.2.2.2.2 in_X3 hC.1.2.2.2.1 hC.2.1.1 hw.1 0 rfl rfl 8 (by decide) (hC.1.2.2.2.2 _ q463) (fun _ h9 => h9) rfl hdg kk
theorem gX3_this_pad (hC : Cx p m c cc nL s args RX3 D E A) (hw : Wo D A s.heap H locs (WX3 h E m_cell m_points m_fouls m_evening m_sightStep m_sightCell m_sights m_pad m_padMany m_act m_which m_whither m_hard m_acts m_moving m_goes m_left m_touches m_cushions m_cushionsThen m_touchedFirst m_stepsThen m_downNow m_touchedMany m_cushionMany m_were m_had m_badAct m_badWhy m_foulAct m_met m_far m_fit m_now m_fitMany m_byCell m_wins m_chance m_kept m_isKept m_keptAt m_isWriting)) (hdg : decode cc pc = .ok (.getfield 19, 3)) (kk : W p l e R s m args below meth c H locs cel slo Q (F0 m (pc + 3) ls (.ref (h 4) :: rest))) : W p l e R s m args below meth c H locs cel slo Q (F0 m pc ls (.ref (h 0) :: rest)) :=
  va_get (D := D) (ci := 3) (C := RX3) (T := TX3) (N := 42) hC.1.1 hC.1.2.1 hC.1.2.2.2.2 in_X3 hC.1.2.2.2.1 hC.2.1.1 hw.1 0 rfl rfl 7 (by decide) (hC.1.2.2.2.2 _ q462) (fun _ h9 => h9) rfl hdg kk
theorem sX3_m_pad {own : String} {i : Int32} {x : Int32} (hC : Cx p m c cc nL s args own D E A) (hw : Wo D A s.heap H locs (WX3 h E m_cell m_points m_fouls m_evening m_sightStep m_sightCell m_sights m_pad m_padMany m_act m_which m_whither m_hard m_acts m_moving m_goes m_left m_touches m_cushions m_cushionsThen m_touchedFirst m_stepsThen m_downNow m_touchedMany m_cushionMany m_were m_had m_badAct m_badWhy m_foulAct m_met m_far m_fit m_now m_fitMany m_byCell m_wins m_chance m_kept m_isKept m_keptAt m_isWriting)) (hi : bIn i 60) (hdg : decode cc pc = .ok (.iastore, 1)) (kk : ∀ (H1 : Heap) (locs1 : List Loc), Wo D A s.heap H1 locs1 (WX3 h E m_cell m_points m_fouls m_evening m_sightStep m_sightCell m_sights (upd m_pad i.toNatClampNeg x) m_padMany m_act m_which m_whither m_hard m_acts m_moving m_goes m_left m_touches m_cushions m_cushionsThen m_touchedFirst m_stepsThen m_downNow m_touchedMany m_cushionMany m_were m_had m_badAct m_badWhy m_foulAct m_met m_far m_fit m_now m_fitMany m_byCell m_wins m_chance m_kept m_isKept m_keptAt m_isWriting) → W p l e R s m args below meth c H1 locs1 cel slo Q (F0 m (pc + 1) ls rest)) : W p l e R s m args below meth c H locs cel slo Q (F0 m pc ls (.int x :: .int i :: .ref (h 4) :: rest)) :=
  va_iast hC.1.1 hC.1.2.1 hC.2.1.1 hw.1 hw.2.1 hw.2.2 4 0 rfl rfl (bIn_in hi) hdg (fun H1 l1 a b c => kk H1 l1 ⟨a, b, c⟩)
theorem pX3_this_padMany {v : Int32} (hC : Cx p m c cc nL s args RX3 D E A) (hw : Wo D A s.heap H locs (WX3 h E m_cell m_points m_fouls m_evening m_sightStep m_sightCell m_sights m_pad m_padMany m_act m_which m_whither m_hard m_acts m_moving m_goes m_left m_touches m_cushions m_cushionsThen m_touchedFirst m_stepsThen m_downNow m_touchedMany m_cushionMany m_were m_had m_badAct m_badWhy m_foulAct m_met m_far m_fit m_now m_fitMany m_byCell m_wins m_chance m_kept m_isKept m_keptAt m_isWriting)) (hdg : decode cc pc = .ok (.putfield 120, 3)) (kk : ∀ (H1 : Heap) (locs1 : List Loc), Wo D A s.heap H1 locs1 (WX3 h E m_cell m_points m_fouls m_evening m_sightStep m_sightCell m_sights m_pad v m_act m_which m_whither m_hard m_acts m_moving m_goes m_left m_touches m_cushions m_cushionsThen m_touchedFirst m_stepsThen m_downNow m_touchedMany m_cushionMany m_were m_had m_badAct m_badWhy m_foulAct m_met m_far m_fit m_now m_fitMany m_byCell m_wins m_chance m_kept m_isKept m_keptAt m_isWriting) → W p l e R s m args below meth c H1 locs1 cel slo Q (F0 m (pc + 3) ls rest)) : W p l e R s m args below meth c H locs cel slo Q (F0 m pc ls (.int v :: .ref (h 0) :: rest)) :=
  va_put (D := D) (ci := 3) (v := .int v) (ty := .int) (C := RX3) (T := TX3) (N := 42) hC.1.1 hC.1.2.1 hC.1.2.2.2.2 in_X3 tyX3 tyX3_ok nmX3 hC.1.2.2.2.1 hC.2.1.1 hw.1 hw.2.1 hw.2.2 0 rfl rfl 8 (by decide) (hC.1.2.2.2.2 _ q463) (fun _ h9 => h9) rfl (by decide +kernel) rfl rfl (Nat.le_of_ble_eq_true rfl) hdg (fun H1 l1 a b c => kk H1 l1 ⟨a, b, c⟩)
theorem gX3_this_act (hC : Cx p m c cc nL s args RX3 D E A) (hw : Wo D A s.heap H locs (WX3 h E m_cell m_points m_fouls m_evening m_sightStep m_sightCell m_sights m_pad m_padMany m_act m_which m_whither m_hard m_acts m_moving m_goes m_left m_touches m_cushions m_cushionsThen m_touchedFirst m_stepsThen m_downNow m_touchedMany m_cushionMany m_were m_had m_badAct m_badWhy m_foulAct m_met m_far m_fit m_now m_fitMany m_byCell m_wins m_chance m_kept m_isKept m_keptAt m_isWriting)) (hdg : decode cc pc = .ok (.getfield 22, 3)) (kk : W p l e R s m args below meth c H locs cel slo Q (F0 m (pc + 3) ls (.ref (h 5) :: rest))) : W p l e R s m args below meth c H locs cel slo Q (F0 m pc ls (.ref (h 0) :: rest)) :=
  va_get (D := D) (ci := 3) (C := RX3) (T := TX3) (N := 42) hC.1.1 hC.1.2.1 hC.1.2.2.2.2 in_X3 hC.1.2.2.2.1 hC.2.1.1 hw.1 0 rfl rfl 9 (by decide) (hC.1.2.2.2.2 _ q464) (fun _ h9 => h9) rfl hdg kk
theorem gX3_this_acts (hC : Cx p m c cc nL s args RX3 D E A) (hw : Wo D A s.heap H locs (WX3 h E m_cell m_points m_fouls m_evening m_sightStep m_sightCell m_sights m_pad m_padMany m_act m_which m_whither m_hard m_acts m_moving m_goes m_left m_touches m_cushions m_cushionsThen m_touchedFirst m_stepsThen m_downNow m_touchedMany m_cushionMany m_were m_had m_badAct m_badWhy m_foulAct m_met m_far m_fit m_now m_fitMany m_byCell m_wins m_chance m_kept m_isKept m_keptAt m_isWriting)) (hdg : decode cc pc = .ok (.getfield 123, 3)) (kk : W p l e R s m args below meth c H locs cel slo Q (F0 m (pc + 3) ls (.int m_acts :: rest))) : W p l e R s m args below meth c H locs cel slo Q (F0 m pc ls (.ref (h 0) :: rest)) :=
  va_get (D := D) (ci := 3) (C := RX3) (T := TX3) (N := 42) hC.1.1 hC.1.2.1 hC.1.2.2.2.2 in_X3 hC.1.2.2.2.1 hC.2.1.1 hw.1 0 rfl rfl 13 (by decide) (hC.1.2.2.2.2 _ q468) (fun _ h9 => h9) rfl hdg kk
theorem sX3_m_act {own : String} {i : Int32} {x : Int32} (hC : Cx p m c cc nL s args own D E A) (hw : Wo D A s.heap H locs (WX3 h E m_cell m_points m_fouls m_evening m_sightStep m_sightCell m_sights m_pad m_padMany m_act m_which m_whither m_hard m_acts m_moving m_goes m_left m_touches m_cushions m_cushionsThen m_touchedFirst m_stepsThen m_downNow m_touchedMany m_cushionMany m_were m_had m_badAct m_badWhy m_foulAct m_met m_far m_fit m_now m_fitMany m_byCell m_wins m_chance m_kept m_isKept m_keptAt m_isWriting)) (hi : bIn i 60) (hdg : decode cc pc = .ok (.iastore, 1)) (kk : ∀ (H1 : Heap) (locs1 : List Loc), Wo D A s.heap H1 locs1 (WX3 h E m_cell m_points m_fouls m_evening m_sightStep m_sightCell m_sights m_pad m_padMany (upd m_act i.toNatClampNeg x) m_which m_whither m_hard m_acts m_moving m_goes m_left m_touches m_cushions m_cushionsThen m_touchedFirst m_stepsThen m_downNow m_touchedMany m_cushionMany m_were m_had m_badAct m_badWhy m_foulAct m_met m_far m_fit m_now m_fitMany m_byCell m_wins m_chance m_kept m_isKept m_keptAt m_isWriting) → W p l e R s m args below meth c H1 locs1 cel slo Q (F0 m (pc + 1) ls rest)) : W p l e R s m args below meth c H locs cel slo Q (F0 m pc ls (.int x :: .int i :: .ref (h 5) :: rest)) :=
  va_iast hC.1.1 hC.1.2.1 hC.2.1.1 hw.1 hw.2.1 hw.2.2 5 0 rfl rfl (bIn_in hi) hdg (fun H1 l1 a b c => kk H1 l1 ⟨a, b, c⟩)
theorem pX3_this_acts {v : Int32} (hC : Cx p m c cc nL s args RX3 D E A) (hw : Wo D A s.heap H locs (WX3 h E m_cell m_points m_fouls m_evening m_sightStep m_sightCell m_sights m_pad m_padMany m_act m_which m_whither m_hard m_acts m_moving m_goes m_left m_touches m_cushions m_cushionsThen m_touchedFirst m_stepsThen m_downNow m_touchedMany m_cushionMany m_were m_had m_badAct m_badWhy m_foulAct m_met m_far m_fit m_now m_fitMany m_byCell m_wins m_chance m_kept m_isKept m_keptAt m_isWriting)) (hdg : decode cc pc = .ok (.putfield 123, 3)) (kk : ∀ (H1 : Heap) (locs1 : List Loc), Wo D A s.heap H1 locs1 (WX3 h E m_cell m_points m_fouls m_evening m_sightStep m_sightCell m_sights m_pad m_padMany m_act m_which m_whither m_hard v m_moving m_goes m_left m_touches m_cushions m_cushionsThen m_touchedFirst m_stepsThen m_downNow m_touchedMany m_cushionMany m_were m_had m_badAct m_badWhy m_foulAct m_met m_far m_fit m_now m_fitMany m_byCell m_wins m_chance m_kept m_isKept m_keptAt m_isWriting) → W p l e R s m args below meth c H1 locs1 cel slo Q (F0 m (pc + 3) ls rest)) : W p l e R s m args below meth c H locs cel slo Q (F0 m pc ls (.int v :: .ref (h 0) :: rest)) :=
  va_put (D := D) (ci := 3) (v := .int v) (ty := .int) (C := RX3) (T := TX3) (N := 42) hC.1.1 hC.1.2.1 hC.1.2.2.2.2 in_X3 tyX3 tyX3_ok nmX3 hC.1.2.2.2.1 hC.2.1.1 hw.1 hw.2.1 hw.2.2 0 rfl rfl 13 (by decide) (hC.1.2.2.2.2 _ q468) (fun _ h9 => h9) rfl (by decide +kernel) rfl rfl (Nat.le_of_ble_eq_true rfl) hdg (fun H1 l1 a b c => kk H1 l1 ⟨a, b, c⟩)
theorem gX3_this_which (hC : Cx p m c cc nL s args RX3 D E A) (hw : Wo D A s.heap H locs (WX3 h E m_cell m_points m_fouls m_evening m_sightStep m_sightCell m_sights m_pad m_padMany m_act m_which m_whither m_hard m_acts m_moving m_goes m_left m_touches m_cushions m_cushionsThen m_touchedFirst m_stepsThen m_downNow m_touchedMany m_cushionMany m_were m_had m_badAct m_badWhy m_foulAct m_met m_far m_fit m_now m_fitMany m_byCell m_wins m_chance m_kept m_isKept m_keptAt m_isWriting)) (hdg : decode cc pc = .ok (.getfield 25, 3)) (kk : W p l e R s m args below meth c H locs cel slo Q (F0 m (pc + 3) ls (.ref (h 6) :: rest))) : W p l e R s m args below meth c H locs cel slo Q (F0 m pc ls (.ref (h 0) :: rest)) :=
  va_get (D := D) (ci := 3) (C := RX3) (T := TX3) (N := 42) hC.1.1 hC.1.2.1 hC.1.2.2.2.2 in_X3 hC.1.2.2.2.1 hC.2.1.1 hw.1 0 rfl rfl 10 (by decide) (hC.1.2.2.2.2 _ q465) (fun _ h9 => h9) rfl hdg kk
theorem sX3_m_which {own : String} {i : Int32} {x : Int32} (hC : Cx p m c cc nL s args own D E A) (hw : Wo D A s.heap H locs (WX3 h E m_cell m_points m_fouls m_evening m_sightStep m_sightCell m_sights m_pad m_padMany m_act m_which m_whither m_hard m_acts m_moving m_goes m_left m_touches m_cushions m_cushionsThen m_touchedFirst m_stepsThen m_downNow m_touchedMany m_cushionMany m_were m_had m_badAct m_badWhy m_foulAct m_met m_far m_fit m_now m_fitMany m_byCell m_wins m_chance m_kept m_isKept m_keptAt m_isWriting)) (hi : bIn i 60) (hdg : decode cc pc = .ok (.iastore, 1)) (kk : ∀ (H1 : Heap) (locs1 : List Loc), Wo D A s.heap H1 locs1 (WX3 h E m_cell m_points m_fouls m_evening m_sightStep m_sightCell m_sights m_pad m_padMany m_act (upd m_which i.toNatClampNeg x) m_whither m_hard m_acts m_moving m_goes m_left m_touches m_cushions m_cushionsThen m_touchedFirst m_stepsThen m_downNow m_touchedMany m_cushionMany m_were m_had m_badAct m_badWhy m_foulAct m_met m_far m_fit m_now m_fitMany m_byCell m_wins m_chance m_kept m_isKept m_keptAt m_isWriting) → W p l e R s m args below meth c H1 locs1 cel slo Q (F0 m (pc + 1) ls rest)) : W p l e R s m args below meth c H locs cel slo Q (F0 m pc ls (.int x :: .int i :: .ref (h 6) :: rest)) :=
  va_iast hC.1.1 hC.1.2.1 hC.2.1.1 hw.1 hw.2.1 hw.2.2 6 0 rfl rfl (bIn_in hi) hdg (fun H1 l1 a b c => kk H1 l1 ⟨a, b, c⟩)
theorem gX3_this_whither (hC : Cx p m c cc nL s args RX3 D E A) (hw : Wo D A s.heap H locs (WX3 h E m_cell m_points m_fouls m_evening m_sightStep m_sightCell m_sights m_pad m_padMany m_act m_which m_whither m_hard m_acts m_moving m_goes m_left m_touches m_cushions m_cushionsThen m_touchedFirst m_stepsThen m_downNow m_touchedMany m_cushionMany m_were m_had m_badAct m_badWhy m_foulAct m_met m_far m_fit m_now m_fitMany m_byCell m_wins m_chance m_kept m_isKept m_keptAt m_isWriting)) (hdg : decode cc pc = .ok (.getfield 28, 3)) (kk : W p l e R s m args below meth c H locs cel slo Q (F0 m (pc + 3) ls (.ref (h 7) :: rest))) : W p l e R s m args below meth c H locs cel slo Q (F0 m pc ls (.ref (h 0) :: rest)) :=
  va_get (D := D) (ci := 3) (C := RX3) (T := TX3) (N := 42) hC.1.1 hC.1.2.1 hC.1.2.2.2.2 in_X3 hC.1.2.2.2.1 hC.2.1.1 hw.1 0 rfl rfl 11 (by decide) (hC.1.2.2.2.2 _ q466) (fun _ h9 => h9) rfl hdg kk
theorem sX3_m_whither {own : String} {i : Int32} {x : Int32} (hC : Cx p m c cc nL s args own D E A) (hw : Wo D A s.heap H locs (WX3 h E m_cell m_points m_fouls m_evening m_sightStep m_sightCell m_sights m_pad m_padMany m_act m_which m_whither m_hard m_acts m_moving m_goes m_left m_touches m_cushions m_cushionsThen m_touchedFirst m_stepsThen m_downNow m_touchedMany m_cushionMany m_were m_had m_badAct m_badWhy m_foulAct m_met m_far m_fit m_now m_fitMany m_byCell m_wins m_chance m_kept m_isKept m_keptAt m_isWriting)) (hi : bIn i 60) (hdg : decode cc pc = .ok (.iastore, 1)) (kk : ∀ (H1 : Heap) (locs1 : List Loc), Wo D A s.heap H1 locs1 (WX3 h E m_cell m_points m_fouls m_evening m_sightStep m_sightCell m_sights m_pad m_padMany m_act m_which (upd m_whither i.toNatClampNeg x) m_hard m_acts m_moving m_goes m_left m_touches m_cushions m_cushionsThen m_touchedFirst m_stepsThen m_downNow m_touchedMany m_cushionMany m_were m_had m_badAct m_badWhy m_foulAct m_met m_far m_fit m_now m_fitMany m_byCell m_wins m_chance m_kept m_isKept m_keptAt m_isWriting) → W p l e R s m args below meth c H1 locs1 cel slo Q (F0 m (pc + 1) ls rest)) : W p l e R s m args below meth c H locs cel slo Q (F0 m pc ls (.int x :: .int i :: .ref (h 7) :: rest)) :=
  va_iast hC.1.1 hC.1.2.1 hC.2.1.1 hw.1 hw.2.1 hw.2.2 7 0 rfl rfl (bIn_in hi) hdg (fun H1 l1 a b c => kk H1 l1 ⟨a, b, c⟩)
theorem gX3_this_hard (hC : Cx p m c cc nL s args RX3 D E A) (hw : Wo D A s.heap H locs (WX3 h E m_cell m_points m_fouls m_evening m_sightStep m_sightCell m_sights m_pad m_padMany m_act m_which m_whither m_hard m_acts m_moving m_goes m_left m_touches m_cushions m_cushionsThen m_touchedFirst m_stepsThen m_downNow m_touchedMany m_cushionMany m_were m_had m_badAct m_badWhy m_foulAct m_met m_far m_fit m_now m_fitMany m_byCell m_wins m_chance m_kept m_isKept m_keptAt m_isWriting)) (hdg : decode cc pc = .ok (.getfield 31, 3)) (kk : W p l e R s m args below meth c H locs cel slo Q (F0 m (pc + 3) ls (.ref (h 8) :: rest))) : W p l e R s m args below meth c H locs cel slo Q (F0 m pc ls (.ref (h 0) :: rest)) :=
  va_get (D := D) (ci := 3) (C := RX3) (T := TX3) (N := 42) hC.1.1 hC.1.2.1 hC.1.2.2.2.2 in_X3 hC.1.2.2.2.1 hC.2.1.1 hw.1 0 rfl rfl 12 (by decide) (hC.1.2.2.2.2 _ q467) (fun _ h9 => h9) rfl hdg kk
theorem sX3_m_hard {own : String} {i : Int32} {x : Int32} (hC : Cx p m c cc nL s args own D E A) (hw : Wo D A s.heap H locs (WX3 h E m_cell m_points m_fouls m_evening m_sightStep m_sightCell m_sights m_pad m_padMany m_act m_which m_whither m_hard m_acts m_moving m_goes m_left m_touches m_cushions m_cushionsThen m_touchedFirst m_stepsThen m_downNow m_touchedMany m_cushionMany m_were m_had m_badAct m_badWhy m_foulAct m_met m_far m_fit m_now m_fitMany m_byCell m_wins m_chance m_kept m_isKept m_keptAt m_isWriting)) (hi : bIn i 60) (hdg : decode cc pc = .ok (.iastore, 1)) (kk : ∀ (H1 : Heap) (locs1 : List Loc), Wo D A s.heap H1 locs1 (WX3 h E m_cell m_points m_fouls m_evening m_sightStep m_sightCell m_sights m_pad m_padMany m_act m_which m_whither (upd m_hard i.toNatClampNeg x) m_acts m_moving m_goes m_left m_touches m_cushions m_cushionsThen m_touchedFirst m_stepsThen m_downNow m_touchedMany m_cushionMany m_were m_had m_badAct m_badWhy m_foulAct m_met m_far m_fit m_now m_fitMany m_byCell m_wins m_chance m_kept m_isKept m_keptAt m_isWriting) → W p l e R s m args below meth c H1 locs1 cel slo Q (F0 m (pc + 1) ls rest)) : W p l e R s m args below meth c H locs cel slo Q (F0 m pc ls (.int x :: .int i :: .ref (h 8) :: rest)) :=
  va_iast hC.1.1 hC.1.2.1 hC.2.1.1 hw.1 hw.2.1 hw.2.2 8 0 rfl rfl (bIn_in hi) hdg (fun H1 l1 a b c => kk H1 l1 ⟨a, b, c⟩)
theorem aX3_m_pad {own : String} {i : Int32} (hC : Cx p m c cc nL s args own D E A) (hw : Wo D A s.heap H locs (WX3 h E m_cell m_points m_fouls m_evening m_sightStep m_sightCell m_sights m_pad m_padMany m_act m_which m_whither m_hard m_acts m_moving m_goes m_left m_touches m_cushions m_cushionsThen m_touchedFirst m_stepsThen m_downNow m_touchedMany m_cushionMany m_were m_had m_badAct m_badWhy m_foulAct m_met m_far m_fit m_now m_fitMany m_byCell m_wins m_chance m_kept m_isKept m_keptAt m_isWriting)) (hi : bIn i 60) (hdg : decode cc pc = .ok (.iaload, 1)) (kk : W p l e R s m args below meth c H locs cel slo Q (F0 m (pc + 1) ls (.int (m_pad i.toNatClampNeg) :: rest))) : W p l e R s m args below meth c H locs cel slo Q (F0 m pc ls (.int i :: .ref (h 4) :: rest)) :=
  va_iald hC.1.1 hC.1.2.1 hC.2.1.1 hw.1 4 0 rfl rfl (bIn_in hi) hdg kk
theorem gX3_this_had (hC : Cx p m c cc nL s args RX3 D E A) (hw : Wo D A s.heap H locs (WX3 h E m_cell m_points m_fouls m_evening m_sightStep m_sightCell m_sights m_pad m_padMany m_act m_which m_whither m_hard m_acts m_moving m_goes m_left m_touches m_cushions m_cushionsThen m_touchedFirst m_stepsThen m_downNow m_touchedMany m_cushionMany m_were m_had m_badAct m_badWhy m_foulAct m_met m_far m_fit m_now m_fitMany m_byCell m_wins m_chance m_kept m_isKept m_keptAt m_isWriting)) (hdg : decode cc pc = .ok (.getfield 37, 3)) (kk : W p l e R s m args below meth c H locs cel slo Q (F0 m (pc + 3) ls (.ref (h 10) :: rest))) : W p l e R s m args below meth c H locs cel slo Q (F0 m pc ls (.ref (h 0) :: rest)) :=
  va_get (D := D) (ci := 3) (C := RX3) (T := TX3) (N := 42) hC.1.1 hC.1.2.1 hC.1.2.2.2.2 in_X3 hC.1.2.2.2.1 hC.2.1.1 hw.1 0 rfl rfl 26 (by decide) (hC.1.2.2.2.2 _ q481) (fun _ h9 => h9) rfl hdg kk
theorem sX3_m_had {own : String} {i : Int32} {x : Int32} (hC : Cx p m c cc nL s args own D E A) (hw : Wo D A s.heap H locs (WX3 h E m_cell m_points m_fouls m_evening m_sightStep m_sightCell m_sights m_pad m_padMany m_act m_which m_whither m_hard m_acts m_moving m_goes m_left m_touches m_cushions m_cushionsThen m_touchedFirst m_stepsThen m_downNow m_touchedMany m_cushionMany m_were m_had m_badAct m_badWhy m_foulAct m_met m_far m_fit m_now m_fitMany m_byCell m_wins m_chance m_kept m_isKept m_keptAt m_isWriting)) (hi : bIn i 6) (hdg : decode cc pc = .ok (.iastore, 1)) (kk : ∀ (H1 : Heap) (locs1 : List Loc), Wo D A s.heap H1 locs1 (WX3 h E m_cell m_points m_fouls m_evening m_sightStep m_sightCell m_sights m_pad m_padMany m_act m_which m_whither m_hard m_acts m_moving m_goes m_left m_touches m_cushions m_cushionsThen m_touchedFirst m_stepsThen m_downNow m_touchedMany m_cushionMany m_were (upd m_had i.toNatClampNeg x) m_badAct m_badWhy m_foulAct m_met m_far m_fit m_now m_fitMany m_byCell m_wins m_chance m_kept m_isKept m_keptAt m_isWriting) → W p l e R s m args below meth c H1 locs1 cel slo Q (F0 m (pc + 1) ls rest)) : W p l e R s m args below meth c H locs cel slo Q (F0 m pc ls (.int x :: .int i :: .ref (h 10) :: rest)) :=
  va_iast hC.1.1 hC.1.2.1 hC.2.1.1 hw.1 hw.2.1 hw.2.2 10 0 rfl rfl (bIn_in hi) hdg (fun H1 l1 a b c => kk H1 l1 ⟨a, b, c⟩)
theorem gX3_this_evening (hC : Cx p m c cc nL s args RX3 D E A) (hw : Wo D A s.heap H locs (WX3 h E m_cell m_points m_fouls m_evening m_sightStep m_sightCell m_sights m_pad m_padMany m_act m_which m_whither m_hard m_acts m_moving m_goes m_left m_touches m_cushions m_cushionsThen m_touchedFirst m_stepsThen m_downNow m_touchedMany m_cushionMany m_were m_had m_badAct m_badWhy m_foulAct m_met m_far m_fit m_now m_fitMany m_byCell m_wins m_chance m_kept m_isKept m_keptAt m_isWriting)) (hdg : decode cc pc = .ok (.getfield 211, 3)) (kk : W p l e R s m args below meth c H locs cel slo Q (F0 m (pc + 3) ls (.int m_evening :: rest))) : W p l e R s m args below meth c H locs cel slo Q (F0 m pc ls (.ref (h 0) :: rest)) :=
  va_get (D := D) (ci := 3) (C := RX3) (T := TX3) (N := 42) hC.1.1 hC.1.2.1 hC.1.2.2.2.2 in_X3 hC.1.2.2.2.1 hC.2.1.1 hw.1 0 rfl rfl 3 (by decide) (hC.1.2.2.2.2 _ q458) (fun _ h9 => h9) rfl hdg kk
theorem gX3_this_were (hC : Cx p m c cc nL s args RX3 D E A) (hw : Wo D A s.heap H locs (WX3 h E m_cell m_points m_fouls m_evening m_sightStep m_sightCell m_sights m_pad m_padMany m_act m_which m_whither m_hard m_acts m_moving m_goes m_left m_touches m_cushions m_cushionsThen m_touchedFirst m_stepsThen m_downNow m_touchedMany m_cushionMany m_were m_had m_badAct m_badWhy m_foulAct m_met m_far m_fit m_now m_fitMany m_byCell m_wins m_chance m_kept m_isKept m_keptAt m_isWriting)) (hdg : decode cc pc = .ok (.getfield 34, 3)) (kk : W p l e R s m args below meth c H locs cel slo Q (F0 m (pc + 3) ls (.ref (h 9) :: rest))) : W p l e R s m args below meth c H locs cel slo Q (F0 m pc ls (.ref (h 0) :: rest)) :=
  va_get (D := D) (ci := 3) (C := RX3) (T := TX3) (N := 42) hC.1.1 hC.1.2.1 hC.1.2.2.2.2 in_X3 hC.1.2.2.2.1 hC.2.1.1 hw.1 0 rfl rfl 25 (by decide) (hC.1.2.2.2.2 _ q480) (fun _ h9 => h9) rfl hdg kk
theorem aX3_m_were {own : String} {i : Int32} (hC : Cx p m c cc nL s args own D E A) (hw : Wo D A s.heap H locs (WX3 h E m_cell m_points m_fouls m_evening m_sightStep m_sightCell m_sights m_pad m_padMany m_act m_which m_whither m_hard m_acts m_moving m_goes m_left m_touches m_cushions m_cushionsThen m_touchedFirst m_stepsThen m_downNow m_touchedMany m_cushionMany m_were m_had m_badAct m_badWhy m_foulAct m_met m_far m_fit m_now m_fitMany m_byCell m_wins m_chance m_kept m_isKept m_keptAt m_isWriting)) (hi : bIn i 3) (hdg : decode cc pc = .ok (.iaload, 1)) (kk : W p l e R s m args below meth c H locs cel slo Q (F0 m (pc + 1) ls (.int (m_were i.toNatClampNeg) :: rest))) : W p l e R s m args below meth c H locs cel slo Q (F0 m pc ls (.int i :: .ref (h 9) :: rest)) :=
  va_iald hC.1.1 hC.1.2.1 hC.2.1.1 hw.1 9 0 rfl rfl (bIn_in hi) hdg kk
theorem sX3_m_were {own : String} {i : Int32} {x : Int32} (hC : Cx p m c cc nL s args own D E A) (hw : Wo D A s.heap H locs (WX3 h E m_cell m_points m_fouls m_evening m_sightStep m_sightCell m_sights m_pad m_padMany m_act m_which m_whither m_hard m_acts m_moving m_goes m_left m_touches m_cushions m_cushionsThen m_touchedFirst m_stepsThen m_downNow m_touchedMany m_cushionMany m_were m_had m_badAct m_badWhy m_foulAct m_met m_far m_fit m_now m_fitMany m_byCell m_wins m_chance m_kept m_isKept m_keptAt m_isWriting)) (hi : bIn i 3) (hdg : decode cc pc = .ok (.iastore, 1)) (kk : ∀ (H1 : Heap) (locs1 : List Loc), Wo D A s.heap H1 locs1 (WX3 h E m_cell m_points m_fouls m_evening m_sightStep m_sightCell m_sights m_pad m_padMany m_act m_which m_whither m_hard m_acts m_moving m_goes m_left m_touches m_cushions m_cushionsThen m_touchedFirst m_stepsThen m_downNow m_touchedMany m_cushionMany (upd m_were i.toNatClampNeg x) m_had m_badAct m_badWhy m_foulAct m_met m_far m_fit m_now m_fitMany m_byCell m_wins m_chance m_kept m_isKept m_keptAt m_isWriting) → W p l e R s m args below meth c H1 locs1 cel slo Q (F0 m (pc + 1) ls rest)) : W p l e R s m args below meth c H locs cel slo Q (F0 m pc ls (.int x :: .int i :: .ref (h 9) :: rest)) :=
  va_iast hC.1.1 hC.1.2.1 hC.2.1.1 hw.1 hw.2.1 hw.2.2 9 0 rfl rfl (bIn_in hi) hdg (fun H1 l1 a b c => kk H1 l1 ⟨a, b, c⟩)
theorem gX3_this_touches (hC : Cx p m c cc nL s args RX3 D E A) (hw : Wo D A s.heap H locs (WX3 h E m_cell m_points m_fouls m_evening m_sightStep m_sightCell m_sights m_pad m_padMany m_act m_which m_whither m_hard m_acts m_moving m_goes m_left m_touches m_cushions m_cushionsThen m_touchedFirst m_stepsThen m_downNow m_touchedMany m_cushionMany m_were m_had m_badAct m_badWhy m_foulAct m_met m_far m_fit m_now m_fitMany m_byCell m_wins m_chance m_kept m_isKept m_keptAt m_isWriting)) (hdg : decode cc pc = .ok (.getfield 154, 3)) (kk : W p l e R s m args below meth c H locs cel slo Q (F0 m (pc + 3) ls (.int m_touches :: rest))) : W p l e R s m args below meth c H locs cel slo Q (F0 m pc ls (.ref (h 0) :: rest)) :=
  va_get (D := D) (ci := 3) (C := RX3) (T := TX3) (N := 42) hC.1.1 hC.1.2.1 hC.1.2.2.2.2 in_X3 hC.1.2.2.2.1 hC.2.1.1 hw.1 0 rfl rfl 17 (by decide) (hC.1.2.2.2.2 _ q472) (fun _ h9 => h9) rfl hdg kk
theorem pX3_this_touches {v : Int32} (hC : Cx p m c cc nL s args RX3 D E A) (hw : Wo D A s.heap H locs (WX3 h E m_cell m_points m_fouls m_evening m_sightStep m_sightCell m_sights m_pad m_padMany m_act m_which m_whither m_hard m_acts m_moving m_goes m_left m_touches m_cushions m_cushionsThen m_touchedFirst m_stepsThen m_downNow m_touchedMany m_cushionMany m_were m_had m_badAct m_badWhy m_foulAct m_met m_far m_fit m_now m_fitMany m_byCell m_wins m_chance m_kept m_isKept m_keptAt m_isWriting)) (hdg : decode cc pc = .ok (.putfield 154, 3)) (kk : ∀ (H1 : Heap) (locs1 : List Loc), Wo D A s.heap H1 locs1 (WX3 h E m_cell m_points m_fouls m_evening m_sightStep m_sightCell m_sights m_pad m_padMany m_act m_which m_whither m_hard m_acts m_moving m_goes m_left v m_cushions m_cushionsThen m_touchedFirst m_stepsThen m_downNow m_touchedMany m_cushionMany m_were m_had m_badAct m_badWhy m_foulAct m_met m_far m_fit m_now m_fitMany m_byCell m_wins m_chance m_kept m_isKept m_keptAt m_isWriting) → W p l e R s m args below meth c H1 locs1 cel slo Q (F0 m (pc + 3) ls rest)) : W p l e R s m args below meth c H locs cel slo Q (F0 m pc ls (.int v :: .ref (h 0) :: rest)) :=
  va_put (D := D) (ci := 3) (v := .int v) (ty := .int) (C := RX3) (T := TX3) (N := 42) hC.1.1 hC.1.2.1 hC.1.2.2.2.2 in_X3 tyX3 tyX3_ok nmX3 hC.1.2.2.2.1 hC.2.1.1 hw.1 hw.2.1 hw.2.2 0 rfl rfl 17 (by decide) (hC.1.2.2.2.2 _ q472) (fun _ h9 => h9) rfl (by decide +kernel) rfl rfl (Nat.le_of_ble_eq_true rfl) hdg (fun H1 l1 a b c => kk H1 l1 ⟨a, b, c⟩)
theorem gX3_this_touchedFirst (hC : Cx p m c cc nL s args RX3 D E A) (hw : Wo D A s.heap H locs (WX3 h E m_cell m_points m_fouls m_evening m_sightStep m_sightCell m_sights m_pad m_padMany m_act m_which m_whither m_hard m_acts m_moving m_goes m_left m_touches m_cushions m_cushionsThen m_touchedFirst m_stepsThen m_downNow m_touchedMany m_cushionMany m_were m_had m_badAct m_badWhy m_foulAct m_met m_far m_fit m_now m_fitMany m_byCell m_wins m_chance m_kept m_isKept m_keptAt m_isWriting)) (hdg : decode cc pc = .ok (.getfield 157, 3)) (kk : W p l e R s m args below meth c H locs cel slo Q (F0 m (pc + 3) ls (.int m_touchedFirst :: rest))) : W p l e R s m args below meth c H locs cel slo Q (F0 m pc ls (.ref (h 0) :: rest)) :=
  va_get (D := D) (ci := 3) (C := RX3) (T := TX3) (N := 42) hC.1.1 hC.1.2.1 hC.1.2.2.2.2 in_X3 hC.1.2.2.2.1 hC.2.1.1 hw.1 0 rfl rfl 20 (by decide) (hC.1.2.2.2.2 _ q475) (fun _ h9 => h9) rfl hdg kk
theorem pX3_this_moving {v : Int32} (hC : Cx p m c cc nL s args RX3 D E A) (hw : Wo D A s.heap H locs (WX3 h E m_cell m_points m_fouls m_evening m_sightStep m_sightCell m_sights m_pad m_padMany m_act m_which m_whither m_hard m_acts m_moving m_goes m_left m_touches m_cushions m_cushionsThen m_touchedFirst m_stepsThen m_downNow m_touchedMany m_cushionMany m_were m_had m_badAct m_badWhy m_foulAct m_met m_far m_fit m_now m_fitMany m_byCell m_wins m_chance m_kept m_isKept m_keptAt m_isWriting)) (hdg : decode cc pc = .ok (.putfield 172, 3)) (kk : ∀ (H1 : Heap) (locs1 : List Loc), Wo D A s.heap H1 locs1 (WX3 h E m_cell m_points m_fouls m_evening m_sightStep m_sightCell m_sights m_pad m_padMany m_act m_which m_whither m_hard m_acts v m_goes m_left m_touches m_cushions m_cushionsThen m_touchedFirst m_stepsThen m_downNow m_touchedMany m_cushionMany m_were m_had m_badAct m_badWhy m_foulAct m_met m_far m_fit m_now m_fitMany m_byCell m_wins m_chance m_kept m_isKept m_keptAt m_isWriting) → W p l e R s m args below meth c H1 locs1 cel slo Q (F0 m (pc + 3) ls rest)) : W p l e R s m args below meth c H locs cel slo Q (F0 m pc ls (.int v :: .ref (h 0) :: rest)) :=
  va_put (D := D) (ci := 3) (v := .int v) (ty := .int) (C := RX3) (T := TX3) (N := 42) hC.1.1 hC.1.2.1 hC.1.2.2.2.2 in_X3 tyX3 tyX3_ok nmX3 hC.1.2.2.2.1 hC.2.1.1 hw.1 hw.2.1 hw.2.2 0 rfl rfl 14 (by decide) (hC.1.2.2.2.2 _ q469) (fun _ h9 => h9) rfl (by decide +kernel) rfl rfl (Nat.le_of_ble_eq_true rfl) hdg (fun H1 l1 a b c => kk H1 l1 ⟨a, b, c⟩)
theorem pX3_this_touchedFirst {v : Int32} (hC : Cx p m c cc nL s args RX3 D E A) (hw : Wo D A s.heap H locs (WX3 h E m_cell m_points m_fouls m_evening m_sightStep m_sightCell m_sights m_pad m_padMany m_act m_which m_whither m_hard m_acts m_moving m_goes m_left m_touches m_cushions m_cushionsThen m_touchedFirst m_stepsThen m_downNow m_touchedMany m_cushionMany m_were m_had m_badAct m_badWhy m_foulAct m_met m_far m_fit m_now m_fitMany m_byCell m_wins m_chance m_kept m_isKept m_keptAt m_isWriting)) (hdg : decode cc pc = .ok (.putfield 157, 3)) (kk : ∀ (H1 : Heap) (locs1 : List Loc), Wo D A s.heap H1 locs1 (WX3 h E m_cell m_points m_fouls m_evening m_sightStep m_sightCell m_sights m_pad m_padMany m_act m_which m_whither m_hard m_acts m_moving m_goes m_left m_touches m_cushions m_cushionsThen v m_stepsThen m_downNow m_touchedMany m_cushionMany m_were m_had m_badAct m_badWhy m_foulAct m_met m_far m_fit m_now m_fitMany m_byCell m_wins m_chance m_kept m_isKept m_keptAt m_isWriting) → W p l e R s m args below meth c H1 locs1 cel slo Q (F0 m (pc + 3) ls rest)) : W p l e R s m args below meth c H locs cel slo Q (F0 m pc ls (.int v :: .ref (h 0) :: rest)) :=
  va_put (D := D) (ci := 3) (v := .int v) (ty := .int) (C := RX3) (T := TX3) (N := 42) hC.1.1 hC.1.2.1 hC.1.2.2.2.2 in_X3 tyX3 tyX3_ok nmX3 hC.1.2.2.2.1 hC.2.1.1 hw.1 hw.2.1 hw.2.2 0 rfl rfl 20 (by decide) (hC.1.2.2.2.2 _ q475) (fun _ h9 => h9) rfl (by decide +kernel) rfl rfl (Nat.le_of_ble_eq_true rfl) hdg (fun H1 l1 a b c => kk H1 l1 ⟨a, b, c⟩)
theorem gX3_this_cushions (hC : Cx p m c cc nL s args RX3 D E A) (hw : Wo D A s.heap H locs (WX3 h E m_cell m_points m_fouls m_evening m_sightStep m_sightCell m_sights m_pad m_padMany m_act m_which m_whither m_hard m_acts m_moving m_goes m_left m_touches m_cushions m_cushionsThen m_touchedFirst m_stepsThen m_downNow m_touchedMany m_cushionMany m_were m_had m_badAct m_badWhy m_foulAct m_met m_far m_fit m_now m_fitMany m_byCell m_wins m_chance m_kept m_isKept m_keptAt m_isWriting)) (hdg : decode cc pc = .ok (.getfield 160, 3)) (kk : W p l e R s m args below meth c H locs cel slo Q (F0 m (pc + 3) ls (.int m_cushions :: rest))) : W p l e R s m args below meth c H locs cel slo Q (F0 m pc ls (.ref (h 0) :: rest)) :=
  va_get (D := D) (ci := 3) (C := RX3) (T := TX3) (N := 42) hC.1.1 hC.1.2.1 hC.1.2.2.2.2 in_X3 hC.1.2.2.2.1 hC.2.1.1 hw.1 0 rfl rfl 18 (by decide) (hC.1.2.2.2.2 _ q473) (fun _ h9 => h9) rfl hdg kk
theorem pX3_this_cushionsThen {v : Int32} (hC : Cx p m c cc nL s args RX3 D E A) (hw : Wo D A s.heap H locs (WX3 h E m_cell m_points m_fouls m_evening m_sightStep m_sightCell m_sights m_pad m_padMany m_act m_which m_whither m_hard m_acts m_moving m_goes m_left m_touches m_cushions m_cushionsThen m_touchedFirst m_stepsThen m_downNow m_touchedMany m_cushionMany m_were m_had m_badAct m_badWhy m_foulAct m_met m_far m_fit m_now m_fitMany m_byCell m_wins m_chance m_kept m_isKept m_keptAt m_isWriting)) (hdg : decode cc pc = .ok (.putfield 163, 3)) (kk : ∀ (H1 : Heap) (locs1 : List Loc), Wo D A s.heap H1 locs1 (WX3 h E m_cell m_points m_fouls m_evening m_sightStep m_sightCell m_sights m_pad m_padMany m_act m_which m_whither m_hard m_acts m_moving m_goes m_left m_touches m_cushions v m_touchedFirst m_stepsThen m_downNow m_touchedMany m_cushionMany m_were m_had m_badAct m_badWhy m_foulAct m_met m_far m_fit m_now m_fitMany m_byCell m_wins m_chance m_kept m_isKept m_keptAt m_isWriting) → W p l e R s m args below meth c H1 locs1 cel slo Q (F0 m (pc + 3) ls rest)) : W p l e R s m args below meth c H locs cel slo Q (F0 m pc ls (.int v :: .ref (h 0) :: rest)) :=
  va_put (D := D) (ci := 3) (v := .int v) (ty := .int) (C := RX3) (T := TX3) (N := 42) hC.1.1 hC.1.2.1 hC.1.2.2.2.2 in_X3 tyX3 tyX3_ok nmX3 hC.1.2.2.2.1 hC.2.1.1 hw.1 hw.2.1 hw.2.2 0 rfl rfl 19 (by decide) (hC.1.2.2.2.2 _ q474) (fun _ h9 => h9) rfl (by decide +kernel) rfl rfl (Nat.le_of_ble_eq_true rfl) hdg (fun H1 l1 a b c => kk H1 l1 ⟨a, b, c⟩)
theorem gX3_this_left (hC : Cx p m c cc nL s args RX3 D E A) (hw : Wo D A s.heap H locs (WX3 h E m_cell m_points m_fouls m_evening m_sightStep m_sightCell m_sights m_pad m_padMany m_act m_which m_whither m_hard m_acts m_moving m_goes m_left m_touches m_cushions m_cushionsThen m_touchedFirst m_stepsThen m_downNow m_touchedMany m_cushionMany m_were m_had m_badAct m_badWhy m_foulAct m_met m_far m_fit m_now m_fitMany m_byCell m_wins m_chance m_kept m_isKept m_keptAt m_isWriting)) (hdg : decode cc pc = .ok (.getfield 166, 3)) (kk : W p l e R s m args below meth c H locs cel slo Q (F0 m (pc + 3) ls (.int m_left :: rest))) : W p l e R s m args below meth c H locs cel slo Q (F0 m pc ls (.ref (h 0) :: rest)) :=
  va_get (D := D) (ci := 3) (C := RX3) (T := TX3) (N := 42) hC.1.1 hC.1.2.1 hC.1.2.2.2.2 in_X3 hC.1.2.2.2.1 hC.2.1.1 hw.1 0 rfl rfl 16 (by decide) (hC.1.2.2.2.2 _ q471) (fun _ h9 => h9) rfl hdg kk
theorem pX3_this_stepsThen {v : Int32} (hC : Cx p m c cc nL s args RX3 D E A) (hw : Wo D A s.heap H locs (WX3 h E m_cell m_points m_fouls m_evening m_sightStep m_sightCell m_sights m_pad m_padMany m_act m_which m_whither m_hard m_acts m_moving m_goes m_left m_touches m_cushions m_cushionsThen m_touchedFirst m_stepsThen m_downNow m_touchedMany m_cushionMany m_were m_had m_badAct m_badWhy m_foulAct m_met m_far m_fit m_now m_fitMany m_byCell m_wins m_chance m_kept m_isKept m_keptAt m_isWriting)) (hdg : decode cc pc = .ok (.putfield 169, 3)) (kk : ∀ (H1 : Heap) (locs1 : List Loc), Wo D A s.heap H1 locs1 (WX3 h E m_cell m_points m_fouls m_evening m_sightStep m_sightCell m_sights m_pad m_padMany m_act m_which m_whither m_hard m_acts m_moving m_goes m_left m_touches m_cushions m_cushionsThen m_touchedFirst v m_downNow m_touchedMany m_cushionMany m_were m_had m_badAct m_badWhy m_foulAct m_met m_far m_fit m_now m_fitMany m_byCell m_wins m_chance m_kept m_isKept m_keptAt m_isWriting) → W p l e R s m args below meth c H1 locs1 cel slo Q (F0 m (pc + 3) ls rest)) : W p l e R s m args below meth c H locs cel slo Q (F0 m pc ls (.int v :: .ref (h 0) :: rest)) :=
  va_put (D := D) (ci := 3) (v := .int v) (ty := .int) (C := RX3) (T := TX3) (N := 42) hC.1.1 hC.1.2.1 hC.1.2.2.2.2 in_X3 tyX3 tyX3_ok nmX3 hC.1.2.2.2.1 hC.2.1.1 hw.1 hw.2.1 hw.2.2 0 rfl rfl 21 (by decide) (hC.1.2.2.2.2 _ q476) (fun _ h9 => h9) rfl (by decide +kernel) rfl rfl (Nat.le_of_ble_eq_true rfl) hdg (fun H1 l1 a b c => kk H1 l1 ⟨a, b, c⟩)
theorem gX3_this_moving (hC : Cx p m c cc nL s args RX3 D E A) (hw : Wo D A s.heap H locs (WX3 h E m_cell m_points m_fouls m_evening m_sightStep m_sightCell m_sights m_pad m_padMany m_act m_which m_whither m_hard m_acts m_moving m_goes m_left m_touches m_cushions m_cushionsThen m_touchedFirst m_stepsThen m_downNow m_touchedMany m_cushionMany m_were m_had m_badAct m_badWhy m_foulAct m_met m_far m_fit m_now m_fitMany m_byCell m_wins m_chance m_kept m_isKept m_keptAt m_isWriting)) (hdg : decode cc pc = .ok (.getfield 172, 3)) (kk : W p l e R s m args below meth c H locs cel slo Q (F0 m (pc + 3) ls (.int m_moving :: rest))) : W p l e R s m args below meth c H locs cel slo Q (F0 m pc ls (.ref (h 0) :: rest)) :=
  va_get (D := D) (ci := 3) (C := RX3) (T := TX3) (N := 42) hC.1.1 hC.1.2.1 hC.1.2.2.2.2 in_X3 hC.1.2.2.2.1 hC.2.1.1 hw.1 0 rfl rfl 14 (by decide) (hC.1.2.2.2.2 _ q469) (fun _ h9 => h9) rfl hdg kk
theorem gX3_this_goes (hC : Cx p m c cc nL s args RX3 D E A) (hw : Wo D A s.heap H locs (WX3 h E m_cell m_points m_fouls m_evening m_sightStep m_sightCell m_sights m_pad m_padMany m_act m_which m_whither m_hard m_acts m_moving m_goes m_left m_touches m_cushions m_cushionsThen m_touchedFirst m_stepsThen m_downNow m_touchedMany m_cushionMany m_were m_had m_badAct m_badWhy m_foulAct m_met m_far m_fit m_now m_fitMany m_byCell m_wins m_chance m_kept m_isKept m_keptAt m_isWriting)) (hdg : decode cc pc = .ok (.getfield 175, 3)) (kk : W p l e R s m args below meth c H locs cel slo Q (F0 m (pc + 3) ls (.int m_goes :: rest))) : W p l e R s m args below meth c H locs cel slo Q (F0 m pc ls (.ref (h 0) :: rest)) :=
  va_get (D := D) (ci := 3) (C := RX3) (T := TX3) (N := 42) hC.1.1 hC.1.2.1 hC.1.2.2.2.2 in_X3 hC.1.2.2.2.1 hC.2.1.1 hw.1 0 rfl rfl 15 (by decide) (hC.1.2.2.2.2 _ q470) (fun _ h9 => h9) rfl hdg kk
theorem pX3_this_cushions {v : Int32} (hC : Cx p m c cc nL s args RX3 D E A) (hw : Wo D A s.heap H locs (WX3 h E m_cell m_points m_fouls m_evening m_sightStep m_sightCell m_sights m_pad m_padMany m_act m_which m_whither m_hard m_acts m_moving m_goes m_left m_touches m_cushions m_cushionsThen m_touchedFirst m_stepsThen m_downNow m_touchedMany m_cushionMany m_were m_had m_badAct m_badWhy m_foulAct m_met m_far m_fit m_now m_fitMany m_byCell m_wins m_chance m_kept m_isKept m_keptAt m_isWriting)) (hdg : decode cc pc = .ok (.putfield 160, 3)) (kk : ∀ (H1 : Heap) (locs1 : List Loc), Wo D A s.heap H1 locs1 (WX3 h E m_cell m_points m_fouls m_evening m_sightStep m_sightCell m_sights m_pad m_padMany m_act m_which m_whither m_hard m_acts m_moving m_goes m_left m_touches v m_cushionsThen m_touchedFirst m_stepsThen m_downNow m_touchedMany m_cushionMany m_were m_had m_badAct m_badWhy m_foulAct m_met m_far m_fit m_now m_fitMany m_byCell m_wins m_chance m_kept m_isKept m_keptAt m_isWriting) → W p l e R s m args below meth c H1 locs1 cel slo Q (F0 m (pc + 3) ls rest)) : W p l e R s m args below meth c H locs cel slo Q (F0 m pc ls (.int v :: .ref (h 0) :: rest)) :=
  va_put (D := D) (ci := 3) (v := .int v) (ty := .int) (C := RX3) (T := TX3) (N := 42) hC.1.1 hC.1.2.1 hC.1.2.2.2.2 in_X3 tyX3 tyX3_ok nmX3 hC.1.2.2.2.1 hC.2.1.1 hw.1 hw.2.1 hw.2.2 0 rfl rfl 18 (by decide) (hC.1.2.2.2.2 _ q473) (fun _ h9 => h9) rfl (by decide +kernel) rfl rfl (Nat.le_of_ble_eq_true rfl) hdg (fun H1 l1 a b c => kk H1 l1 ⟨a, b, c⟩)
theorem pX3_this_goes {v : Int32} (hC : Cx p m c cc nL s args RX3 D E A) (hw : Wo D A s.heap H locs (WX3 h E m_cell m_points m_fouls m_evening m_sightStep m_sightCell m_sights m_pad m_padMany m_act m_which m_whither m_hard m_acts m_moving m_goes m_left m_touches m_cushions m_cushionsThen m_touchedFirst m_stepsThen m_downNow m_touchedMany m_cushionMany m_were m_had m_badAct m_badWhy m_foulAct m_met m_far m_fit m_now m_fitMany m_byCell m_wins m_chance m_kept m_isKept m_keptAt m_isWriting)) (hdg : decode cc pc = .ok (.putfield 175, 3)) (kk : ∀ (H1 : Heap) (locs1 : List Loc), Wo D A s.heap H1 locs1 (WX3 h E m_cell m_points m_fouls m_evening m_sightStep m_sightCell m_sights m_pad m_padMany m_act m_which m_whither m_hard m_acts m_moving v m_left m_touches m_cushions m_cushionsThen m_touchedFirst m_stepsThen m_downNow m_touchedMany m_cushionMany m_were m_had m_badAct m_badWhy m_foulAct m_met m_far m_fit m_now m_fitMany m_byCell m_wins m_chance m_kept m_isKept m_keptAt m_isWriting) → W p l e R s m args below meth c H1 locs1 cel slo Q (F0 m (pc + 3) ls rest)) : W p l e R s m args below meth c H locs cel slo Q (F0 m pc ls (.int v :: .ref (h 0) :: rest)) :=
  va_put (D := D) (ci := 3) (v := .int v) (ty := .int) (C := RX3) (T := TX3) (N := 42) hC.1.1 hC.1.2.1 hC.1.2.2.2.2 in_X3 tyX3 tyX3_ok nmX3 hC.1.2.2.2.1 hC.2.1.1 hw.1 hw.2.1 hw.2.2 0 rfl rfl 15 (by decide) (hC.1.2.2.2.2 _ q470) (fun _ h9 => h9) rfl (by decide +kernel) rfl rfl (Nat.le_of_ble_eq_true rfl) hdg (fun H1 l1 a b c => kk H1 l1 ⟨a, b, c⟩)
theorem pX3_this_left {v : Int32} (hC : Cx p m c cc nL s args RX3 D E A) (hw : Wo D A s.heap H locs (WX3 h E m_cell m_points m_fouls m_evening m_sightStep m_sightCell m_sights m_pad m_padMany m_act m_which m_whither m_hard m_acts m_moving m_goes m_left m_touches m_cushions m_cushionsThen m_touchedFirst m_stepsThen m_downNow m_touchedMany m_cushionMany m_were m_had m_badAct m_badWhy m_foulAct m_met m_far m_fit m_now m_fitMany m_byCell m_wins m_chance m_kept m_isKept m_keptAt m_isWriting)) (hdg : decode cc pc = .ok (.putfield 166, 3)) (kk : ∀ (H1 : Heap) (locs1 : List Loc), Wo D A s.heap H1 locs1 (WX3 h E m_cell m_points m_fouls m_evening m_sightStep m_sightCell m_sights m_pad m_padMany m_act m_which m_whither m_hard m_acts m_moving m_goes v m_touches m_cushions m_cushionsThen m_touchedFirst m_stepsThen m_downNow m_touchedMany m_cushionMany m_were m_had m_badAct m_badWhy m_foulAct m_met m_far m_fit m_now m_fitMany m_byCell m_wins m_chance m_kept m_isKept m_keptAt m_isWriting) → W p l e R s m args below meth c H1 locs1 cel slo Q (F0 m (pc + 3) ls rest)) : W p l e R s m args below meth c H locs cel slo Q (F0 m pc ls (.int v :: .ref (h 0) :: rest)) :=
  va_put (D := D) (ci := 3) (v := .int v) (ty := .int) (C := RX3) (T := TX3) (N := 42) hC.1.1 hC.1.2.1 hC.1.2.2.2.2 in_X3 tyX3 tyX3_ok nmX3 hC.1.2.2.2.1 hC.2.1.1 hw.1 hw.2.1 hw.2.2 0 rfl rfl 16 (by decide) (hC.1.2.2.2.2 _ q471) (fun _ h9 => h9) rfl (by decide +kernel) rfl rfl (Nat.le_of_ble_eq_true rfl) hdg (fun H1 l1 a b c => kk H1 l1 ⟨a, b, c⟩)
theorem pX3_this_downNow {v : Int32} (hC : Cx p m c cc nL s args RX3 D E A) (hw : Wo D A s.heap H locs (WX3 h E m_cell m_points m_fouls m_evening m_sightStep m_sightCell m_sights m_pad m_padMany m_act m_which m_whither m_hard m_acts m_moving m_goes m_left m_touches m_cushions m_cushionsThen m_touchedFirst m_stepsThen m_downNow m_touchedMany m_cushionMany m_were m_had m_badAct m_badWhy m_foulAct m_met m_far m_fit m_now m_fitMany m_byCell m_wins m_chance m_kept m_isKept m_keptAt m_isWriting)) (hdg : decode cc pc = .ok (.putfield 188, 3)) (kk : ∀ (H1 : Heap) (locs1 : List Loc), Wo D A s.heap H1 locs1 (WX3 h E m_cell m_points m_fouls m_evening m_sightStep m_sightCell m_sights m_pad m_padMany m_act m_which m_whither m_hard m_acts m_moving m_goes m_left m_touches m_cushions m_cushionsThen m_touchedFirst m_stepsThen v m_touchedMany m_cushionMany m_were m_had m_badAct m_badWhy m_foulAct m_met m_far m_fit m_now m_fitMany m_byCell m_wins m_chance m_kept m_isKept m_keptAt m_isWriting) → W p l e R s m args below meth c H1 locs1 cel slo Q (F0 m (pc + 3) ls rest)) : W p l e R s m args below meth c H locs cel slo Q (F0 m pc ls (.int v :: .ref (h 0) :: rest)) :=
  va_put (D := D) (ci := 3) (v := .int v) (ty := .int) (C := RX3) (T := TX3) (N := 42) hC.1.1 hC.1.2.1 hC.1.2.2.2.2 in_X3 tyX3 tyX3_ok nmX3 hC.1.2.2.2.1 hC.2.1.1 hw.1 hw.2.1 hw.2.2 0 rfl rfl 22 (by decide) (hC.1.2.2.2.2 _ q477) (fun _ h9 => h9) rfl (by decide +kernel) rfl rfl (Nat.le_of_ble_eq_true rfl) hdg (fun H1 l1 a b c => kk H1 l1 ⟨a, b, c⟩)
theorem gX3_this_downNow (hC : Cx p m c cc nL s args RX3 D E A) (hw : Wo D A s.heap H locs (WX3 h E m_cell m_points m_fouls m_evening m_sightStep m_sightCell m_sights m_pad m_padMany m_act m_which m_whither m_hard m_acts m_moving m_goes m_left m_touches m_cushions m_cushionsThen m_touchedFirst m_stepsThen m_downNow m_touchedMany m_cushionMany m_were m_had m_badAct m_badWhy m_foulAct m_met m_far m_fit m_now m_fitMany m_byCell m_wins m_chance m_kept m_isKept m_keptAt m_isWriting)) (hdg : decode cc pc = .ok (.getfield 188, 3)) (kk : W p l e R s m args below meth c H locs cel slo Q (F0 m (pc + 3) ls (.int m_downNow :: rest))) : W p l e R s m args below meth c H locs cel slo Q (F0 m pc ls (.ref (h 0) :: rest)) :=
  va_get (D := D) (ci := 3) (C := RX3) (T := TX3) (N := 42) hC.1.1 hC.1.2.1 hC.1.2.2.2.2 in_X3 hC.1.2.2.2.1 hC.2.1.1 hw.1 0 rfl rfl 22 (by decide) (hC.1.2.2.2.2 _ q477) (fun _ h9 => h9) rfl hdg kk
theorem gX3_this_touchedMany (hC : Cx p m c cc nL s args RX3 D E A) (hw : Wo D A s.heap H locs (WX3 h E m_cell m_points m_fouls m_evening m_sightStep m_sightCell m_sights m_pad m_padMany m_act m_which m_whither m_hard m_acts m_moving m_goes m_left m_touches m_cushions m_cushionsThen m_touchedFirst m_stepsThen m_downNow m_touchedMany m_cushionMany m_were m_had m_badAct m_badWhy m_foulAct m_met m_far m_fit m_now m_fitMany m_byCell m_wins m_chance m_kept m_isKept m_keptAt m_isWriting)) (hdg : decode cc pc = .ok (.getfield 199, 3)) (kk : W p l e R s m args below meth c H locs cel slo Q (F0 m (pc + 3) ls (.int m_touchedMany :: rest))) : W p l e R s m args below meth c H locs cel slo Q (F0 m pc ls (.ref (h 0) :: rest)) :=
  va_get (D := D) (ci := 3) (C := RX3) (T := TX3) (N := 42) hC.1.1 hC.1.2.1 hC.1.2.2.2.2 in_X3 hC.1.2.2.2.1 hC.2.1.1 hw.1 0 rfl rfl 23 (by decide) (hC.1.2.2.2.2 _ q478) (fun _ h9 => h9) rfl hdg kk
theorem pX3_this_touchedMany {v : Int32} (hC : Cx p m c cc nL s args RX3 D E A) (hw : Wo D A s.heap H locs (WX3 h E m_cell m_points m_fouls m_evening m_sightStep m_sightCell m_sights m_pad m_padMany m_act m_which m_whither m_hard m_acts m_moving m_goes m_left m_touches m_cushions m_cushionsThen m_touchedFirst m_stepsThen m_downNow m_touchedMany m_cushionMany m_were m_had m_badAct m_badWhy m_foulAct m_met m_far m_fit m_now m_fitMany m_byCell m_wins m_chance m_kept m_isKept m_keptAt m_isWriting)) (hdg : decode cc pc = .ok (.putfield 199, 3)) (kk : ∀ (H1 : Heap) (locs1 : List Loc), Wo D A s.heap H1 locs1 (WX3 h E m_cell m_points m_fouls m_evening m_sightStep m_sightCell m_sights m_pad m_padMany m_act m_which m_whither m_hard m_acts m_moving m_goes m_left m_touches m_cushions m_cushionsThen m_touchedFirst m_stepsThen m_downNow v m_cushionMany m_were m_had m_badAct m_badWhy m_foulAct m_met m_far m_fit m_now m_fitMany m_byCell m_wins m_chance m_kept m_isKept m_keptAt m_isWriting) → W p l e R s m args below meth c H1 locs1 cel slo Q (F0 m (pc + 3) ls rest)) : W p l e R s m args below meth c H locs cel slo Q (F0 m pc ls (.int v :: .ref (h 0) :: rest)) :=
  va_put (D := D) (ci := 3) (v := .int v) (ty := .int) (C := RX3) (T := TX3) (N := 42) hC.1.1 hC.1.2.1 hC.1.2.2.2.2 in_X3 tyX3 tyX3_ok nmX3 hC.1.2.2.2.1 hC.2.1.1 hw.1 hw.2.1 hw.2.2 0 rfl rfl 23 (by decide) (hC.1.2.2.2.2 _ q478) (fun _ h9 => h9) rfl (by decide +kernel) rfl rfl (Nat.le_of_ble_eq_true rfl) hdg (fun H1 l1 a b c => kk H1 l1 ⟨a, b, c⟩)
theorem gX3_this_cushionMany (hC : Cx p m c cc nL s args RX3 D E A) (hw : Wo D A s.heap H locs (WX3 h E m_cell m_points m_fouls m_evening m_sightStep m_sightCell m_sights m_pad m_padMany m_act m_which m_whither m_hard m_acts m_moving m_goes m_left m_touches m_cushions m_cushionsThen m_touchedFirst m_stepsThen m_downNow m_touchedMany m_cushionMany m_were m_had m_badAct m_badWhy m_foulAct m_met m_far m_fit m_now m_fitMany m_byCell m_wins m_chance m_kept m_isKept m_keptAt m_isWriting)) (hdg : decode cc pc = .ok (.getfield 202, 3)) (kk : W p l e R s m args below meth c H locs cel slo Q (F0 m (pc + 3) ls (.int m_cushionMany :: rest))) : W p l e R s m args below meth c H locs cel slo Q (F0 m pc ls (.ref (h 0) :: rest)) :=
  va_get (D := D) (ci := 3) (C := RX3) (T := TX3) (N := 42) hC.1.1 hC.1.2.1 hC.1.2.2.2.2 in_X3 hC.1.2.2.2.1 hC.2.1.1 hw.1 0 rfl rfl 24 (by decide) (hC.1.2.2.2.2 _ q479) (fun _ h9 => h9) rfl hdg kk
theorem pX3_this_cushionMany {v : Int32} (hC : Cx p m c cc nL s args RX3 D E A) (hw : Wo D A s.heap H locs (WX3 h E m_cell m_points m_fouls m_evening m_sightStep m_sightCell m_sights m_pad m_padMany m_act m_which m_whither m_hard m_acts m_moving m_goes m_left m_touches m_cushions m_cushionsThen m_touchedFirst m_stepsThen m_downNow m_touchedMany m_cushionMany m_were m_had m_badAct m_badWhy m_foulAct m_met m_far m_fit m_now m_fitMany m_byCell m_wins m_chance m_kept m_isKept m_keptAt m_isWriting)) (hdg : decode cc pc = .ok (.putfield 202, 3)) (kk : ∀ (H1 : Heap) (locs1 : List Loc), Wo D A s.heap H1 locs1 (WX3 h E m_cell m_points m_fouls m_evening m_sightStep m_sightCell m_sights m_pad m_padMany m_act m_which m_whither m_hard m_acts m_moving m_goes m_left m_touches m_cushions m_cushionsThen m_touchedFirst m_stepsThen m_downNow m_touchedMany v m_were m_had m_badAct m_badWhy m_foulAct m_met m_far m_fit m_now m_fitMany m_byCell m_wins m_chance m_kept m_isKept m_keptAt m_isWriting) → W p l e R s m args below meth c H1 locs1 cel slo Q (F0 m (pc + 3) ls rest)) : W p l e R s m args below meth c H locs cel slo Q (F0 m pc ls (.int v :: .ref (h 0) :: rest)) :=
  va_put (D := D) (ci := 3) (v := .int v) (ty := .int) (C := RX3) (T := TX3) (N := 42) hC.1.1 hC.1.2.1 hC.1.2.2.2.2 in_X3 tyX3 tyX3_ok nmX3 hC.1.2.2.2.1 hC.2.1.1 hw.1 hw.2.1 hw.2.2 0 rfl rfl 24 (by decide) (hC.1.2.2.2.2 _ q479) (fun _ h9 => h9) rfl (by decide +kernel) rfl rfl (Nat.le_of_ble_eq_true rfl) hdg (fun H1 l1 a b c => kk H1 l1 ⟨a, b, c⟩)
theorem gX3_this_cushionsThen (hC : Cx p m c cc nL s args RX3 D E A) (hw : Wo D A s.heap H locs (WX3 h E m_cell m_points m_fouls m_evening m_sightStep m_sightCell m_sights m_pad m_padMany m_act m_which m_whither m_hard m_acts m_moving m_goes m_left m_touches m_cushions m_cushionsThen m_touchedFirst m_stepsThen m_downNow m_touchedMany m_cushionMany m_were m_had m_badAct m_badWhy m_foulAct m_met m_far m_fit m_now m_fitMany m_byCell m_wins m_chance m_kept m_isKept m_keptAt m_isWriting)) (hdg : decode cc pc = .ok (.getfield 163, 3)) (kk : W p l e R s m args below meth c H locs cel slo Q (F0 m (pc + 3) ls (.int m_cushionsThen :: rest))) : W p l e R s m args below meth c H locs cel slo Q (F0 m pc ls (.ref (h 0) :: rest)) :=
  va_get (D := D) (ci := 3) (C := RX3) (T := TX3) (N := 42) hC.1.1 hC.1.2.1 hC.1.2.2.2.2 in_X3 hC.1.2.2.2.1 hC.2.1.1 hw.1 0 rfl rfl 19 (by decide) (hC.1.2.2.2.2 _ q474) (fun _ h9 => h9) rfl hdg kk
theorem pX3_this_evening {v : Int32} (hC : Cx p m c cc nL s args RX3 D E A) (hw : Wo D A s.heap H locs (WX3 h E m_cell m_points m_fouls m_evening m_sightStep m_sightCell m_sights m_pad m_padMany m_act m_which m_whither m_hard m_acts m_moving m_goes m_left m_touches m_cushions m_cushionsThen m_touchedFirst m_stepsThen m_downNow m_touchedMany m_cushionMany m_were m_had m_badAct m_badWhy m_foulAct m_met m_far m_fit m_now m_fitMany m_byCell m_wins m_chance m_kept m_isKept m_keptAt m_isWriting)) (hdg : decode cc pc = .ok (.putfield 211, 3)) (kk : ∀ (H1 : Heap) (locs1 : List Loc), Wo D A s.heap H1 locs1 (WX3 h E m_cell m_points m_fouls v m_sightStep m_sightCell m_sights m_pad m_padMany m_act m_which m_whither m_hard m_acts m_moving m_goes m_left m_touches m_cushions m_cushionsThen m_touchedFirst m_stepsThen m_downNow m_touchedMany m_cushionMany m_were m_had m_badAct m_badWhy m_foulAct m_met m_far m_fit m_now m_fitMany m_byCell m_wins m_chance m_kept m_isKept m_keptAt m_isWriting) → W p l e R s m args below meth c H1 locs1 cel slo Q (F0 m (pc + 3) ls rest)) : W p l e R s m args below meth c H locs cel slo Q (F0 m pc ls (.int v :: .ref (h 0) :: rest)) :=
  va_put (D := D) (ci := 3) (v := .int v) (ty := .int) (C := RX3) (T := TX3) (N := 42) hC.1.1 hC.1.2.1 hC.1.2.2.2.2 in_X3 tyX3 tyX3_ok nmX3 hC.1.2.2.2.1 hC.2.1.1 hw.1 hw.2.1 hw.2.2 0 rfl rfl 3 (by decide) (hC.1.2.2.2.2 _ q458) (fun _ h9 => h9) rfl (by decide +kernel) rfl rfl (Nat.le_of_ble_eq_true rfl) hdg (fun H1 l1 a b c => kk H1 l1 ⟨a, b, c⟩)
theorem pX3_this_badAct {v : Int32} (hC : Cx p m c cc nL s args RX3 D E A) (hw : Wo D A s.heap H locs (WX3 h E m_cell m_points m_fouls m_evening m_sightStep m_sightCell m_sights m_pad m_padMany m_act m_which m_whither m_hard m_acts m_moving m_goes m_left m_touches m_cushions m_cushionsThen m_touchedFirst m_stepsThen m_downNow m_touchedMany m_cushionMany m_were m_had m_badAct m_badWhy m_foulAct m_met m_far m_fit m_now m_fitMany m_byCell m_wins m_chance m_kept m_isKept m_keptAt m_isWriting)) (hdg : decode cc pc = .ok (.putfield 220, 3)) (kk : ∀ (H1 : Heap) (locs1 : List Loc), Wo D A s.heap H1 locs1 (WX3 h E m_cell m_points m_fouls m_evening m_sightStep m_sightCell m_sights m_pad m_padMany m_act m_which m_whither m_hard m_acts m_moving m_goes m_left m_touches m_cushions m_cushionsThen m_touchedFirst m_stepsThen m_downNow m_touchedMany m_cushionMany m_were m_had v m_badWhy m_foulAct m_met m_far m_fit m_now m_fitMany m_byCell m_wins m_chance m_kept m_isKept m_keptAt m_isWriting) → W p l e R s m args below meth c H1 locs1 cel slo Q (F0 m (pc + 3) ls rest)) : W p l e R s m args below meth c H locs cel slo Q (F0 m pc ls (.int v :: .ref (h 0) :: rest)) :=
  va_put (D := D) (ci := 3) (v := .int v) (ty := .int) (C := RX3) (T := TX3) (N := 42) hC.1.1 hC.1.2.1 hC.1.2.2.2.2 in_X3 tyX3 tyX3_ok nmX3 hC.1.2.2.2.1 hC.2.1.1 hw.1 hw.2.1 hw.2.2 0 rfl rfl 27 (by decide) (hC.1.2.2.2.2 _ q482) (fun _ h9 => h9) rfl (by decide +kernel) rfl rfl (Nat.le_of_ble_eq_true rfl) hdg (fun H1 l1 a b c => kk H1 l1 ⟨a, b, c⟩)
theorem pX3_this_badWhy {v : Int32} (hC : Cx p m c cc nL s args RX3 D E A) (hw : Wo D A s.heap H locs (WX3 h E m_cell m_points m_fouls m_evening m_sightStep m_sightCell m_sights m_pad m_padMany m_act m_which m_whither m_hard m_acts m_moving m_goes m_left m_touches m_cushions m_cushionsThen m_touchedFirst m_stepsThen m_downNow m_touchedMany m_cushionMany m_were m_had m_badAct m_badWhy m_foulAct m_met m_far m_fit m_now m_fitMany m_byCell m_wins m_chance m_kept m_isKept m_keptAt m_isWriting)) (hdg : decode cc pc = .ok (.putfield 223, 3)) (kk : ∀ (H1 : Heap) (locs1 : List Loc), Wo D A s.heap H1 locs1 (WX3 h E m_cell m_points m_fouls m_evening m_sightStep m_sightCell m_sights m_pad m_padMany m_act m_which m_whither m_hard m_acts m_moving m_goes m_left m_touches m_cushions m_cushionsThen m_touchedFirst m_stepsThen m_downNow m_touchedMany m_cushionMany m_were m_had m_badAct v m_foulAct m_met m_far m_fit m_now m_fitMany m_byCell m_wins m_chance m_kept m_isKept m_keptAt m_isWriting) → W p l e R s m args below meth c H1 locs1 cel slo Q (F0 m (pc + 3) ls rest)) : W p l e R s m args below meth c H locs cel slo Q (F0 m pc ls (.int v :: .ref (h 0) :: rest)) :=
  va_put (D := D) (ci := 3) (v := .int v) (ty := .int) (C := RX3) (T := TX3) (N := 42) hC.1.1 hC.1.2.1 hC.1.2.2.2.2 in_X3 tyX3 tyX3_ok nmX3 hC.1.2.2.2.1 hC.2.1.1 hw.1 hw.2.1 hw.2.2 0 rfl rfl 28 (by decide) (hC.1.2.2.2.2 _ q483) (fun _ h9 => h9) rfl (by decide +kernel) rfl rfl (Nat.le_of_ble_eq_true rfl) hdg (fun H1 l1 a b c => kk H1 l1 ⟨a, b, c⟩)
theorem pX3_this_foulAct {v : Int32} (hC : Cx p m c cc nL s args RX3 D E A) (hw : Wo D A s.heap H locs (WX3 h E m_cell m_points m_fouls m_evening m_sightStep m_sightCell m_sights m_pad m_padMany m_act m_which m_whither m_hard m_acts m_moving m_goes m_left m_touches m_cushions m_cushionsThen m_touchedFirst m_stepsThen m_downNow m_touchedMany m_cushionMany m_were m_had m_badAct m_badWhy m_foulAct m_met m_far m_fit m_now m_fitMany m_byCell m_wins m_chance m_kept m_isKept m_keptAt m_isWriting)) (hdg : decode cc pc = .ok (.putfield 226, 3)) (kk : ∀ (H1 : Heap) (locs1 : List Loc), Wo D A s.heap H1 locs1 (WX3 h E m_cell m_points m_fouls m_evening m_sightStep m_sightCell m_sights m_pad m_padMany m_act m_which m_whither m_hard m_acts m_moving m_goes m_left m_touches m_cushions m_cushionsThen m_touchedFirst m_stepsThen m_downNow m_touchedMany m_cushionMany m_were m_had m_badAct m_badWhy v m_met m_far m_fit m_now m_fitMany m_byCell m_wins m_chance m_kept m_isKept m_keptAt m_isWriting) → W p l e R s m args below meth c H1 locs1 cel slo Q (F0 m (pc + 3) ls rest)) : W p l e R s m args below meth c H locs cel slo Q (F0 m pc ls (.int v :: .ref (h 0) :: rest)) :=
  va_put (D := D) (ci := 3) (v := .int v) (ty := .int) (C := RX3) (T := TX3) (N := 42) hC.1.1 hC.1.2.1 hC.1.2.2.2.2 in_X3 tyX3 tyX3_ok nmX3 hC.1.2.2.2.1 hC.2.1.1 hw.1 hw.2.1 hw.2.2 0 rfl rfl 29 (by decide) (hC.1.2.2.2.2 _ q484) (fun _ h9 => h9) rfl (by decide +kernel) rfl rfl (Nat.le_of_ble_eq_true rfl) hdg (fun H1 l1 a b c => kk H1 l1 ⟨a, b, c⟩)
theorem gX3_this_badAct (hC : Cx p m c cc nL s args RX3 D E A) (hw : Wo D A s.heap H locs (WX3 h E m_cell m_points m_fouls m_evening m_sightStep m_sightCell m_sights m_pad m_padMany m_act m_which m_whither m_hard m_acts m_moving m_goes m_left m_touches m_cushions m_cushionsThen m_touchedFirst m_stepsThen m_downNow m_touchedMany m_cushionMany m_were m_had m_badAct m_badWhy m_foulAct m_met m_far m_fit m_now m_fitMany m_byCell m_wins m_chance m_kept m_isKept m_keptAt m_isWriting)) (hdg : decode cc pc = .ok (.getfield 220, 3)) (kk : W p l e R s m args below meth c H locs cel slo Q (F0 m (pc + 3) ls (.int m_badAct :: rest))) : W p l e R s m args below meth c H locs cel slo Q (F0 m pc ls (.ref (h 0) :: rest)) :=
  va_get (D := D) (ci := 3) (C := RX3) (T := TX3) (N := 42) hC.1.1 hC.1.2.1 hC.1.2.2.2.2 in_X3 hC.1.2.2.2.1 hC.2.1.1 hw.1 0 rfl rfl 27 (by decide) (hC.1.2.2.2.2 _ q482) (fun _ h9 => h9) rfl hdg kk
theorem aX3_m_act {own : String} {i : Int32} (hC : Cx p m c cc nL s args own D E A) (hw : Wo D A s.heap H locs (WX3 h E m_cell m_points m_fouls m_evening m_sightStep m_sightCell m_sights m_pad m_padMany m_act m_which m_whither m_hard m_acts m_moving m_goes m_left m_touches m_cushions m_cushionsThen m_touchedFirst m_stepsThen m_downNow m_touchedMany m_cushionMany m_were m_had m_badAct m_badWhy m_foulAct m_met m_far m_fit m_now m_fitMany m_byCell m_wins m_chance m_kept m_isKept m_keptAt m_isWriting)) (hi : bIn i 60) (hdg : decode cc pc = .ok (.iaload, 1)) (kk : W p l e R s m args below meth c H locs cel slo Q (F0 m (pc + 1) ls (.int (m_act i.toNatClampNeg) :: rest))) : W p l e R s m args below meth c H locs cel slo Q (F0 m pc ls (.int i :: .ref (h 5) :: rest)) :=
  va_iald hC.1.1 hC.1.2.1 hC.2.1.1 hw.1 5 0 rfl rfl (bIn_in hi) hdg kk
theorem aX3_m_which {own : String} {i : Int32} (hC : Cx p m c cc nL s args own D E A) (hw : Wo D A s.heap H locs (WX3 h E m_cell m_points m_fouls m_evening m_sightStep m_sightCell m_sights m_pad m_padMany m_act m_which m_whither m_hard m_acts m_moving m_goes m_left m_touches m_cushions m_cushionsThen m_touchedFirst m_stepsThen m_downNow m_touchedMany m_cushionMany m_were m_had m_badAct m_badWhy m_foulAct m_met m_far m_fit m_now m_fitMany m_byCell m_wins m_chance m_kept m_isKept m_keptAt m_isWriting)) (hi : bIn i 60) (hdg : decode cc pc = .ok (.iaload, 1)) (kk : W p l e R s m args below meth c H locs cel slo Q (F0 m (pc + 1) ls (.int (m_which i.toNatClampNeg) :: rest))) : W p l e R s m args below meth c H locs cel slo Q (F0 m pc ls (.int i :: .ref (h 6) :: rest)) :=
  va_iald hC.1.1 hC.1.2.1 hC.2.1.1 hw.1 6 0 rfl rfl (bIn_in hi) hdg kk
theorem gX3_this_foulAct (hC : Cx p m c cc nL s args RX3 D E A) (hw : Wo D A s.heap H locs (WX3 h E m_cell m_points m_fouls m_evening m_sightStep m_sightCell m_sights m_pad m_padMany m_act m_which m_whither m_hard m_acts m_moving m_goes m_left m_touches m_cushions m_cushionsThen m_touchedFirst m_stepsThen m_downNow m_touchedMany m_cushionMany m_were m_had m_badAct m_badWhy m_foulAct m_met m_far m_fit m_now m_fitMany m_byCell m_wins m_chance m_kept m_isKept m_keptAt m_isWriting)) (hdg : decode cc pc = .ok (.getfield 226, 3)) (kk : W p l e R s m args below meth c H locs cel slo Q (F0 m (pc + 3) ls (.int m_foulAct :: rest))) : W p l e R s m args below meth c H locs cel slo Q (F0 m pc ls (.ref (h 0) :: rest)) :=
  va_get (D := D) (ci := 3) (C := RX3) (T := TX3) (N := 42) hC.1.1 hC.1.2.1 hC.1.2.2.2.2 in_X3 hC.1.2.2.2.1 hC.2.1.1 hw.1 0 rfl rfl 29 (by decide) (hC.1.2.2.2.2 _ q484) (fun _ h9 => h9) rfl hdg kk
theorem aX3_m_whither {own : String} {i : Int32} (hC : Cx p m c cc nL s args own D E A) (hw : Wo D A s.heap H locs (WX3 h E m_cell m_points m_fouls m_evening m_sightStep m_sightCell m_sights m_pad m_padMany m_act m_which m_whither m_hard m_acts m_moving m_goes m_left m_touches m_cushions m_cushionsThen m_touchedFirst m_stepsThen m_downNow m_touchedMany m_cushionMany m_were m_had m_badAct m_badWhy m_foulAct m_met m_far m_fit m_now m_fitMany m_byCell m_wins m_chance m_kept m_isKept m_keptAt m_isWriting)) (hi : bIn i 60) (hdg : decode cc pc = .ok (.iaload, 1)) (kk : W p l e R s m args below meth c H locs cel slo Q (F0 m (pc + 1) ls (.int (m_whither i.toNatClampNeg) :: rest))) : W p l e R s m args below meth c H locs cel slo Q (F0 m pc ls (.int i :: .ref (h 7) :: rest)) :=
  va_iald hC.1.1 hC.1.2.1 hC.2.1.1 hw.1 7 0 rfl rfl (bIn_in hi) hdg kk
theorem aX3_m_hard {own : String} {i : Int32} (hC : Cx p m c cc nL s args own D E A) (hw : Wo D A s.heap H locs (WX3 h E m_cell m_points m_fouls m_evening m_sightStep m_sightCell m_sights m_pad m_padMany m_act m_which m_whither m_hard m_acts m_moving m_goes m_left m_touches m_cushions m_cushionsThen m_touchedFirst m_stepsThen m_downNow m_touchedMany m_cushionMany m_were m_had m_badAct m_badWhy m_foulAct m_met m_far m_fit m_now m_fitMany m_byCell m_wins m_chance m_kept m_isKept m_keptAt m_isWriting)) (hi : bIn i 60) (hdg : decode cc pc = .ok (.iaload, 1)) (kk : W p l e R s m args below meth c H locs cel slo Q (F0 m (pc + 1) ls (.int (m_hard i.toNatClampNeg) :: rest))) : W p l e R s m args below meth c H locs cel slo Q (F0 m pc ls (.int i :: .ref (h 8) :: rest)) :=
  va_iald hC.1.1 hC.1.2.1 hC.2.1.1 hw.1 8 0 rfl rfl (bIn_in hi) hdg kk
theorem aX3_m_had {own : String} {i : Int32} (hC : Cx p m c cc nL s args own D E A) (hw : Wo D A s.heap H locs (WX3 h E m_cell m_points m_fouls m_evening m_sightStep m_sightCell m_sights m_pad m_padMany m_act m_which m_whither m_hard m_acts m_moving m_goes m_left m_touches m_cushions m_cushionsThen m_touchedFirst m_stepsThen m_downNow m_touchedMany m_cushionMany m_were m_had m_badAct m_badWhy m_foulAct m_met m_far m_fit m_now m_fitMany m_byCell m_wins m_chance m_kept m_isKept m_keptAt m_isWriting)) (hi : bIn i 6) (hdg : decode cc pc = .ok (.iaload, 1)) (kk : W p l e R s m args below meth c H locs cel slo Q (F0 m (pc + 1) ls (.int (m_had i.toNatClampNeg) :: rest))) : W p l e R s m args below meth c H locs cel slo Q (F0 m pc ls (.int i :: .ref (h 10) :: rest)) :=
  va_iald hC.1.1 hC.1.2.1 hC.2.1.1 hw.1 10 0 rfl rfl (bIn_in hi) hdg kk
theorem gX3_this_badWhy (hC : Cx p m c cc nL s args RX3 D E A) (hw : Wo D A s.heap H locs (WX3 h E m_cell m_points m_fouls m_evening m_sightStep m_sightCell m_sights m_pad m_padMany m_act m_which m_whither m_hard m_acts m_moving m_goes m_left m_touches m_cushions m_cushionsThen m_touchedFirst m_stepsThen m_downNow m_touchedMany m_cushionMany m_were m_had m_badAct m_badWhy m_foulAct m_met m_far m_fit m_now m_fitMany m_byCell m_wins m_chance m_kept m_isKept m_keptAt m_isWriting)) (hdg : decode cc pc = .ok (.getfield 223, 3)) (kk : W p l e R s m args below meth c H locs cel slo Q (F0 m (pc + 3) ls (.int m_badWhy :: rest))) : W p l e R s m args below meth c H locs cel slo Q (F0 m pc ls (.ref (h 0) :: rest)) :=
  va_get (D := D) (ci := 3) (C := RX3) (T := TX3) (N := 42) hC.1.1 hC.1.2.1 hC.1.2.2.2.2 in_X3 hC.1.2.2.2.1 hC.2.1.1 hw.1 0 rfl rfl 28 (by decide) (hC.1.2.2.2.2 _ q483) (fun _ h9 => h9) rfl hdg kk
theorem gX3_this_stepsThen (hC : Cx p m c cc nL s args RX3 D E A) (hw : Wo D A s.heap H locs (WX3 h E m_cell m_points m_fouls m_evening m_sightStep m_sightCell m_sights m_pad m_padMany m_act m_which m_whither m_hard m_acts m_moving m_goes m_left m_touches m_cushions m_cushionsThen m_touchedFirst m_stepsThen m_downNow m_touchedMany m_cushionMany m_were m_had m_badAct m_badWhy m_foulAct m_met m_far m_fit m_now m_fitMany m_byCell m_wins m_chance m_kept m_isKept m_keptAt m_isWriting)) (hdg : decode cc pc = .ok (.getfield 169, 3)) (kk : W p l e R s m args below meth c H locs cel slo Q (F0 m (pc + 3) ls (.int m_stepsThen :: rest))) : W p l e R s m args below meth c H locs cel slo Q (F0 m pc ls (.ref (h 0) :: rest)) :=
  va_get (D := D) (ci := 3) (C := RX3) (T := TX3) (N := 42) hC.1.1 hC.1.2.1 hC.1.2.2.2.2 in_X3 hC.1.2.2.2.1 hC.2.1.1 hw.1 0 rfl rfl 21 (by decide) (hC.1.2.2.2.2 _ q476) (fun _ h9 => h9) rfl hdg kk
theorem gX3_this_met (hC : Cx p m c cc nL s args RX3 D E A) (hw : Wo D A s.heap H locs (WX3 h E m_cell m_points m_fouls m_evening m_sightStep m_sightCell m_sights m_pad m_padMany m_act m_which m_whither m_hard m_acts m_moving m_goes m_left m_touches m_cushions m_cushionsThen m_touchedFirst m_stepsThen m_downNow m_touchedMany m_cushionMany m_were m_had m_badAct m_badWhy m_foulAct m_met m_far m_fit m_now m_fitMany m_byCell m_wins m_chance m_kept m_isKept m_keptAt m_isWriting)) (hdg : decode cc pc = .ok (.getfield 40, 3)) (kk : W p l e R s m args below meth c H locs cel slo Q (F0 m (pc + 3) ls (.ref (h 11) :: rest))) : W p l e R s m args below meth c H locs cel slo Q (F0 m pc ls (.ref (h 0) :: rest)) :=
  va_get (D := D) (ci := 3) (C := RX3) (T := TX3) (N := 42) hC.1.1 hC.1.2.1 hC.1.2.2.2.2 in_X3 hC.1.2.2.2.1 hC.2.1.1 hw.1 0 rfl rfl 30 (by decide) (hC.1.2.2.2.2 _ q485) (fun _ h9 => h9) rfl hdg kk
theorem aX3_m_met {own : String} {i : Int32} (hC : Cx p m c cc nL s args own D E A) (hw : Wo D A s.heap H locs (WX3 h E m_cell m_points m_fouls m_evening m_sightStep m_sightCell m_sights m_pad m_padMany m_act m_which m_whither m_hard m_acts m_moving m_goes m_left m_touches m_cushions m_cushionsThen m_touchedFirst m_stepsThen m_downNow m_touchedMany m_cushionMany m_were m_had m_badAct m_badWhy m_foulAct m_met m_far m_fit m_now m_fitMany m_byCell m_wins m_chance m_kept m_isKept m_keptAt m_isWriting)) (hi : bIn i 45) (hdg : decode cc pc = .ok (.baload, 1)) (kk : W p l e R s m args below meth c H locs cel slo Q (F0 m (pc + 1) ls (.int (m_met i.toNatClampNeg) :: rest))) : W p l e R s m args below meth c H locs cel slo Q (F0 m pc ls (.int i :: .ref (h 11) :: rest)) :=
  va_zald hC.1.1 hC.1.2.1 hC.2.1.1 hw.1 11 1 rfl rfl (bIn_in hi) hdg kk
theorem sX3_m_met {own : String} {i : Int32} {x : Int32} (hC : Cx p m c cc nL s args own D E A) (hw : Wo D A s.heap H locs (WX3 h E m_cell m_points m_fouls m_evening m_sightStep m_sightCell m_sights m_pad m_padMany m_act m_which m_whither m_hard m_acts m_moving m_goes m_left m_touches m_cushions m_cushionsThen m_touchedFirst m_stepsThen m_downNow m_touchedMany m_cushionMany m_were m_had m_badAct m_badWhy m_foulAct m_met m_far m_fit m_now m_fitMany m_byCell m_wins m_chance m_kept m_isKept m_keptAt m_isWriting)) (hi : bIn i 45) (hdg : decode cc pc = .ok (.bastore, 1)) (kk : ∀ (H1 : Heap) (locs1 : List Loc), Wo D A s.heap H1 locs1 (WX3 h E m_cell m_points m_fouls m_evening m_sightStep m_sightCell m_sights m_pad m_padMany m_act m_which m_whither m_hard m_acts m_moving m_goes m_left m_touches m_cushions m_cushionsThen m_touchedFirst m_stepsThen m_downNow m_touchedMany m_cushionMany m_were m_had m_badAct m_badWhy m_foulAct (upd m_met i.toNatClampNeg (vp_nar .boolean x)) m_far m_fit m_now m_fitMany m_byCell m_wins m_chance m_kept m_isKept m_keptAt m_isWriting) → W p l e R s m args below meth c H1 locs1 cel slo Q (F0 m (pc + 1) ls rest)) : W p l e R s m args below meth c H locs cel slo Q (F0 m pc ls (.int x :: .int i :: .ref (h 11) :: rest)) :=
  va_zast hC.1.1 hC.1.2.1 hC.2.1.1 hw.1 hw.2.1 hw.2.2 11 1 rfl rfl (bIn_in hi) hdg (fun H1 l1 a b c => kk H1 l1 ⟨a, b, c⟩)
theorem gX3_this_far (hC : Cx p m c cc nL s args RX3 D E A) (hw : Wo D A s.heap H locs (WX3 h E m_cell m_points m_fouls m_evening m_sightStep m_sightCell m_sights m_pad m_padMany m_act m_which m_whither m_hard m_acts m_moving m_goes m_left m_touches m_cushions m_cushionsThen m_touchedFirst m_stepsThen m_downNow m_touchedMany m_cushionMany m_were m_had m_badAct m_badWhy m_foulAct m_met m_far m_fit m_now m_fitMany m_byCell m_wins m_chance m_kept m_isKept m_keptAt m_isWriting)) (hdg : decode cc pc = .ok (.getfield 44, 3)) (kk : W p l e R s m args below meth c H locs cel slo Q (F0 m (pc + 3) ls (.ref (h 12) :: rest))) : W p l e R s m args below meth c H locs cel slo Q (F0 m pc ls (.ref (h 0) :: rest)) :=
  va_get (D := D) (ci := 3) (C := RX3) (T := TX3) (N := 42) hC.1.1 hC.1.2.1 hC.1.2.2.2.2 in_X3 hC.1.2.2.2.1 hC.2.1.1 hw.1 0 rfl rfl 31 (by decide) (hC.1.2.2.2.2 _ q486) (fun _ h9 => h9) rfl hdg kk
theorem aX3_m_far {own : String} {i : Int32} (hC : Cx p m c cc nL s args own D E A) (hw : Wo D A s.heap H locs (WX3 h E m_cell m_points m_fouls m_evening m_sightStep m_sightCell m_sights m_pad m_padMany m_act m_which m_whither m_hard m_acts m_moving m_goes m_left m_touches m_cushions m_cushionsThen m_touchedFirst m_stepsThen m_downNow m_touchedMany m_cushionMany m_were m_had m_badAct m_badWhy m_foulAct m_met m_far m_fit m_now m_fitMany m_byCell m_wins m_chance m_kept m_isKept m_keptAt m_isWriting)) (hi : bIn i 45) (hdg : decode cc pc = .ok (.iaload, 1)) (kk : W p l e R s m args below meth c H locs cel slo Q (F0 m (pc + 1) ls (.int (m_far i.toNatClampNeg) :: rest))) : W p l e R s m args below meth c H locs cel slo Q (F0 m pc ls (.int i :: .ref (h 12) :: rest)) :=
  va_iald hC.1.1 hC.1.2.1 hC.2.1.1 hw.1 12 0 rfl rfl (bIn_in hi) hdg kk
theorem sX3_m_far {own : String} {i : Int32} {x : Int32} (hC : Cx p m c cc nL s args own D E A) (hw : Wo D A s.heap H locs (WX3 h E m_cell m_points m_fouls m_evening m_sightStep m_sightCell m_sights m_pad m_padMany m_act m_which m_whither m_hard m_acts m_moving m_goes m_left m_touches m_cushions m_cushionsThen m_touchedFirst m_stepsThen m_downNow m_touchedMany m_cushionMany m_were m_had m_badAct m_badWhy m_foulAct m_met m_far m_fit m_now m_fitMany m_byCell m_wins m_chance m_kept m_isKept m_keptAt m_isWriting)) (hi : bIn i 45) (hdg : decode cc pc = .ok (.iastore, 1)) (kk : ∀ (H1 : Heap) (locs1 : List Loc), Wo D A s.heap H1 locs1 (WX3 h E m_cell m_points m_fouls m_evening m_sightStep m_sightCell m_sights m_pad m_padMany m_act m_which m_whither m_hard m_acts m_moving m_goes m_left m_touches m_cushions m_cushionsThen m_touchedFirst m_stepsThen m_downNow m_touchedMany m_cushionMany m_were m_had m_badAct m_badWhy m_foulAct m_met (upd m_far i.toNatClampNeg x) m_fit m_now m_fitMany m_byCell m_wins m_chance m_kept m_isKept m_keptAt m_isWriting) → W p l e R s m args below meth c H1 locs1 cel slo Q (F0 m (pc + 1) ls rest)) : W p l e R s m args below meth c H locs cel slo Q (F0 m pc ls (.int x :: .int i :: .ref (h 12) :: rest)) :=
  va_iast hC.1.1 hC.1.2.1 hC.2.1.1 hw.1 hw.2.1 hw.2.2 12 0 rfl rfl (bIn_in hi) hdg (fun H1 l1 a b c => kk H1 l1 ⟨a, b, c⟩)
theorem gX3_this_sights (hC : Cx p m c cc nL s args RX3 D E A) (hw : Wo D A s.heap H locs (WX3 h E m_cell m_points m_fouls m_evening m_sightStep m_sightCell m_sights m_pad m_padMany m_act m_which m_whither m_hard m_acts m_moving m_goes m_left m_touches m_cushions m_cushionsThen m_touchedFirst m_stepsThen m_downNow m_touchedMany m_cushionMany m_were m_had m_badAct m_badWhy m_foulAct m_met m_far m_fit m_now m_fitMany m_byCell m_wins m_chance m_kept m_isKept m_keptAt m_isWriting)) (hdg : decode cc pc = .ok (.getfield 289, 3)) (kk : W p l e R s m args below meth c H locs cel slo Q (F0 m (pc + 3) ls (.int m_sights :: rest))) : W p l e R s m args below meth c H locs cel slo Q (F0 m pc ls (.ref (h 0) :: rest)) :=
  va_get (D := D) (ci := 3) (C := RX3) (T := TX3) (N := 42) hC.1.1 hC.1.2.1 hC.1.2.2.2.2 in_X3 hC.1.2.2.2.1 hC.2.1.1 hw.1 0 rfl rfl 6 (by decide) (hC.1.2.2.2.2 _ q461) (fun _ h9 => h9) rfl hdg kk
theorem gX3_this_sightStep (hC : Cx p m c cc nL s args RX3 D E A) (hw : Wo D A s.heap H locs (WX3 h E m_cell m_points m_fouls m_evening m_sightStep m_sightCell m_sights m_pad m_padMany m_act m_which m_whither m_hard m_acts m_moving m_goes m_left m_touches m_cushions m_cushionsThen m_touchedFirst m_stepsThen m_downNow m_touchedMany m_cushionMany m_were m_had m_badAct m_badWhy m_foulAct m_met m_far m_fit m_now m_fitMany m_byCell m_wins m_chance m_kept m_isKept m_keptAt m_isWriting)) (hdg : decode cc pc = .ok (.getfield 13, 3)) (kk : W p l e R s m args below meth c H locs cel slo Q (F0 m (pc + 3) ls (.ref (h 2) :: rest))) : W p l e R s m args below meth c H locs cel slo Q (F0 m pc ls (.ref (h 0) :: rest)) :=
  va_get (D := D) (ci := 3) (C := RX3) (T := TX3) (N := 42) hC.1.1 hC.1.2.1 hC.1.2.2.2.2 in_X3 hC.1.2.2.2.1 hC.2.1.1 hw.1 0 rfl rfl 4 (by decide) (hC.1.2.2.2.2 _ q459) (fun _ h9 => h9) rfl hdg kk
theorem sX3_m_sightStep {own : String} {i : Int32} {x : Int32} (hC : Cx p m c cc nL s args own D E A) (hw : Wo D A s.heap H locs (WX3 h E m_cell m_points m_fouls m_evening m_sightStep m_sightCell m_sights m_pad m_padMany m_act m_which m_whither m_hard m_acts m_moving m_goes m_left m_touches m_cushions m_cushionsThen m_touchedFirst m_stepsThen m_downNow m_touchedMany m_cushionMany m_were m_had m_badAct m_badWhy m_foulAct m_met m_far m_fit m_now m_fitMany m_byCell m_wins m_chance m_kept m_isKept m_keptAt m_isWriting)) (hi : bIn i 8) (hdg : decode cc pc = .ok (.iastore, 1)) (kk : ∀ (H1 : Heap) (locs1 : List Loc), Wo D A s.heap H1 locs1 (WX3 h E m_cell m_points m_fouls m_evening (upd m_sightStep i.toNatClampNeg x) m_sightCell m_sights m_pad m_padMany m_act m_which m_whither m_hard m_acts m_moving m_goes m_left m_touches m_cushions m_cushionsThen m_touchedFirst m_stepsThen m_downNow m_touchedMany m_cushionMany m_were m_had m_badAct m_badWhy m_foulAct m_met m_far m_fit m_now m_fitMany m_byCell m_wins m_chance m_kept m_isKept m_keptAt m_isWriting) → W p l e R s m args below meth c H1 locs1 cel slo Q (F0 m (pc + 1) ls rest)) : W p l e R s m args below meth c H locs cel slo Q (F0 m pc ls (.int x :: .int i :: .ref (h 2) :: rest)) :=
  va_iast hC.1.1 hC.1.2.1 hC.2.1.1 hw.1 hw.2.1 hw.2.2 2 0 rfl rfl (bIn_in hi) hdg (fun H1 l1 a b c => kk H1 l1 ⟨a, b, c⟩)
theorem gX3_this_sightCell (hC : Cx p m c cc nL s args RX3 D E A) (hw : Wo D A s.heap H locs (WX3 h E m_cell m_points m_fouls m_evening m_sightStep m_sightCell m_sights m_pad m_padMany m_act m_which m_whither m_hard m_acts m_moving m_goes m_left m_touches m_cushions m_cushionsThen m_touchedFirst m_stepsThen m_downNow m_touchedMany m_cushionMany m_were m_had m_badAct m_badWhy m_foulAct m_met m_far m_fit m_now m_fitMany m_byCell m_wins m_chance m_kept m_isKept m_keptAt m_isWriting)) (hdg : decode cc pc = .ok (.getfield 16, 3)) (kk : W p l e R s m args below meth c H locs cel slo Q (F0 m (pc + 3) ls (.ref (h 3) :: rest))) : W p l e R s m args below meth c H locs cel slo Q (F0 m pc ls (.ref (h 0) :: rest)) :=
  va_get (D := D) (ci := 3) (C := RX3) (T := TX3) (N := 42) hC.1.1 hC.1.2.1 hC.1.2.2.2.2 in_X3 hC.1.2.2.2.1 hC.2.1.1 hw.1 0 rfl rfl 5 (by decide) (hC.1.2.2.2.2 _ q460) (fun _ h9 => h9) rfl hdg kk
theorem sX3_m_sightCell {own : String} {i : Int32} {x : Int32} (hC : Cx p m c cc nL s args own D E A) (hw : Wo D A s.heap H locs (WX3 h E m_cell m_points m_fouls m_evening m_sightStep m_sightCell m_sights m_pad m_padMany m_act m_which m_whither m_hard m_acts m_moving m_goes m_left m_touches m_cushions m_cushionsThen m_touchedFirst m_stepsThen m_downNow m_touchedMany m_cushionMany m_were m_had m_badAct m_badWhy m_foulAct m_met m_far m_fit m_now m_fitMany m_byCell m_wins m_chance m_kept m_isKept m_keptAt m_isWriting)) (hi : bIn i 8) (hdg : decode cc pc = .ok (.iastore, 1)) (kk : ∀ (H1 : Heap) (locs1 : List Loc), Wo D A s.heap H1 locs1 (WX3 h E m_cell m_points m_fouls m_evening m_sightStep (upd m_sightCell i.toNatClampNeg x) m_sights m_pad m_padMany m_act m_which m_whither m_hard m_acts m_moving m_goes m_left m_touches m_cushions m_cushionsThen m_touchedFirst m_stepsThen m_downNow m_touchedMany m_cushionMany m_were m_had m_badAct m_badWhy m_foulAct m_met m_far m_fit m_now m_fitMany m_byCell m_wins m_chance m_kept m_isKept m_keptAt m_isWriting) → W p l e R s m args below meth c H1 locs1 cel slo Q (F0 m (pc + 1) ls rest)) : W p l e R s m args below meth c H locs cel slo Q (F0 m pc ls (.int x :: .int i :: .ref (h 3) :: rest)) :=
  va_iast hC.1.1 hC.1.2.1 hC.2.1.1 hw.1 hw.2.1 hw.2.2 3 0 rfl rfl (bIn_in hi) hdg (fun H1 l1 a b c => kk H1 l1 ⟨a, b, c⟩)
theorem pX3_this_sights {v : Int32} (hC : Cx p m c cc nL s args RX3 D E A) (hw : Wo D A s.heap H locs (WX3 h E m_cell m_points m_fouls m_evening m_sightStep m_sightCell m_sights m_pad m_padMany m_act m_which m_whither m_hard m_acts m_moving m_goes m_left m_touches m_cushions m_cushionsThen m_touchedFirst m_stepsThen m_downNow m_touchedMany m_cushionMany m_were m_had m_badAct m_badWhy m_foulAct m_met m_far m_fit m_now m_fitMany m_byCell m_wins m_chance m_kept m_isKept m_keptAt m_isWriting)) (hdg : decode cc pc = .ok (.putfield 289, 3)) (kk : ∀ (H1 : Heap) (locs1 : List Loc), Wo D A s.heap H1 locs1 (WX3 h E m_cell m_points m_fouls m_evening m_sightStep m_sightCell v m_pad m_padMany m_act m_which m_whither m_hard m_acts m_moving m_goes m_left m_touches m_cushions m_cushionsThen m_touchedFirst m_stepsThen m_downNow m_touchedMany m_cushionMany m_were m_had m_badAct m_badWhy m_foulAct m_met m_far m_fit m_now m_fitMany m_byCell m_wins m_chance m_kept m_isKept m_keptAt m_isWriting) → W p l e R s m args below meth c H1 locs1 cel slo Q (F0 m (pc + 3) ls rest)) : W p l e R s m args below meth c H locs cel slo Q (F0 m pc ls (.int v :: .ref (h 0) :: rest)) :=
  va_put (D := D) (ci := 3) (v := .int v) (ty := .int) (C := RX3) (T := TX3) (N := 42) hC.1.1 hC.1.2.1 hC.1.2.2.2.2 in_X3 tyX3 tyX3_ok nmX3 hC.1.2.2.2.1 hC.2.1.1 hw.1 hw.2.1 hw.2.2 0 rfl rfl 6 (by decide) (hC.1.2.2.2.2 _ q461) (fun _ h9 => h9) rfl (by decide +kernel) rfl rfl (Nat.le_of_ble_eq_true rfl) hdg (fun H1 l1 a b c => kk H1 l1 ⟨a, b, c⟩)
theorem aX3_m_sightStep {own : String} {i : Int32} (hC : Cx p m c cc nL s args own D E A) (hw : Wo D A s.heap H locs (WX3 h E m_cell m_points m_fouls m_evening m_sightStep m_sightCell m_sights m_pad m_padMany m_act m_which m_whither m_hard m_acts m_moving m_goes m_left m_touches m_cushions m_cushionsThen m_touchedFirst m_stepsThen m_downNow m_touchedMany m_cushionMany m_were m_had m_badAct m_badWhy m_foulAct m_met m_far m_fit m_now m_fitMany m_byCell m_wins m_chance m_kept m_isKept m_keptAt m_isWriting)) (hi : bIn i 8) (hdg : decode cc pc = .ok (.iaload, 1)) (kk : W p l e R s m args below meth c H locs cel slo Q (F0 m (pc + 1) ls (.int (m_sightStep i.toNatClampNeg) :: rest))) : W p l e R s m args below meth c H locs cel slo Q (F0 m pc ls (.int i :: .ref (h 2) :: rest)) :=
  va_iald hC.1.1 hC.1.2.1 hC.2.1.1 hw.1 2 0 rfl rfl (bIn_in hi) hdg kk
theorem aX3_m_sightCell {own : String} {i : Int32} (hC : Cx p m c cc nL s args own D E A) (hw : Wo D A s.heap H locs (WX3 h E m_cell m_points m_fouls m_evening m_sightStep m_sightCell m_sights m_pad m_padMany m_act m_which m_whither m_hard m_acts m_moving m_goes m_left m_touches m_cushions m_cushionsThen m_touchedFirst m_stepsThen m_downNow m_touchedMany m_cushionMany m_were m_had m_badAct m_badWhy m_foulAct m_met m_far m_fit m_now m_fitMany m_byCell m_wins m_chance m_kept m_isKept m_keptAt m_isWriting)) (hi : bIn i 8) (hdg : decode cc pc = .ok (.iaload, 1)) (kk : W p l e R s m args below meth c H locs cel slo Q (F0 m (pc + 1) ls (.int (m_sightCell i.toNatClampNeg) :: rest))) : W p l e R s m args below meth c H locs cel slo Q (F0 m pc ls (.int i :: .ref (h 3) :: rest)) :=
  va_iald hC.1.1 hC.1.2.1 hC.2.1.1 hw.1 3 0 rfl rfl (bIn_in hi) hdg kk
theorem pX3_this_fitMany {v : Int32} (hC : Cx p m c cc nL s args RX3 D E A) (hw : Wo D A s.heap H locs (WX3 h E m_cell m_points m_fouls m_evening m_sightStep m_sightCell m_sights m_pad m_padMany m_act m_which m_whither m_hard m_acts m_moving m_goes m_left m_touches m_cushions m_cushionsThen m_touchedFirst m_stepsThen m_downNow m_touchedMany m_cushionMany m_were m_had m_badAct m_badWhy m_foulAct m_met m_far m_fit m_now m_fitMany m_byCell m_wins m_chance m_kept m_isKept m_keptAt m_isWriting)) (hdg : decode cc pc = .ok (.putfield 292, 3)) (kk : ∀ (H1 : Heap) (locs1 : List Loc), Wo D A s.heap H1 locs1 (WX3 h E m_cell m_points m_fouls m_evening m_sightStep m_sightCell m_sights m_pad m_padMany m_act m_which m_whither m_hard m_acts m_moving m_goes m_left m_touches m_cushions m_cushionsThen m_touchedFirst m_stepsThen m_downNow m_touchedMany m_cushionMany m_were m_had m_badAct m_badWhy m_foulAct m_met m_far m_fit m_now v m_byCell m_wins m_chance m_kept m_isKept m_keptAt m_isWriting) → W p l e R s m args below meth c H1 locs1 cel slo Q (F0 m (pc + 3) ls rest)) : W p l e R s m args below meth c H locs cel slo Q (F0 m pc ls (.int v :: .ref (h 0) :: rest)) :=
  va_put (D := D) (ci := 3) (v := .int v) (ty := .int) (C := RX3) (T := TX3) (N := 42) hC.1.1 hC.1.2.1 hC.1.2.2.2.2 in_X3 tyX3 tyX3_ok nmX3 hC.1.2.2.2.1 hC.2.1.1 hw.1 hw.2.1 hw.2.2 0 rfl rfl 34 (by decide) (hC.1.2.2.2.2 _ q489) (fun _ h9 => h9) rfl (by decide +kernel) rfl rfl (Nat.le_of_ble_eq_true rfl) hdg (fun H1 l1 a b c => kk H1 l1 ⟨a, b, c⟩)
theorem gX3_this_fit (hC : Cx p m c cc nL s args RX3 D E A) (hw : Wo D A s.heap H locs (WX3 h E m_cell m_points m_fouls m_evening m_sightStep m_sightCell m_sights m_pad m_padMany m_act m_which m_whither m_hard m_acts m_moving m_goes m_left m_touches m_cushions m_cushionsThen m_touchedFirst m_stepsThen m_downNow m_touchedMany m_cushionMany m_were m_had m_badAct m_badWhy m_foulAct m_met m_far m_fit m_now m_fitMany m_byCell m_wins m_chance m_kept m_isKept m_keptAt m_isWriting)) (hdg : decode cc pc = .ok (.getfield 47, 3)) (kk : W p l e R s m args below meth c H locs cel slo Q (F0 m (pc + 3) ls (.ref (h 13) :: rest))) : W p l e R s m args below meth c H locs cel slo Q (F0 m pc ls (.ref (h 0) :: rest)) :=
  va_get (D := D) (ci := 3) (C := RX3) (T := TX3) (N := 42) hC.1.1 hC.1.2.1 hC.1.2.2.2.2 in_X3 hC.1.2.2.2.1 hC.2.1.1 hw.1 0 rfl rfl 32 (by decide) (hC.1.2.2.2.2 _ q487) (fun _ h9 => h9) rfl hdg kk
theorem gX3_this_fitMany (hC : Cx p m c cc nL s args RX3 D E A) (hw : Wo D A s.heap H locs (WX3 h E m_cell m_points m_fouls m_evening m_sightStep m_sightCell m_sights m_pad m_padMany m_act m_which m_whither m_hard m_acts m_moving m_goes m_left m_touches m_cushions m_cushionsThen m_touchedFirst m_stepsThen m_downNow m_touchedMany m_cushionMany m_were m_had m_badAct m_badWhy m_foulAct m_met m_far m_fit m_now m_fitMany m_byCell m_wins m_chance m_kept m_isKept m_keptAt m_isWriting)) (hdg : decode cc pc = .ok (.getfield 292, 3)) (kk : W p l e R s m args below meth c H locs cel slo Q (F0 m (pc + 3) ls (.int m_fitMany :: rest))) : W p l e R s m args below meth c H locs cel slo Q (F0 m pc ls (.ref (h 0) :: rest)) :=
  va_get (D := D) (ci := 3) (C := RX3) (T := TX3) (N := 42) hC.1.1 hC.1.2.1 hC.1.2.2.2.2 in_X3 hC.1.2.2.2.1 hC.2.1.1 hw.1 0 rfl rfl 34 (by decide) (hC.1.2.2.2.2 _ q489) (fun _ h9 => h9) rfl hdg kk
theorem sX3_m_fit {own : String} {i : Int32} {x : Int32} (hC : Cx p m c cc nL s args own D E A) (hw : Wo D A s.heap H locs (WX3 h E m_cell m_points m_fouls m_evening m_sightStep m_sightCell m_sights m_pad m_padMany m_act m_which m_whither m_hard m_acts m_moving m_goes m_left m_touches m_cushions m_cushionsThen m_touchedFirst m_stepsThen m_downNow m_touchedMany m_cushionMany m_were m_had m_badAct m_badWhy m_foulAct m_met m_far m_fit m_now m_fitMany m_byCell m_wins m_chance m_kept m_isKept m_keptAt m_isWriting)) (hi : bIn i 360) (hdg : decode cc pc = .ok (.iastore, 1)) (kk : ∀ (H1 : Heap) (locs1 : List Loc), Wo D A s.heap H1 locs1 (WX3 h E m_cell m_points m_fouls m_evening m_sightStep m_sightCell m_sights m_pad m_padMany m_act m_which m_whither m_hard m_acts m_moving m_goes m_left m_touches m_cushions m_cushionsThen m_touchedFirst m_stepsThen m_downNow m_touchedMany m_cushionMany m_were m_had m_badAct m_badWhy m_foulAct m_met m_far (upd m_fit i.toNatClampNeg x) m_now m_fitMany m_byCell m_wins m_chance m_kept m_isKept m_keptAt m_isWriting) → W p l e R s m args below meth c H1 locs1 cel slo Q (F0 m (pc + 1) ls rest)) : W p l e R s m args below meth c H locs cel slo Q (F0 m pc ls (.int x :: .int i :: .ref (h 13) :: rest)) :=
  va_iast hC.1.1 hC.1.2.1 hC.2.1.1 hw.1 hw.2.1 hw.2.2 13 0 rfl rfl (bIn_in hi) hdg (fun H1 l1 a b c => kk H1 l1 ⟨a, b, c⟩)
theorem gX3_this_now (hC : Cx p m c cc nL s args RX3 D E A) (hw : Wo D A s.heap H locs (WX3 h E m_cell m_points m_fouls m_evening m_sightStep m_sightCell m_sights m_pad m_padMany m_act m_which m_whither m_hard m_acts m_moving m_goes m_left m_touches m_cushions m_cushionsThen m_touchedFirst m_stepsThen m_downNow m_touchedMany m_cushionMany m_were m_had m_badAct m_badWhy m_foulAct m_met m_far m_fit m_now m_fitMany m_byCell m_wins m_chance m_kept m_isKept m_keptAt m_isWriting)) (hdg : decode cc pc = .ok (.getfield 50, 3)) (kk : W p l e R s m args below meth c H locs cel slo Q (F0 m (pc + 3) ls (.ref (h 14) :: rest))) : W p l e R s m args below meth c H locs cel slo Q (F0 m pc ls (.ref (h 0) :: rest)) :=
  va_get (D := D) (ci := 3) (C := RX3) (T := TX3) (N := 42) hC.1.1 hC.1.2.1 hC.1.2.2.2.2 in_X3 hC.1.2.2.2.1 hC.2.1.1 hw.1 0 rfl rfl 33 (by decide) (hC.1.2.2.2.2 _ q488) (fun _ h9 => h9) rfl hdg kk
theorem sX3_m_now {own : String} {i : Int32} {x : Int32} (hC : Cx p m c cc nL s args own D E A) (hw : Wo D A s.heap H locs (WX3 h E m_cell m_points m_fouls m_evening m_sightStep m_sightCell m_sights m_pad m_padMany m_act m_which m_whither m_hard m_acts m_moving m_goes m_left m_touches m_cushions m_cushionsThen m_touchedFirst m_stepsThen m_downNow m_touchedMany m_cushionMany m_were m_had m_badAct m_badWhy m_foulAct m_met m_far m_fit m_now m_fitMany m_byCell m_wins m_chance m_kept m_isKept m_keptAt m_isWriting)) (hi : bIn i 360) (hdg : decode cc pc = .ok (.iastore, 1)) (kk : ∀ (H1 : Heap) (locs1 : List Loc), Wo D A s.heap H1 locs1 (WX3 h E m_cell m_points m_fouls m_evening m_sightStep m_sightCell m_sights m_pad m_padMany m_act m_which m_whither m_hard m_acts m_moving m_goes m_left m_touches m_cushions m_cushionsThen m_touchedFirst m_stepsThen m_downNow m_touchedMany m_cushionMany m_were m_had m_badAct m_badWhy m_foulAct m_met m_far m_fit (upd m_now i.toNatClampNeg x) m_fitMany m_byCell m_wins m_chance m_kept m_isKept m_keptAt m_isWriting) → W p l e R s m args below meth c H1 locs1 cel slo Q (F0 m (pc + 1) ls rest)) : W p l e R s m args below meth c H locs cel slo Q (F0 m pc ls (.int x :: .int i :: .ref (h 14) :: rest)) :=
  va_iast hC.1.1 hC.1.2.1 hC.2.1.1 hw.1 hw.2.1 hw.2.2 14 0 rfl rfl (bIn_in hi) hdg (fun H1 l1 a b c => kk H1 l1 ⟨a, b, c⟩)
theorem aX3_m_fit {own : String} {i : Int32} (hC : Cx p m c cc nL s args own D E A) (hw : Wo D A s.heap H locs (WX3 h E m_cell m_points m_fouls m_evening m_sightStep m_sightCell m_sights m_pad m_padMany m_act m_which m_whither m_hard m_acts m_moving m_goes m_left m_touches m_cushions m_cushionsThen m_touchedFirst m_stepsThen m_downNow m_touchedMany m_cushionMany m_were m_had m_badAct m_badWhy m_foulAct m_met m_far m_fit m_now m_fitMany m_byCell m_wins m_chance m_kept m_isKept m_keptAt m_isWriting)) (hi : bIn i 360) (hdg : decode cc pc = .ok (.iaload, 1)) (kk : W p l e R s m args below meth c H locs cel slo Q (F0 m (pc + 1) ls (.int (m_fit i.toNatClampNeg) :: rest))) : W p l e R s m args below meth c H locs cel slo Q (F0 m pc ls (.int i :: .ref (h 13) :: rest)) :=
  va_iald hC.1.1 hC.1.2.1 hC.2.1.1 hw.1 13 0 rfl rfl (bIn_in hi) hdg kk
theorem aX3_m_now {own : String} {i : Int32} (hC : Cx p m c cc nL s args own D E A) (hw : Wo D A s.heap H locs (WX3 h E m_cell m_points m_fouls m_evening m_sightStep m_sightCell m_sights m_pad m_padMany m_act m_which m_whither m_hard m_acts m_moving m_goes m_left m_touches m_cushions m_cushionsThen m_touchedFirst m_stepsThen m_downNow m_touchedMany m_cushionMany m_were m_had m_badAct m_badWhy m_foulAct m_met m_far m_fit m_now m_fitMany m_byCell m_wins m_chance m_kept m_isKept m_keptAt m_isWriting)) (hi : bIn i 360) (hdg : decode cc pc = .ok (.iaload, 1)) (kk : W p l e R s m args below meth c H locs cel slo Q (F0 m (pc + 1) ls (.int (m_now i.toNatClampNeg) :: rest))) : W p l e R s m args below meth c H locs cel slo Q (F0 m pc ls (.int i :: .ref (h 14) :: rest)) :=
  va_iald hC.1.1 hC.1.2.1 hC.2.1.1 hw.1 14 0 rfl rfl (bIn_in hi) hdg kk
theorem gX3_this_byCell (hC : Cx p m c cc nL s args RX3 D E A) (hw : Wo D A s.heap H locs (WX3 h E m_cell m_points m_fouls m_evening m_sightStep m_sightCell m_sights m_pad m_padMany m_act m_which m_whither m_hard m_acts m_moving m_goes m_left m_touches m_cushions m_cushionsThen m_touchedFirst m_stepsThen m_downNow m_touchedMany m_cushionMany m_were m_had m_badAct m_badWhy m_foulAct m_met m_far m_fit m_now m_fitMany m_byCell m_wins m_chance m_kept m_isKept m_keptAt m_isWriting)) (hdg : decode cc pc = .ok (.getfield 53, 3)) (kk : W p l e R s m args below meth c H locs cel slo Q (F0 m (pc + 3) ls (.ref (h 15) :: rest))) : W p l e R s m args below meth c H locs cel slo Q (F0 m pc ls (.ref (h 0) :: rest)) :=
  va_get (D := D) (ci := 3) (C := RX3) (T := TX3) (N := 42) hC.1.1 hC.1.2.1 hC.1.2.2.2.2 in_X3 hC.1.2.2.2.1 hC.2.1.1 hw.1 0 rfl rfl 35 (by decide) (hC.1.2.2.2.2 _ q490) (fun _ h9 => h9) rfl hdg kk
theorem aX3_m_byCell {own : String} {i : Int32} (hC : Cx p m c cc nL s args own D E A) (hw : Wo D A s.heap H locs (WX3 h E m_cell m_points m_fouls m_evening m_sightStep m_sightCell m_sights m_pad m_padMany m_act m_which m_whither m_hard m_acts m_moving m_goes m_left m_touches m_cushions m_cushionsThen m_touchedFirst m_stepsThen m_downNow m_touchedMany m_cushionMany m_were m_had m_badAct m_badWhy m_foulAct m_met m_far m_fit m_now m_fitMany m_byCell m_wins m_chance m_kept m_isKept m_keptAt m_isWriting)) (hi : bIn i 45) (hdg : decode cc pc = .ok (.iaload, 1)) (kk : W p l e R s m args below meth c H locs cel slo Q (F0 m (pc + 1) ls (.int (m_byCell i.toNatClampNeg) :: rest))) : W p l e R s m args below meth c H locs cel slo Q (F0 m pc ls (.int i :: .ref (h 15) :: rest)) :=
  va_iald hC.1.1 hC.1.2.1 hC.2.1.1 hw.1 15 0 rfl rfl (bIn_in hi) hdg kk
theorem sX3_m_byCell {own : String} {i : Int32} {x : Int32} (hC : Cx p m c cc nL s args own D E A) (hw : Wo D A s.heap H locs (WX3 h E m_cell m_points m_fouls m_evening m_sightStep m_sightCell m_sights m_pad m_padMany m_act m_which m_whither m_hard m_acts m_moving m_goes m_left m_touches m_cushions m_cushionsThen m_touchedFirst m_stepsThen m_downNow m_touchedMany m_cushionMany m_were m_had m_badAct m_badWhy m_foulAct m_met m_far m_fit m_now m_fitMany m_byCell m_wins m_chance m_kept m_isKept m_keptAt m_isWriting)) (hi : bIn i 45) (hdg : decode cc pc = .ok (.iastore, 1)) (kk : ∀ (H1 : Heap) (locs1 : List Loc), Wo D A s.heap H1 locs1 (WX3 h E m_cell m_points m_fouls m_evening m_sightStep m_sightCell m_sights m_pad m_padMany m_act m_which m_whither m_hard m_acts m_moving m_goes m_left m_touches m_cushions m_cushionsThen m_touchedFirst m_stepsThen m_downNow m_touchedMany m_cushionMany m_were m_had m_badAct m_badWhy m_foulAct m_met m_far m_fit m_now m_fitMany (upd m_byCell i.toNatClampNeg x) m_wins m_chance m_kept m_isKept m_keptAt m_isWriting) → W p l e R s m args below meth c H1 locs1 cel slo Q (F0 m (pc + 1) ls rest)) : W p l e R s m args below meth c H locs cel slo Q (F0 m pc ls (.int x :: .int i :: .ref (h 15) :: rest)) :=
  va_iast hC.1.1 hC.1.2.1 hC.2.1.1 hw.1 hw.2.1 hw.2.2 15 0 rfl rfl (bIn_in hi) hdg (fun H1 l1 a b c => kk H1 l1 ⟨a, b, c⟩)
theorem gX3_this_wins (hC : Cx p m c cc nL s args RX3 D E A) (hw : Wo D A s.heap H locs (WX3 h E m_cell m_points m_fouls m_evening m_sightStep m_sightCell m_sights m_pad m_padMany m_act m_which m_whither m_hard m_acts m_moving m_goes m_left m_touches m_cushions m_cushionsThen m_touchedFirst m_stepsThen m_downNow m_touchedMany m_cushionMany m_were m_had m_badAct m_badWhy m_foulAct m_met m_far m_fit m_now m_fitMany m_byCell m_wins m_chance m_kept m_isKept m_keptAt m_isWriting)) (hdg : decode cc pc = .ok (.getfield 56, 3)) (kk : W p l e R s m args below meth c H locs cel slo Q (F0 m (pc + 3) ls (.ref (h 16) :: rest))) : W p l e R s m args below meth c H locs cel slo Q (F0 m pc ls (.ref (h 0) :: rest)) :=
  va_get (D := D) (ci := 3) (C := RX3) (T := TX3) (N := 42) hC.1.1 hC.1.2.1 hC.1.2.2.2.2 in_X3 hC.1.2.2.2.1 hC.2.1.1 hw.1 0 rfl rfl 36 (by decide) (hC.1.2.2.2.2 _ q491) (fun _ h9 => h9) rfl hdg kk
theorem aX3_m_wins {own : String} {i : Int32} (hC : Cx p m c cc nL s args own D E A) (hw : Wo D A s.heap H locs (WX3 h E m_cell m_points m_fouls m_evening m_sightStep m_sightCell m_sights m_pad m_padMany m_act m_which m_whither m_hard m_acts m_moving m_goes m_left m_touches m_cushions m_cushionsThen m_touchedFirst m_stepsThen m_downNow m_touchedMany m_cushionMany m_were m_had m_badAct m_badWhy m_foulAct m_met m_far m_fit m_now m_fitMany m_byCell m_wins m_chance m_kept m_isKept m_keptAt m_isWriting)) (hi : bIn i 2000) (hdg : decode cc pc = .ok (.baload, 1)) (kk : W p l e R s m args below meth c H locs cel slo Q (F0 m (pc + 1) ls (.int (m_wins i.toNatClampNeg) :: rest))) : W p l e R s m args below meth c H locs cel slo Q (F0 m pc ls (.int i :: .ref (h 16) :: rest)) :=
  va_zald hC.1.1 hC.1.2.1 hC.2.1.1 hw.1 16 1 rfl rfl (bIn_in hi) hdg kk
theorem sX3_m_wins {own : String} {i : Int32} {x : Int32} (hC : Cx p m c cc nL s args own D E A) (hw : Wo D A s.heap H locs (WX3 h E m_cell m_points m_fouls m_evening m_sightStep m_sightCell m_sights m_pad m_padMany m_act m_which m_whither m_hard m_acts m_moving m_goes m_left m_touches m_cushions m_cushionsThen m_touchedFirst m_stepsThen m_downNow m_touchedMany m_cushionMany m_were m_had m_badAct m_badWhy m_foulAct m_met m_far m_fit m_now m_fitMany m_byCell m_wins m_chance m_kept m_isKept m_keptAt m_isWriting)) (hi : bIn i 2000) (hdg : decode cc pc = .ok (.bastore, 1)) (kk : ∀ (H1 : Heap) (locs1 : List Loc), Wo D A s.heap H1 locs1 (WX3 h E m_cell m_points m_fouls m_evening m_sightStep m_sightCell m_sights m_pad m_padMany m_act m_which m_whither m_hard m_acts m_moving m_goes m_left m_touches m_cushions m_cushionsThen m_touchedFirst m_stepsThen m_downNow m_touchedMany m_cushionMany m_were m_had m_badAct m_badWhy m_foulAct m_met m_far m_fit m_now m_fitMany m_byCell (upd m_wins i.toNatClampNeg (vp_nar .boolean x)) m_chance m_kept m_isKept m_keptAt m_isWriting) → W p l e R s m args below meth c H1 locs1 cel slo Q (F0 m (pc + 1) ls rest)) : W p l e R s m args below meth c H locs cel slo Q (F0 m pc ls (.int x :: .int i :: .ref (h 16) :: rest)) :=
  va_zast hC.1.1 hC.1.2.1 hC.2.1.1 hw.1 hw.2.1 hw.2.2 16 1 rfl rfl (bIn_in hi) hdg (fun H1 l1 a b c => kk H1 l1 ⟨a, b, c⟩)
theorem gX3_this_chance (hC : Cx p m c cc nL s args RX3 D E A) (hw : Wo D A s.heap H locs (WX3 h E m_cell m_points m_fouls m_evening m_sightStep m_sightCell m_sights m_pad m_padMany m_act m_which m_whither m_hard m_acts m_moving m_goes m_left m_touches m_cushions m_cushionsThen m_touchedFirst m_stepsThen m_downNow m_touchedMany m_cushionMany m_were m_had m_badAct m_badWhy m_foulAct m_met m_far m_fit m_now m_fitMany m_byCell m_wins m_chance m_kept m_isKept m_keptAt m_isWriting)) (hdg : decode cc pc = .ok (.getfield 59, 3)) (kk : W p l e R s m args below meth c H locs cel slo Q (F0 m (pc + 3) ls (.ref (h 17) :: rest))) : W p l e R s m args below meth c H locs cel slo Q (F0 m pc ls (.ref (h 0) :: rest)) :=
  va_get (D := D) (ci := 3) (C := RX3) (T := TX3) (N := 42) hC.1.1 hC.1.2.1 hC.1.2.2.2.2 in_X3 hC.1.2.2.2.1 hC.2.1.1 hw.1 0 rfl rfl 37 (by decide) (hC.1.2.2.2.2 _ q492) (fun _ h9 => h9) rfl hdg kk
theorem aX3_m_chance {own : String} {i : Int32} (hC : Cx p m c cc nL s args own D E A) (hw : Wo D A s.heap H locs (WX3 h E m_cell m_points m_fouls m_evening m_sightStep m_sightCell m_sights m_pad m_padMany m_act m_which m_whither m_hard m_acts m_moving m_goes m_left m_touches m_cushions m_cushionsThen m_touchedFirst m_stepsThen m_downNow m_touchedMany m_cushionMany m_were m_had m_badAct m_badWhy m_foulAct m_met m_far m_fit m_now m_fitMany m_byCell m_wins m_chance m_kept m_isKept m_keptAt m_isWriting)) (hi : bIn i 81) (hdg : decode cc pc = .ok (.laload, 1)) (kk : W p l e R s m args below meth c H locs cel slo Q (F0 m (pc + 1) ls (.long (m_chance i.toNatClampNeg) :: rest))) : W p l e R s m args below meth c H locs cel slo Q (F0 m pc ls (.int i :: .ref (h 17) :: rest)) :=
  va_lald hC.1.1 hC.1.2.1 hC.2.1.1 hw.1 17 3 rfl rfl (bIn_in hi) hdg kk
theorem sX3_m_chance {own : String} {i : Int32} {x : Int64} (hC : Cx p m c cc nL s args own D E A) (hw : Wo D A s.heap H locs (WX3 h E m_cell m_points m_fouls m_evening m_sightStep m_sightCell m_sights m_pad m_padMany m_act m_which m_whither m_hard m_acts m_moving m_goes m_left m_touches m_cushions m_cushionsThen m_touchedFirst m_stepsThen m_downNow m_touchedMany m_cushionMany m_were m_had m_badAct m_badWhy m_foulAct m_met m_far m_fit m_now m_fitMany m_byCell m_wins m_chance m_kept m_isKept m_keptAt m_isWriting)) (hi : bIn i 81) (hdg : decode cc pc = .ok (.lastore, 1)) (kk : ∀ (H1 : Heap) (locs1 : List Loc), Wo D A s.heap H1 locs1 (WX3 h E m_cell m_points m_fouls m_evening m_sightStep m_sightCell m_sights m_pad m_padMany m_act m_which m_whither m_hard m_acts m_moving m_goes m_left m_touches m_cushions m_cushionsThen m_touchedFirst m_stepsThen m_downNow m_touchedMany m_cushionMany m_were m_had m_badAct m_badWhy m_foulAct m_met m_far m_fit m_now m_fitMany m_byCell m_wins (vp_updL m_chance i.toNatClampNeg x) m_kept m_isKept m_keptAt m_isWriting) → W p l e R s m args below meth c H1 locs1 cel slo Q (F0 m (pc + 1) ls rest)) : W p l e R s m args below meth c H locs cel slo Q (F0 m pc ls (.long x :: .int i :: .ref (h 17) :: rest)) :=
  va_last hC.1.1 hC.1.2.1 hC.2.1.1 hw.1 hw.2.1 hw.2.2 17 3 rfl rfl (bIn_in hi) hdg (fun H1 l1 a b c => kk H1 l1 ⟨a, b, c⟩)
theorem gX3_this_isWriting (hC : Cx p m c cc nL s args RX3 D E A) (hw : Wo D A s.heap H locs (WX3 h E m_cell m_points m_fouls m_evening m_sightStep m_sightCell m_sights m_pad m_padMany m_act m_which m_whither m_hard m_acts m_moving m_goes m_left m_touches m_cushions m_cushionsThen m_touchedFirst m_stepsThen m_downNow m_touchedMany m_cushionMany m_were m_had m_badAct m_badWhy m_foulAct m_met m_far m_fit m_now m_fitMany m_byCell m_wins m_chance m_kept m_isKept m_keptAt m_isWriting)) (hdg : decode cc pc = .ok (.getfield 341, 3)) (kk : W p l e R s m args below meth c H locs cel slo Q (F0 m (pc + 3) ls (.int m_isWriting :: rest))) : W p l e R s m args below meth c H locs cel slo Q (F0 m pc ls (.ref (h 0) :: rest)) :=
  va_get (D := D) (ci := 3) (C := RX3) (T := TX3) (N := 42) hC.1.1 hC.1.2.1 hC.1.2.2.2.2 in_X3 hC.1.2.2.2.1 hC.2.1.1 hw.1 0 rfl rfl 41 (by decide) (hC.1.2.2.2.2 _ q496) (fun _ h9 => h9) rfl hdg kk
theorem gX3_this_kept (hC : Cx p m c cc nL s args RX3 D E A) (hw : Wo D A s.heap H locs (WX3 h E m_cell m_points m_fouls m_evening m_sightStep m_sightCell m_sights m_pad m_padMany m_act m_which m_whither m_hard m_acts m_moving m_goes m_left m_touches m_cushions m_cushionsThen m_touchedFirst m_stepsThen m_downNow m_touchedMany m_cushionMany m_were m_had m_badAct m_badWhy m_foulAct m_met m_far m_fit m_now m_fitMany m_byCell m_wins m_chance m_kept m_isKept m_keptAt m_isWriting)) (hdg : decode cc pc = .ok (.getfield 63, 3)) (kk : W p l e R s m args below meth c H locs cel slo Q (F0 m (pc + 3) ls (.ref (h 18) :: rest))) : W p l e R s m args below meth c H locs cel slo Q (F0 m pc ls (.ref (h 0) :: rest)) :=
  va_get (D := D) (ci := 3) (C := RX3) (T := TX3) (N := 42) hC.1.1 hC.1.2.1 hC.1.2.2.2.2 in_X3 hC.1.2.2.2.1 hC.2.1.1 hw.1 0 rfl rfl 38 (by decide) (hC.1.2.2.2.2 _ q493) (fun _ h9 => h9) rfl hdg kk
theorem gX3_this_keptAt (hC : Cx p m c cc nL s args RX3 D E A) (hw : Wo D A s.heap H locs (WX3 h E m_cell m_points m_fouls m_evening m_sightStep m_sightCell m_sights m_pad m_padMany m_act m_which m_whither m_hard m_acts m_moving m_goes m_left m_touches m_cushions m_cushionsThen m_touchedFirst m_stepsThen m_downNow m_touchedMany m_cushionMany m_were m_had m_badAct m_badWhy m_foulAct m_met m_far m_fit m_now m_fitMany m_byCell m_wins m_chance m_kept m_isKept m_keptAt m_isWriting)) (hdg : decode cc pc = .ok (.getfield 345, 3)) (kk : W p l e R s m args below meth c H locs cel slo Q (F0 m (pc + 3) ls (.int m_keptAt :: rest))) : W p l e R s m args below meth c H locs cel slo Q (F0 m pc ls (.ref (h 0) :: rest)) :=
  va_get (D := D) (ci := 3) (C := RX3) (T := TX3) (N := 42) hC.1.1 hC.1.2.1 hC.1.2.2.2.2 in_X3 hC.1.2.2.2.1 hC.2.1.1 hw.1 0 rfl rfl 40 (by decide) (hC.1.2.2.2.2 _ q495) (fun _ h9 => h9) rfl hdg kk
theorem aX3_m_kept {own : String} {i : Int32} (hC : Cx p m c cc nL s args own D E A) (hw : Wo D A s.heap H locs (WX3 h E m_cell m_points m_fouls m_evening m_sightStep m_sightCell m_sights m_pad m_padMany m_act m_which m_whither m_hard m_acts m_moving m_goes m_left m_touches m_cushions m_cushionsThen m_touchedFirst m_stepsThen m_downNow m_touchedMany m_cushionMany m_were m_had m_badAct m_badWhy m_foulAct m_met m_far m_fit m_now m_fitMany m_byCell m_wins m_chance m_kept m_isKept m_keptAt m_isWriting)) (hi : bIn i 60) (hdg : decode cc pc = .ok (.iaload, 1)) (kk : W p l e R s m args below meth c H locs cel slo Q (F0 m (pc + 1) ls (.int (m_kept i.toNatClampNeg) :: rest))) : W p l e R s m args below meth c H locs cel slo Q (F0 m pc ls (.int i :: .ref (h 18) :: rest)) :=
  va_iald hC.1.1 hC.1.2.1 hC.2.1.1 hw.1 18 0 rfl rfl (bIn_in hi) hdg kk
theorem sX3_m_kept {own : String} {i : Int32} {x : Int32} (hC : Cx p m c cc nL s args own D E A) (hw : Wo D A s.heap H locs (WX3 h E m_cell m_points m_fouls m_evening m_sightStep m_sightCell m_sights m_pad m_padMany m_act m_which m_whither m_hard m_acts m_moving m_goes m_left m_touches m_cushions m_cushionsThen m_touchedFirst m_stepsThen m_downNow m_touchedMany m_cushionMany m_were m_had m_badAct m_badWhy m_foulAct m_met m_far m_fit m_now m_fitMany m_byCell m_wins m_chance m_kept m_isKept m_keptAt m_isWriting)) (hi : bIn i 60) (hdg : decode cc pc = .ok (.iastore, 1)) (kk : ∀ (H1 : Heap) (locs1 : List Loc), Wo D A s.heap H1 locs1 (WX3 h E m_cell m_points m_fouls m_evening m_sightStep m_sightCell m_sights m_pad m_padMany m_act m_which m_whither m_hard m_acts m_moving m_goes m_left m_touches m_cushions m_cushionsThen m_touchedFirst m_stepsThen m_downNow m_touchedMany m_cushionMany m_were m_had m_badAct m_badWhy m_foulAct m_met m_far m_fit m_now m_fitMany m_byCell m_wins m_chance (upd m_kept i.toNatClampNeg x) m_isKept m_keptAt m_isWriting) → W p l e R s m args below meth c H1 locs1 cel slo Q (F0 m (pc + 1) ls rest)) : W p l e R s m args below meth c H locs cel slo Q (F0 m pc ls (.int x :: .int i :: .ref (h 18) :: rest)) :=
  va_iast hC.1.1 hC.1.2.1 hC.2.1.1 hw.1 hw.2.1 hw.2.2 18 0 rfl rfl (bIn_in hi) hdg (fun H1 l1 a b c => kk H1 l1 ⟨a, b, c⟩)
theorem pX3_this_keptAt {v : Int32} (hC : Cx p m c cc nL s args RX3 D E A) (hw : Wo D A s.heap H locs (WX3 h E m_cell m_points m_fouls m_evening m_sightStep m_sightCell m_sights m_pad m_padMany m_act m_which m_whither m_hard m_acts m_moving m_goes m_left m_touches m_cushions m_cushionsThen m_touchedFirst m_stepsThen m_downNow m_touchedMany m_cushionMany m_were m_had m_badAct m_badWhy m_foulAct m_met m_far m_fit m_now m_fitMany m_byCell m_wins m_chance m_kept m_isKept m_keptAt m_isWriting)) (hdg : decode cc pc = .ok (.putfield 345, 3)) (kk : ∀ (H1 : Heap) (locs1 : List Loc), Wo D A s.heap H1 locs1 (WX3 h E m_cell m_points m_fouls m_evening m_sightStep m_sightCell m_sights m_pad m_padMany m_act m_which m_whither m_hard m_acts m_moving m_goes m_left m_touches m_cushions m_cushionsThen m_touchedFirst m_stepsThen m_downNow m_touchedMany m_cushionMany m_were m_had m_badAct m_badWhy m_foulAct m_met m_far m_fit m_now m_fitMany m_byCell m_wins m_chance m_kept m_isKept v m_isWriting) → W p l e R s m args below meth c H1 locs1 cel slo Q (F0 m (pc + 3) ls rest)) : W p l e R s m args below meth c H locs cel slo Q (F0 m pc ls (.int v :: .ref (h 0) :: rest)) :=
  va_put (D := D) (ci := 3) (v := .int v) (ty := .int) (C := RX3) (T := TX3) (N := 42) hC.1.1 hC.1.2.1 hC.1.2.2.2.2 in_X3 tyX3 tyX3_ok nmX3 hC.1.2.2.2.1 hC.2.1.1 hw.1 hw.2.1 hw.2.2 0 rfl rfl 40 (by decide) (hC.1.2.2.2.2 _ q495) (fun _ h9 => h9) rfl (by decide +kernel) rfl rfl (Nat.le_of_ble_eq_true rfl) hdg (fun H1 l1 a b c => kk H1 l1 ⟨a, b, c⟩)
theorem pX3_this_isWriting_1 (hC : Cx p m c cc nL s args RX3 D E A) (hw : Wo D A s.heap H locs (WX3 h E m_cell m_points m_fouls m_evening m_sightStep m_sightCell m_sights m_pad m_padMany m_act m_which m_whither m_hard m_acts m_moving m_goes m_left m_touches m_cushions m_cushionsThen m_touchedFirst m_stepsThen m_downNow m_touchedMany m_cushionMany m_were m_had m_badAct m_badWhy m_foulAct m_met m_far m_fit m_now m_fitMany m_byCell m_wins m_chance m_kept m_isKept m_keptAt m_isWriting)) (hdg : decode cc pc = .ok (.putfield 341, 3)) (kk : ∀ (H1 : Heap) (locs1 : List Loc), Wo D A s.heap H1 locs1 (WX3 h E m_cell m_points m_fouls m_evening m_sightStep m_sightCell m_sights m_pad m_padMany m_act m_which m_whither m_hard m_acts m_moving m_goes m_left m_touches m_cushions m_cushionsThen m_touchedFirst m_stepsThen m_downNow m_touchedMany m_cushionMany m_were m_had m_badAct m_badWhy m_foulAct m_met m_far m_fit m_now m_fitMany m_byCell m_wins m_chance m_kept m_isKept m_keptAt 1) → W p l e R s m args below meth c H1 locs1 cel slo Q (F0 m (pc + 3) ls rest)) : W p l e R s m args below meth c H locs cel slo Q (F0 m pc ls (.int 1 :: .ref (h 0) :: rest)) :=
  va_put (D := D) (ci := 3) (v := .int 1) (ty := .boolean) (C := RX3) (T := TX3) (N := 42) hC.1.1 hC.1.2.1 hC.1.2.2.2.2 in_X3 tyX3 tyX3_ok nmX3 hC.1.2.2.2.1 hC.2.1.1 hw.1 hw.2.1 hw.2.2 0 rfl rfl 41 (by decide) (hC.1.2.2.2.2 _ q496) (fun _ h9 => h9) rfl (by decide +kernel) rfl rfl (Nat.le_of_ble_eq_true rfl) hdg (fun H1 l1 a b c => kk H1 l1 ⟨a, b, c⟩)
theorem gX3_this_isKept (hC : Cx p m c cc nL s args RX3 D E A) (hw : Wo D A s.heap H locs (WX3 h E m_cell m_points m_fouls m_evening m_sightStep m_sightCell m_sights m_pad m_padMany m_act m_which m_whither m_hard m_acts m_moving m_goes m_left m_touches m_cushions m_cushionsThen m_touchedFirst m_stepsThen m_downNow m_touchedMany m_cushionMany m_were m_had m_badAct m_badWhy m_foulAct m_met m_far m_fit m_now m_fitMany m_byCell m_wins m_chance m_kept m_isKept m_keptAt m_isWriting)) (hdg : decode cc pc = .ok (.getfield 66, 3)) (kk : W p l e R s m args below meth c H locs cel slo Q (F0 m (pc + 3) ls (.ref (h 19) :: rest))) : W p l e R s m args below meth c H locs cel slo Q (F0 m pc ls (.ref (h 0) :: rest)) :=
  va_get (D := D) (ci := 3) (C := RX3) (T := TX3) (N := 42) hC.1.1 hC.1.2.1 hC.1.2.2.2.2 in_X3 hC.1.2.2.2.1 hC.2.1.1 hw.1 0 rfl rfl 39 (by decide) (hC.1.2.2.2.2 _ q494) (fun _ h9 => h9) rfl hdg kk
theorem sX3_m_isKept {own : String} {i : Int32} {x : Int32} (hC : Cx p m c cc nL s args own D E A) (hw : Wo D A s.heap H locs (WX3 h E m_cell m_points m_fouls m_evening m_sightStep m_sightCell m_sights m_pad m_padMany m_act m_which m_whither m_hard m_acts m_moving m_goes m_left m_touches m_cushions m_cushionsThen m_touchedFirst m_stepsThen m_downNow m_touchedMany m_cushionMany m_were m_had m_badAct m_badWhy m_foulAct m_met m_far m_fit m_now m_fitMany m_byCell m_wins m_chance m_kept m_isKept m_keptAt m_isWriting)) (hi : bIn i 2) (hdg : decode cc pc = .ok (.bastore, 1)) (kk : ∀ (H1 : Heap) (locs1 : List Loc), Wo D A s.heap H1 locs1 (WX3 h E m_cell m_points m_fouls m_evening m_sightStep m_sightCell m_sights m_pad m_padMany m_act m_which m_whither m_hard m_acts m_moving m_goes m_left m_touches m_cushions m_cushionsThen m_touchedFirst m_stepsThen m_downNow m_touchedMany m_cushionMany m_were m_had m_badAct m_badWhy m_foulAct m_met m_far m_fit m_now m_fitMany m_byCell m_wins m_chance m_kept (upd m_isKept i.toNatClampNeg (vp_nar .boolean x)) m_keptAt m_isWriting) → W p l e R s m args below meth c H1 locs1 cel slo Q (F0 m (pc + 1) ls rest)) : W p l e R s m args below meth c H locs cel slo Q (F0 m pc ls (.int x :: .int i :: .ref (h 19) :: rest)) :=
  va_zast hC.1.1 hC.1.2.1 hC.2.1.1 hw.1 hw.2.1 hw.2.2 19 1 rfl rfl (bIn_in hi) hdg (fun H1 l1 a b c => kk H1 l1 ⟨a, b, c⟩)
theorem aX3_m_isKept {own : String} {i : Int32} (hC : Cx p m c cc nL s args own D E A) (hw : Wo D A s.heap H locs (WX3 h E m_cell m_points m_fouls m_evening m_sightStep m_sightCell m_sights m_pad m_padMany m_act m_which m_whither m_hard m_acts m_moving m_goes m_left m_touches m_cushions m_cushionsThen m_touchedFirst m_stepsThen m_downNow m_touchedMany m_cushionMany m_were m_had m_badAct m_badWhy m_foulAct m_met m_far m_fit m_now m_fitMany m_byCell m_wins m_chance m_kept m_isKept m_keptAt m_isWriting)) (hi : bIn i 2) (hdg : decode cc pc = .ok (.baload, 1)) (kk : W p l e R s m args below meth c H locs cel slo Q (F0 m (pc + 1) ls (.int (m_isKept i.toNatClampNeg) :: rest))) : W p l e R s m args below meth c H locs cel slo Q (F0 m pc ls (.int i :: .ref (h 19) :: rest)) :=
  va_zald hC.1.1 hC.1.2.1 hC.2.1.1 hw.1 19 1 rfl rfl (bIn_in hi) hdg kk
theorem pX3_this_isWriting_0 (hC : Cx p m c cc nL s args RX3 D E A) (hw : Wo D A s.heap H locs (WX3 h E m_cell m_points m_fouls m_evening m_sightStep m_sightCell m_sights m_pad m_padMany m_act m_which m_whither m_hard m_acts m_moving m_goes m_left m_touches m_cushions m_cushionsThen m_touchedFirst m_stepsThen m_downNow m_touchedMany m_cushionMany m_were m_had m_badAct m_badWhy m_foulAct m_met m_far m_fit m_now m_fitMany m_byCell m_wins m_chance m_kept m_isKept m_keptAt m_isWriting)) (hdg : decode cc pc = .ok (.putfield 341, 3)) (kk : ∀ (H1 : Heap) (locs1 : List Loc), Wo D A s.heap H1 locs1 (WX3 h E m_cell m_points m_fouls m_evening m_sightStep m_sightCell m_sights m_pad m_padMany m_act m_which m_whither m_hard m_acts m_moving m_goes m_left m_touches m_cushions m_cushionsThen m_touchedFirst m_stepsThen m_downNow m_touchedMany m_cushionMany m_were m_had m_badAct m_badWhy m_foulAct m_met m_far m_fit m_now m_fitMany m_byCell m_wins m_chance m_kept m_isKept m_keptAt 0) → W p l e R s m args below meth c H1 locs1 cel slo Q (F0 m (pc + 3) ls rest)) : W p l e R s m args below meth c H locs cel slo Q (F0 m pc ls (.int 0 :: .ref (h 0) :: rest)) :=
  va_put (D := D) (ci := 3) (v := .int 0) (ty := .boolean) (C := RX3) (T := TX3) (N := 42) hC.1.1 hC.1.2.1 hC.1.2.2.2.2 in_X3 tyX3 tyX3_ok nmX3 hC.1.2.2.2.1 hC.2.1.1 hw.1 hw.2.1 hw.2.2 0 rfl rfl 41 (by decide) (hC.1.2.2.2.2 _ q496) (fun _ h9 => h9) rfl (by decide +kernel) rfl rfl (Nat.le_of_ble_eq_true rfl) hdg (fun H1 l1 a b c => kk H1 l1 ⟨a, b, c⟩)
end ROWSX3
section METX3
variable {l : Launch} {D : va_G} {E : Nat → ClassId} {sz : Nat}
variable {h : Nat → Nat}
variable {m_cell m_sightStep m_sightCell m_pad m_act m_which m_whither m_hard m_were m_had m_met m_far m_fit m_now m_byCell m_wins m_kept m_isKept : Nat → Int32}
variable {m_points m_fouls m_evening m_sights m_padMany m_acts m_moving m_goes m_left m_touches m_cushions m_cushionsThen m_touchedFirst m_stepsThen m_downNow m_touchedMany m_cushionMany m_badAct m_badWhy m_foulAct m_fitMany m_keptAt m_isWriting : Int32}
variable {m_chance : Nat → Int64}
def fX3_ballOn_L5 (v1 : Int32) (m_cell : Nat → Int32)  : Nat → Int32 → Int32 → Option (Int32)
  | 0, _, _ => none
  | n + 1, v2, v3 => (if (3 : Int32) ≤ v3 then (some v2) else (if bIn v3 3 then (if (m_cell v3.toNatClampNeg) = v1 then (fX3_ballOn_L5 v1 m_cell n v3 (v3 + 1)) else (fX3_ballOn_L5 v1 m_cell n v2 (v3 + 1))) else none))
def fX3_ballOn (v1 : Int32) (m_cell : Nat → Int32) : Option (Int32) := (fX3_ballOn_L5 v1 m_cell FU (-6) 0)
def fX3_ball_L48 (v1 : Int32) (v2 : Int32)   (m_cell : Nat → Int32) : Option (Int32 × (Nat → Int32)) := (if bIn v1 3 then (if (0 : Int32) ≤ v2 then (if bIn v1 3 then (some ((m_cell v1.toNatClampNeg), (upd m_cell v1.toNatClampNeg v2))) else none) else (if bIn v1 3 then (some ((m_cell v1.toNatClampNeg), (upd m_cell v1.toNatClampNeg (-6)))) else none)) else none)
def fX3_ball_L35 (v1 : Int32) (v2 : Int32)   (k0 : Int32) (m_cell : Nat → Int32) : Option (Int32 × (Nat → Int32)) := (if k0 < 0 then (fX3_ball_L48 v1 v2 m_cell) else (if k0 = v1 then (fX3_ball_L48 v1 v2 m_cell) else (some ((-3), m_cell))))
def fX3_ball_L21 (v1 : Int32) (v2 : Int32)   (m_cell : Nat → Int32) : Option (Int32 × (Nat → Int32)) := (if (0 : Int32) ≤ v2 then (Option.bind (fX3_ballOn v2 m_cell) fun z1 => (fX3_ball_L35 v1 v2 z1 m_cell)) else (fX3_ball_L35 v1 v2 (-6) m_cell))
def fX3_ball (v1 : Int32) (v2 : Int32) (m_cell : Nat → Int32) : Option (Int32 × (Nat → Int32)) := (if (fX3_isBall v1) = 0 then (some ((-1), m_cell)) else (if v2 = (-1) then (fX3_ball_L21 v1 v2 m_cell) else (if (fX3_isPlace v2) = 0 then (some ((-1), m_cell)) else (fX3_ball_L21 v1 v2 m_cell))))
def fX3_score (v1 : Int32) (v2 : Int32) (m_points : Int32) (m_fouls : Int32) : Option (Int32 × Int32 × Int32) := (if (fX3_in (v1.toInt64) 0 99) = 0 then (some ((-2), m_points, m_fouls)) else (if (fX3_in (v2.toInt64) 0 99) = 0 then (some ((-2), m_points, m_fouls)) else (some ((((100 : Int32) * m_points) + m_fouls), v1, v2))))
def fX3_say (v1 : Int32) (m_pad : Nat → Int32) (m_padMany : Int32) : Option (Int32 × (Nat → Int32) × Int32) := (if (fX3_in (v1.toInt64) 33 126) = 0 then (some ((-2), m_pad, m_padMany)) else (if m_padMany = 60 then (some ((-4), m_pad, m_padMany)) else (if bIn m_padMany 60 then (some ((m_padMany + 1), (upd m_pad m_padMany.toNatClampNeg v1), (m_padMany + 1))) else none)))
def fX3_wipe  (m_padMany : Int32) : Option (Int32 × Int32) := (some (m_padMany, 0))
def fX3_close (v1 : Int32) (m_act : Nat → Int32) (m_acts : Int32) : Option (Int32 × (Nat → Int32) × Int32) := (if bIn m_acts 60 then (some (0, (upd m_act m_acts.toNatClampNeg v1), (m_acts + 1))) else none)
def fX3_begin_L32 (v1 : Int32)   (v2 : Int32) (k1 : Int32) (k2 : Int32) (m_act : Nat → Int32) (m_which : Nat → Int32) (m_whither : Nat → Int32) (m_hard : Nat → Int32) (m_acts : Int32) : Option (Int32 × (Nat → Int32) × (Nat → Int32) × (Nat → Int32) × (Nat → Int32) × Int32) := (if bIn k1 60 then (if bIn m_acts 60 then (if bIn m_acts 60 then (if v2 = 0 then (if v1 = 126 then (Option.bind (fX3_close 2 m_act m_acts) fun z6 => (some (z6.1, z6.2.1, (upd m_which k1.toNatClampNeg k2), (upd m_whither m_acts.toNatClampNeg 0), (upd m_hard m_acts.toNatClampNeg 0), z6.2.2))) else (if v1 = 46 then (Option.bind (fX3_close 3 m_act m_acts) fun z4 => (some (z4.1, z4.2.1, (upd m_which k1.toNatClampNeg k2), (upd m_whither m_acts.toNatClampNeg 0), (upd m_hard m_acts.toNatClampNeg 0), z4.2.2))) else (some ((-6), m_act, (upd m_which k1.toNatClampNeg k2), (upd m_whither m_acts.toNatClampNeg 0), (upd m_hard m_acts.toNatClampNeg 0), m_acts)))) else (some (1, m_act, (upd m_which k1.toNatClampNeg k2), (upd m_whither m_acts.toNatClampNeg 0), (upd m_hard m_acts.toNatClampNeg 0), m_acts))) else none) else none) else none)
def fX3_begin (v1 : Int32) (m_act : Nat → Int32) (m_which : Nat → Int32) (m_whither : Nat → Int32) (m_hard : Nat → Int32) (m_acts : Int32) : Option (Int32 × (Nat → Int32) × (Nat → Int32) × (Nat → Int32) × (Nat → Int32) × Int32) := (if (fX3_in (v1.toInt64) 65 67) = 0 then (fX3_begin_L32 v1 (fX3_in (v1.toInt64) 65 67) m_acts 0 m_act m_which m_whither m_hard m_acts) else (fX3_begin_L32 v1 (fX3_in (v1.toInt64) 65 67) m_acts (v1 - 65) m_act m_which m_whither m_hard m_acts))
def fX3_deed (v1 : Int32) (m_act : Nat → Int32) (m_whither : Nat → Int32) (m_acts : Int32) : Option (Int32 × (Nat → Int32) × (Nat → Int32) × Int32) := (if v1 = 94 then (Option.bind (fX3_close 1 m_act m_acts) fun z3 => (some (z3.1, z3.2.1, m_whither, z3.2.2))) else (if bIn m_acts 60 then (if (fX3_in (v1.toInt64) 48 55) = 0 then (some ((-6), m_act, (upd m_whither m_acts.toNatClampNeg (v1 - 48)), m_acts)) else (some (2, m_act, (upd m_whither m_acts.toNatClampNeg (v1 - 48)), m_acts))) else none))
def fX3_force (v1 : Int32) (m_act : Nat → Int32) (m_hard : Nat → Int32) (m_acts : Int32) : Option (Int32 × (Nat → Int32) × (Nat → Int32) × Int32) := (if bIn m_acts 60 then (if (fX3_in (v1.toInt64) 49 57) = 0 then (some ((-6), m_act, (upd m_hard m_acts.toNatClampNeg (v1 - 48)), m_acts)) else (Option.bind (fX3_close 0 m_act m_acts) fun z2 => (some (z2.1, z2.2.1, (upd m_hard m_acts.toNatClampNeg (v1 - 48)), z2.2.2)))) else none)
def fX3_readOn (v1 : Int32) (v2 : Int32) (m_act : Nat → Int32) (m_which : Nat → Int32) (m_whither : Nat → Int32) (m_hard : Nat → Int32) (m_acts : Int32) : Option (Int32 × (Nat → Int32) × (Nat → Int32) × (Nat → Int32) × (Nat → Int32) × Int32) := (if v1 = 0 then (Option.bind (fX3_begin v2 m_act m_which m_whither m_hard m_acts) fun z4 => (some (z4.1, z4.2.1, z4.2.2.1, z4.2.2.2.1, z4.2.2.2.2.1, z4.2.2.2.2.2))) else (if v1 = 1 then (Option.bind (fX3_deed v2 m_act m_whither m_acts) fun z2 => (some (z2.1, z2.2.1, m_which, z2.2.2.1, m_hard, z2.2.2.2))) else (Option.bind (fX3_force v2 m_act m_hard m_acts) fun z1 => (some (z1.1, z1.2.1, m_which, m_whither, z1.2.2.1, z1.2.2.2)))))
def fX3_fault_L9  (m_pad : Nat → Int32) (m_padMany : Int32)  : Nat → Int32 → Int32 → (Nat → Int32) → (Nat → Int32) → (Nat → Int32) → (Nat → Int32) → Int32 → Option (Int32 × (Nat → Int32) × (Nat → Int32) × (Nat → Int32) × (Nat → Int32) × Int32)
  | 0, _, _, _, _, _, _, _ => none
  | n + 1, v1, v2, m_act, m_which, m_whither, m_hard, m_acts => (if m_padMany ≤ v2 then (if v1 = 0 then (some ((-6), m_act, m_which, m_whither, m_hard, m_acts)) else (some (m_padMany, m_act, m_which, m_whither, m_hard, m_acts))) else (if bIn v2 60 then (Option.bind (fX3_readOn v1 (m_pad v2.toNatClampNeg) m_act m_which m_whither m_hard m_acts) fun z3 => (if (0 : Int32) ≤ z3.1 then (fX3_fault_L9 m_pad m_padMany n z3.1 (v2 + 1) z3.2.1 z3.2.2.1 z3.2.2.2.1 z3.2.2.2.2.1 z3.2.2.2.2.2) else (some (v2, z3.2.1, z3.2.2.1, z3.2.2.2.1, z3.2.2.2.2.1, z3.2.2.2.2.2)))) else none))
def fX3_fault  (m_pad : Nat → Int32) (m_padMany : Int32) (m_act : Nat → Int32) (m_which : Nat → Int32) (m_whither : Nat → Int32) (m_hard : Nat → Int32) (m_acts : Int32) : Option (Int32 × (Nat → Int32) × (Nat → Int32) × (Nat → Int32) × (Nat → Int32) × Int32) := (fX3_fault_L9 m_pad m_padMany FU 0 0 m_act m_which m_whither m_hard 0)
def fX3_keepNow_L2  (m_cell : Nat → Int32) (m_points : Int32) (m_fouls : Int32) (m_evening : Int32)  : Nat → Int32 → (Nat → Int32) → Option ((Nat → Int32))
  | 0, _, _ => none
  | n + 1, v1, m_had => (if (3 : Int32) ≤ v1 then (if bIn 3 6 then (if bIn 4 6 then (if bIn 5 6 then (some (upd (upd (upd m_had (3 : Int32).toNatClampNeg m_points) (4 : Int32).toNatClampNeg m_fouls) (5 : Int32).toNatClampNeg m_evening)) else none) else none) else none) else (if bIn v1 3 then (if bIn v1 6 then (fX3_keepNow_L2 m_cell m_points m_fouls m_evening n (v1 + 1) (upd m_had v1.toNatClampNeg (m_cell v1.toNatClampNeg))) else none) else none))
def fX3_keepNow  (m_cell : Nat → Int32) (m_points : Int32) (m_fouls : Int32) (m_evening : Int32) (m_had : Nat → Int32) : Option ((Nat → Int32)) := (fX3_keepNow_L2 m_cell m_points m_fouls m_evening FU 0 m_had)
def fX3_whyNot (v1 : Int32) (v2 : Int32) (m_cell : Nat → Int32) (m_evening : Int32) : Option (Int32) := (if v1 = 0 then (if bIn v2 3 then (if (0 : Int32) ≤ (m_cell v2.toNatClampNeg) then (some 0) else (some 1)) else none) else (if v1 = 1 then (if bIn v2 3 then (if (m_cell v2.toNatClampNeg) < 0 then (Option.bind (fX3_ballOn (fX3_home v2) m_cell) fun z6 => (if z6 < 0 then (some 0) else (some 2))) else (some 1)) else none) else (if v1 = 2 then (some 0) else (if v1 = 3 then (if m_evening = 99 then (some 3) else (some 0)) else (some 0)))))
def fX3_drift (v1 : Int32) (m_cell : Nat → Int32) : Option ((Nat → Int32)) := (if bIn v1 3 then (if (m_cell v1.toNatClampNeg) < 0 then (some m_cell) else (if ((m_cell v1.toNatClampNeg) - (m_cell v1.toNatClampNeg) / 9 * 9) ≤ 0 then (some m_cell) else (if (fX3_isPocket ((m_cell v1.toNatClampNeg) - 1)) = 0 then (Option.bind (fX3_ballOn ((m_cell v1.toNatClampNeg) - 1) m_cell) fun z2 => (if (0 : Int32) ≤ z2 then (some m_cell) else (if bIn v1 3 then (some (upd m_cell v1.toNatClampNeg ((m_cell v1.toNatClampNeg) - 1))) else none))) else (some m_cell)))) else none)
def fX3_nap_L38   (k30c : Int32 → (Nat → Int32) → (Nat → Int32) → Option ((Nat → Int32) × (Nat → Int32))) : Nat → Int32 → Int32 → (Nat → Int32) → (Nat → Int32) → Option ((Nat → Int32) × (Nat → Int32))
  | 0, _, _, _, _ => none
  | n + 1, v1, v2, m_cell, m_were => (if (3 : Int32) ≤ v2 then (k30c (v1 + 1) m_cell m_were) else (if bIn v2 3 then (if (m_were v2.toNatClampNeg) = v1 then (Option.bind (fX3_drift v2 m_cell) fun z2 => (fX3_nap_L38 k30c n v1 (v2 + 1) z2 m_were)) else (fX3_nap_L38 k30c n v1 (v2 + 1) m_cell m_were)) else none))
def fX3_nap_L30    : Nat → Int32 → (Nat → Int32) → (Nat → Int32) → Option ((Nat → Int32) × (Nat → Int32))
  | 0, _, _, _ => none
  | n + 1, v1, m_cell, m_were => (if (9 : Int32) ≤ v1 then (some (m_cell, m_were)) else (fX3_nap_L38 (fun y0 y1 y2 => fX3_nap_L30  n y0 y1 y2) FU v1 0 m_cell m_were))
def fX3_nap_L2    : Nat → Int32 → (Nat → Int32) → (Nat → Int32) → Option ((Nat → Int32) × (Nat → Int32))
  | 0, _, _, _ => none
  | n + 1, v1, m_cell, m_were => (if (3 : Int32) ≤ v1 then (fX3_nap_L30 FU 0 m_cell m_were) else (if bIn v1 3 then (if bIn v1 3 then (fX3_nap_L2  n (v1 + 1) m_cell (upd m_were v1.toNatClampNeg (fX3_columnOf (m_cell v1.toNatClampNeg)))) else none) else none))
def fX3_nap  (m_cell : Nat → Int32) (m_were : Nat → Int32) : Option ((Nat → Int32) × (Nat → Int32)) := (fX3_nap_L2 FU 0 m_cell m_were)
def fX3_touch (v1 : Int32) (v2 : Int32) (m_moving : Int32) (m_left : Int32) (m_touches : Int32) (m_cushions : Int32) (m_cushionsThen : Int32) (m_touchedFirst : Int32) (m_stepsThen : Int32) : Option (Int32 × Int32 × Int32 × Int32 × Int32) := (if (0 : Int32) ≤ m_touchedFirst then (some (v1, (m_touches + 1), m_cushionsThen, m_touchedFirst, m_stepsThen)) else (some (v1, (m_touches + 1), m_cushions, v1, (v2 - m_left))))
def fX3_step_L35 (v1 : Int32)   (v2 : Int32) (k1 : Int32) (k2 : Int32) (m_cell : Nat → Int32) (m_moving : Int32) (m_goes : Int32) (m_left : Int32) (m_touches : Int32) (m_cushions : Int32) (m_cushionsThen : Int32) (m_touchedFirst : Int32) (m_stepsThen : Int32) (m_downNow : Int32) : Option ((Nat → Int32) × Int32 × Int32 × Int32 × Int32 × Int32 × Int32 × Int32 × Int32 × Int32) := (if bIn m_moving 3 then (Option.bind (fX3_ballOn (fX3_ahead (m_cell m_moving.toNatClampNeg) v2) m_cell) fun z3 => (if z3 < 0 then (if bIn m_moving 3 then (if (fX3_isPocket (fX3_ahead (m_cell m_moving.toNatClampNeg) v2)) = 0 then (some ((upd m_cell m_moving.toNatClampNeg (fX3_ahead (m_cell m_moving.toNatClampNeg) v2)), m_moving, v2, (m_left - 1), m_touches, (k1 + k2), m_cushionsThen, m_touchedFirst, m_stepsThen, m_downNow)) else (if bIn m_moving 3 then (some ((upd (upd m_cell m_moving.toNatClampNeg (fX3_ahead (m_cell m_moving.toNatClampNeg) v2)) m_moving.toNatClampNeg (-6)), m_moving, v2, (m_left - 1), m_touches, (k1 + k2), m_cushionsThen, m_touchedFirst, m_stepsThen, m_moving)) else none)) else none) else (Option.bind (fX3_touch z3 v1 m_moving (m_left - 1) m_touches (k1 + k2) m_cushionsThen m_touchedFirst m_stepsThen) fun z7 => (some (m_cell, z7.1, v2, (m_left - 1), z7.2.1, (k1 + k2), z7.2.2.1, z7.2.2.2.1, z7.2.2.2.2, m_downNow))))) else none)
def fX3_step (v1 : Int32) (m_cell : Nat → Int32) (m_moving : Int32) (m_goes : Int32) (m_left : Int32) (m_touches : Int32) (m_cushions : Int32) (m_cushionsThen : Int32) (m_touchedFirst : Int32) (m_stepsThen : Int32) (m_downNow : Int32) : Option ((Nat → Int32) × Int32 × Int32 × Int32 × Int32 × Int32 × Int32 × Int32 × Int32 × Int32) := (if bIn m_moving 3 then (if (fX3_turned (m_cell m_moving.toNatClampNeg) m_goes) = m_goes then (fX3_step_L35 v1 (fX3_turned (m_cell m_moving.toNatClampNeg) m_goes) m_cushions 0 m_cell m_moving m_goes m_left m_touches m_cushions m_cushionsThen m_touchedFirst m_stepsThen m_downNow) else (fX3_step_L35 v1 (fX3_turned (m_cell m_moving.toNatClampNeg) m_goes) m_cushions 1 m_cell m_moving m_goes m_left m_touches m_cushions m_cushionsThen m_touchedFirst m_stepsThen m_downNow)) else none)
def fX3_send_L49 (v1 : Int32) (v2 : Int32) (v3 : Int32)   : Nat → (Nat → Int32) → Int32 → Int32 → Int32 → Int32 → Int32 → Int32 → Int32 → Int32 → Int32 → Option ((Nat → Int32) × Int32 × Int32 × Int32 × Int32 × Int32 × Int32 × Int32 × Int32 × Int32)
  | 0, _, _, _, _, _, _, _, _, _, _ => none
  | n + 1, m_cell, m_moving, m_goes, m_left, m_touches, m_cushions, m_cushionsThen, m_touchedFirst, m_stepsThen, m_downNow => (if m_left ≤ 0 then (some (m_cell, m_moving, m_goes, m_left, m_touches, m_cushions, m_cushionsThen, m_touchedFirst, m_stepsThen, m_downNow)) else (if (0 : Int32) ≤ m_downNow then (some (m_cell, m_moving, m_goes, m_left, m_touches, m_cushions, m_cushionsThen, m_touchedFirst, m_stepsThen, m_downNow)) else (Option.bind (fX3_step v3 m_cell m_moving m_goes m_left m_touches m_cushions m_cushionsThen m_touchedFirst m_stepsThen m_downNow) fun z1 => (fX3_send_L49 v1 v2 v3 n z1.1 z1.2.1 z1.2.2.1 z1.2.2.2.1 z1.2.2.2.2.1 z1.2.2.2.2.2.1 z1.2.2.2.2.2.2.1 z1.2.2.2.2.2.2.2.1 z1.2.2.2.2.2.2.2.2.1 z1.2.2.2.2.2.2.2.2.2))))
def fX3_send (v1 : Int32) (v2 : Int32) (v3 : Int32) (m_cell : Nat → Int32) (m_moving : Int32) (m_goes : Int32) (m_left : Int32) (m_touches : Int32) (m_cushions : Int32) (m_cushionsThen : Int32) (m_touchedFirst : Int32) (m_stepsThen : Int32) (m_downNow : Int32) : Option ((Nat → Int32) × Int32 × Int32 × Int32 × Int32 × Int32 × Int32 × Int32 × Int32 × Int32) := (fX3_send_L49 v1 v2 v3 FU m_cell v1 v2 v3 0 0 (-6) (-6) (-6) (-6))
def fX3_stroke_L104 (v1 : Int32) (v2 : Int32) (v3 : Int32)   (k1 : Int32) (k2 : Int32) (m_cell : Nat → Int32) (m_points : Int32) (m_fouls : Int32) (m_moving : Int32) (m_goes : Int32) (m_left : Int32) (m_touches : Int32) (m_cushions : Int32) (m_cushionsThen : Int32) (m_touchedFirst : Int32) (m_stepsThen : Int32) (m_downNow : Int32) (m_touchedMany : Int32) (m_cushionMany : Int32) : Option ((Nat → Int32) × Int32 × Int32 × Int32 × Int32 × Int32 × Int32 × Int32 × Int32 × Int32 × Int32 × Int32 × Int32 × Int32) := (some (m_cell, m_points, (k1 + k2), m_moving, m_goes, m_left, m_touches, m_cushions, m_cushionsThen, m_touchedFirst, m_stepsThen, m_downNow, (m_touchedMany + m_touches), (m_cushionMany + m_cushions)))
def fX3_stroke_L76 (v1 : Int32) (v2 : Int32) (v3 : Int32)   (k1 : Int32) (k2 : Int32) (m_cell : Nat → Int32) (m_points : Int32) (m_fouls : Int32) (m_moving : Int32) (m_goes : Int32) (m_left : Int32) (m_touches : Int32) (m_cushions : Int32) (m_cushionsThen : Int32) (m_touchedFirst : Int32) (m_stepsThen : Int32) (m_downNow : Int32) (m_touchedMany : Int32) (m_cushionMany : Int32) : Option ((Nat → Int32) × Int32 × Int32 × Int32 × Int32 × Int32 × Int32 × Int32 × Int32 × Int32 × Int32 × Int32 × Int32 × Int32) := (if m_touches ≤ 0 then (fX3_stroke_L104 v1 v2 v3 (k1 + k2) 0 m_cell m_points (k1 + k2) m_moving m_goes m_left m_touches m_cushions m_cushionsThen m_touchedFirst m_stepsThen m_downNow m_touchedMany m_cushionMany) else (if m_cushionsThen = 0 then (fX3_stroke_L104 v1 v2 v3 (k1 + k2) 1 m_cell m_points (k1 + k2) m_moving m_goes m_left m_touches m_cushions m_cushionsThen m_touchedFirst m_stepsThen m_downNow m_touchedMany m_cushionMany) else (fX3_stroke_L104 v1 v2 v3 (k1 + k2) 0 m_cell m_points (k1 + k2) m_moving m_goes m_left m_touches m_cushions m_cushionsThen m_touchedFirst m_stepsThen m_downNow m_touchedMany m_cushionMany)))
def fX3_stroke_L54 (v1 : Int32) (v2 : Int32) (v3 : Int32)   (k1 : Int32) (k2 : Int32) (m_cell : Nat → Int32) (m_points : Int32) (m_fouls : Int32) (m_moving : Int32) (m_goes : Int32) (m_left : Int32) (m_touches : Int32) (m_cushions : Int32) (m_cushionsThen : Int32) (m_touchedFirst : Int32) (m_stepsThen : Int32) (m_downNow : Int32) (m_touchedMany : Int32) (m_cushionMany : Int32) : Option ((Nat → Int32) × Int32 × Int32 × Int32 × Int32 × Int32 × Int32 × Int32 × Int32 × Int32 × Int32 × Int32 × Int32 × Int32) := (if m_downNow = v1 then (fX3_stroke_L76 v1 v2 v3 m_fouls 1 m_cell (k1 + k2) m_fouls m_moving m_goes m_left m_touches m_cushions m_cushionsThen m_touchedFirst m_stepsThen m_downNow m_touchedMany m_cushionMany) else (fX3_stroke_L76 v1 v2 v3 m_fouls 0 m_cell (k1 + k2) m_fouls m_moving m_goes m_left m_touches m_cushions m_cushionsThen m_touchedFirst m_stepsThen m_downNow m_touchedMany m_cushionMany))
def fX3_stroke_L25 (v1 : Int32) (v2 : Int32) (v3 : Int32)   (k1 : Int32) (k2 : Int32) (m_cell : Nat → Int32) (m_points : Int32) (m_fouls : Int32) (m_moving : Int32) (m_goes : Int32) (m_left : Int32) (m_touches : Int32) (m_cushions : Int32) (m_cushionsThen : Int32) (m_touchedFirst : Int32) (m_stepsThen : Int32) (m_downNow : Int32) (m_touchedMany : Int32) (m_cushionMany : Int32) : Option ((Nat → Int32) × Int32 × Int32 × Int32 × Int32 × Int32 × Int32 × Int32 × Int32 × Int32 × Int32 × Int32 × Int32 × Int32) := (if m_downNow < 0 then (fX3_stroke_L54 v1 v2 v3 (k1 + k2) 0 m_cell (k1 + k2) m_fouls m_moving m_goes m_left m_touches m_cushions m_cushionsThen m_touchedFirst m_stepsThen m_downNow m_touchedMany m_cushionMany) else (if m_downNow = v1 then (fX3_stroke_L54 v1 v2 v3 (k1 + k2) 0 m_cell (k1 + k2) m_fouls m_moving m_goes m_left m_touches m_cushions m_cushionsThen m_touchedFirst m_stepsThen m_downNow m_touchedMany m_cushionMany) else (fX3_stroke_L54 v1 v2 v3 (k1 + k2) 3 m_cell (k1 + k2) m_fouls m_moving m_goes m_left m_touches m_cushions m_cushionsThen m_touchedFirst m_stepsThen m_downNow m_touchedMany m_cushionMany)))
def fX3_stroke (v1 : Int32) (v2 : Int32) (v3 : Int32) (m_cell : Nat → Int32) (m_points : Int32) (m_fouls : Int32) (m_moving : Int32) (m_goes : Int32) (m_left : Int32) (m_touches : Int32) (m_cushions : Int32) (m_cushionsThen : Int32) (m_touchedFirst : Int32) (m_stepsThen : Int32) (m_downNow : Int32) (m_touchedMany : Int32) (m_cushionMany : Int32) : Option ((Nat → Int32) × Int32 × Int32 × Int32 × Int32 × Int32 × Int32 × Int32 × Int32 × Int32 × Int32 × Int32 × Int32 × Int32) := (Option.bind (fX3_send v1 v2 v3 m_cell m_moving m_goes m_left m_touches m_cushions m_cushionsThen m_touchedFirst m_stepsThen m_downNow) fun z1 => (if z1.2.2.2.2.1 ≤ 1 then (fX3_stroke_L25 v1 v2 v3 m_points 0 z1.1 m_points m_fouls z1.2.1 z1.2.2.1 z1.2.2.2.1 z1.2.2.2.2.1 z1.2.2.2.2.2.1 z1.2.2.2.2.2.2.1 z1.2.2.2.2.2.2.2.1 z1.2.2.2.2.2.2.2.2.1 z1.2.2.2.2.2.2.2.2.2 m_touchedMany m_cushionMany) else (fX3_stroke_L25 v1 v2 v3 m_points 2 z1.1 m_points m_fouls z1.2.1 z1.2.2.1 z1.2.2.2.1 z1.2.2.2.2.1 z1.2.2.2.2.2.1 z1.2.2.2.2.2.2.1 z1.2.2.2.2.2.2.2.1 z1.2.2.2.2.2.2.2.2.1 z1.2.2.2.2.2.2.2.2.2 m_touchedMany m_cushionMany)))
def fX3_happen (v1 : Int32) (v2 : Int32) (v3 : Int32) (v4 : Int32) (m_cell : Nat → Int32) (m_points : Int32) (m_fouls : Int32) (m_evening : Int32) (m_moving : Int32) (m_goes : Int32) (m_left : Int32) (m_touches : Int32) (m_cushions : Int32) (m_cushionsThen : Int32) (m_touchedFirst : Int32) (m_stepsThen : Int32) (m_downNow : Int32) (m_touchedMany : Int32) (m_cushionMany : Int32) (m_were : Nat → Int32) : Option ((Nat → Int32) × Int32 × Int32 × Int32 × Int32 × Int32 × Int32 × Int32 × Int32 × Int32 × Int32 × Int32 × Int32 × Int32 × Int32 × (Nat → Int32)) := (if v1 = 0 then (Option.bind (fX3_stroke v2 v3 v4 m_cell m_points m_fouls m_moving m_goes m_left m_touches m_cushions m_cushionsThen m_touchedFirst m_stepsThen m_downNow m_touchedMany m_cushionMany) fun z2 => (some (z2.1, z2.2.1, z2.2.2.1, m_evening, z2.2.2.2.1, z2.2.2.2.2.1, z2.2.2.2.2.2.1, z2.2.2.2.2.2.2.1, z2.2.2.2.2.2.2.2.1, z2.2.2.2.2.2.2.2.2.1, z2.2.2.2.2.2.2.2.2.2.1, z2.2.2.2.2.2.2.2.2.2.2.1, z2.2.2.2.2.2.2.2.2.2.2.2.1, z2.2.2.2.2.2.2.2.2.2.2.2.2.1, z2.2.2.2.2.2.2.2.2.2.2.2.2.2, m_were))) else (if v1 = 1 then (if bIn v2 3 then (some ((upd m_cell v2.toNatClampNeg (fX3_home v2)), m_points, m_fouls, m_evening, m_moving, m_goes, m_left, m_touches, m_cushions, m_cushionsThen, m_touchedFirst, m_stepsThen, m_downNow, m_touchedMany, m_cushionMany, m_were)) else none) else (if v1 = 2 then (Option.bind (fX3_nap m_cell m_were) fun z6 => (some (z6.1, m_points, m_fouls, m_evening, m_moving, m_goes, m_left, m_touches, m_cushions, m_cushionsThen, m_touchedFirst, m_stepsThen, m_downNow, m_touchedMany, m_cushionMany, z6.2))) else (some (m_cell, m_points, m_fouls, (m_evening + 1), m_moving, m_goes, m_left, m_touches, m_cushions, m_cushionsThen, m_touchedFirst, m_stepsThen, m_downNow, m_touchedMany, m_cushionMany, m_were)))))
def fX3_goCrises_L127  (m_act : Nat → Int32) (m_which : Nat → Int32) (m_whither : Nat → Int32) (m_hard : Nat → Int32) (m_acts : Int32) (k30c : Int32 → (Nat → Int32) → Int32 → Int32 → Int32 → Int32 → Int32 → Int32 → Int32 → Int32 → Int32 → Int32 → Int32 → Int32 → Int32 → Int32 → (Nat → Int32) → Int32 → Int32 → Int32 → Option ((Nat → Int32) × Int32 × Int32 × Int32 × Int32 × Int32 × Int32 × Int32 × Int32 × Int32 × Int32 × Int32 × Int32 × Int32 × Int32 × (Nat → Int32) × Int32 × Int32 × Int32)) (v1 : Int32) (v3 : Int32) (m_cell : Nat → Int32) (m_points : Int32) (m_fouls : Int32) (m_evening : Int32) (m_moving : Int32) (m_goes : Int32) (m_left : Int32) (m_touches : Int32) (m_cushions : Int32) (m_cushionsThen : Int32) (m_touchedFirst : Int32) (m_stepsThen : Int32) (m_downNow : Int32) (m_touchedMany : Int32) (m_cushionMany : Int32) (m_were : Nat → Int32) (m_badAct : Int32) (m_badWhy : Int32) (m_foulAct : Int32) : Option ((Nat → Int32) × Int32 × Int32 × Int32 × Int32 × Int32 × Int32 × Int32 × Int32 × Int32 × Int32 × Int32 × Int32 × Int32 × Int32 × (Nat → Int32) × Int32 × Int32 × Int32) := (if m_fouls ≤ v3 then (k30c (v1 + 1) m_cell m_points m_fouls m_evening m_moving m_goes m_left m_touches m_cushions m_cushionsThen m_touchedFirst m_stepsThen m_downNow m_touchedMany m_cushionMany m_were m_badAct m_badWhy m_foulAct) else (if (0 : Int32) ≤ m_foulAct then (k30c (v1 + 1) m_cell m_points m_fouls m_evening m_moving m_goes m_left m_touches m_cushions m_cushionsThen m_touchedFirst m_stepsThen m_downNow m_touchedMany m_cushionMany m_were m_badAct m_badWhy m_foulAct) else (k30c (v1 + 1) m_cell m_points m_fouls m_evening m_moving m_goes m_left m_touches m_cushions m_cushionsThen m_touchedFirst m_stepsThen m_downNow m_touchedMany m_cushionMany m_were m_badAct m_badWhy v1)))
def fX3_goCrises_L92  (m_act : Nat → Int32) (m_which : Nat → Int32) (m_whither : Nat → Int32) (m_hard : Nat → Int32) (m_acts : Int32) (k30c : Int32 → (Nat → Int32) → Int32 → Int32 → Int32 → Int32 → Int32 → Int32 → Int32 → Int32 → Int32 → Int32 → Int32 → Int32 → Int32 → Int32 → (Nat → Int32) → Int32 → Int32 → Int32 → Option ((Nat → Int32) × Int32 × Int32 × Int32 × Int32 × Int32 × Int32 × Int32 × Int32 × Int32 × Int32 × Int32 × Int32 × Int32 × Int32 × (Nat → Int32) × Int32 × Int32 × Int32)) (v1 : Int32) (v2 : Int32) (v3 : Int32) (k1 : Int32) (m_cell : Nat → Int32) (m_points : Int32) (m_fouls : Int32) (m_evening : Int32) (m_moving : Int32) (m_goes : Int32) (m_left : Int32) (m_touches : Int32) (m_cushions : Int32) (m_cushionsThen : Int32) (m_touchedFirst : Int32) (m_stepsThen : Int32) (m_downNow : Int32) (m_touchedMany : Int32) (m_cushionMany : Int32) (m_were : Nat → Int32) (m_badAct : Int32) (m_badWhy : Int32) (m_foulAct : Int32) : Option ((Nat → Int32) × Int32 × Int32 × Int32 × Int32 × Int32 × Int32 × Int32 × Int32 × Int32 × Int32 × Int32 × Int32 × Int32 × Int32 × (Nat → Int32) × Int32 × Int32 × Int32) := (if v2 = 0 then (if bIn v1 60 then (if bIn v1 60 then (if bIn v1 60 then (if bIn v1 60 then (Option.bind (fX3_happen (m_act v1.toNatClampNeg) (m_which v1.toNatClampNeg) (m_whither v1.toNatClampNeg) (m_hard v1.toNatClampNeg) m_cell m_points m_fouls m_evening m_moving m_goes m_left m_touches m_cushions m_cushionsThen m_touchedFirst m_stepsThen m_downNow m_touchedMany m_cushionMany m_were) fun z10 => (fX3_goCrises_L127 m_act m_which m_whither m_hard m_acts k30c v1 v3 z10.1 z10.2.1 z10.2.2.1 z10.2.2.2.1 z10.2.2.2.2.1 z10.2.2.2.2.2.1 z10.2.2.2.2.2.2.1 z10.2.2.2.2.2.2.2.1 z10.2.2.2.2.2.2.2.2.1 z10.2.2.2.2.2.2.2.2.2.1 z10.2.2.2.2.2.2.2.2.2.2.1 z10.2.2.2.2.2.2.2.2.2.2.2.1 z10.2.2.2.2.2.2.2.2.2.2.2.2.1 z10.2.2.2.2.2.2.2.2.2.2.2.2.2.1 z10.2.2.2.2.2.2.2.2.2.2.2.2.2.2.1 z10.2.2.2.2.2.2.2.2.2.2.2.2.2.2.2 m_badAct k1 m_foulAct)) else none) else none) else none) else none) else (fX3_goCrises_L127 m_act m_which m_whither m_hard m_acts k30c v1 v3 m_cell m_points m_fouls m_evening m_moving m_goes m_left m_touches m_cushions m_cushionsThen m_touchedFirst m_stepsThen m_downNow m_touchedMany m_cushionMany m_were m_badAct k1 m_foulAct))
def fX3_goCrises_L78  (m_act : Nat → Int32) (m_which : Nat → Int32) (m_whither : Nat → Int32) (m_hard : Nat → Int32) (m_acts : Int32) (k30c : Int32 → (Nat → Int32) → Int32 → Int32 → Int32 → Int32 → Int32 → Int32 → Int32 → Int32 → Int32 → Int32 → Int32 → Int32 → Int32 → Int32 → (Nat → Int32) → Int32 → Int32 → Int32 → Option ((Nat → Int32) × Int32 × Int32 × Int32 × Int32 × Int32 × Int32 × Int32 × Int32 × Int32 × Int32 × Int32 × Int32 × Int32 × Int32 × (Nat → Int32) × Int32 × Int32 × Int32)) (v1 : Int32) (v2 : Int32) (v3 : Int32) (k1 : Int32) (m_cell : Nat → Int32) (m_points : Int32) (m_fouls : Int32) (m_evening : Int32) (m_moving : Int32) (m_goes : Int32) (m_left : Int32) (m_touches : Int32) (m_cushions : Int32) (m_cushionsThen : Int32) (m_touchedFirst : Int32) (m_stepsThen : Int32) (m_downNow : Int32) (m_touchedMany : Int32) (m_cushionMany : Int32) (m_were : Nat → Int32) (m_badAct : Int32) (m_badWhy : Int32) (m_foulAct : Int32) : Option ((Nat → Int32) × Int32 × Int32 × Int32 × Int32 × Int32 × Int32 × Int32 × Int32 × Int32 × Int32 × Int32 × Int32 × Int32 × Int32 × (Nat → Int32) × Int32 × Int32 × Int32) := (if v2 ≤ 0 then (fX3_goCrises_L92 m_act m_which m_whither m_hard m_acts k30c v1 v2 v3 (-6) m_cell m_points m_fouls m_evening m_moving m_goes m_left m_touches m_cushions m_cushionsThen m_touchedFirst m_stepsThen m_downNow m_touchedMany m_cushionMany m_were k1 m_badWhy m_foulAct) else (fX3_goCrises_L92 m_act m_which m_whither m_hard m_acts k30c v1 v2 v3 v2 m_cell m_points m_fouls m_evening m_moving m_goes m_left m_touches m_cushions m_cushionsThen m_touchedFirst m_stepsThen m_downNow m_touchedMany m_cushionMany m_were k1 m_badWhy m_foulAct))
def fX3_goCrises_L30  (m_act : Nat → Int32) (m_which : Nat → Int32) (m_whither : Nat → Int32) (m_hard : Nat → Int32) (m_acts : Int32)  : Nat → Int32 → (Nat → Int32) → Int32 → Int32 → Int32 → Int32 → Int32 → Int32 → Int32 → Int32 → Int32 → Int32 → Int32 → Int32 → Int32 → Int32 → (Nat → Int32) → Int32 → Int32 → Int32 → Option ((Nat → Int32) × Int32 × Int32 × Int32 × Int32 × Int32 × Int32 × Int32 × Int32 × Int32 × Int32 × Int32 × Int32 × Int32 × Int32 × (Nat → Int32) × Int32 × Int32 × Int32)
  | 0, _, _, _, _, _, _, _, _, _, _, _, _, _, _, _, _, _, _, _, _ => none
  | n + 1, v1, m_cell, m_points, m_fouls, m_evening, m_moving, m_goes, m_left, m_touches, m_cushions, m_cushionsThen, m_touchedFirst, m_stepsThen, m_downNow, m_touchedMany, m_cushionMany, m_were, m_badAct, m_badWhy, m_foulAct => (if m_acts ≤ v1 then (some (m_cell, m_points, m_fouls, m_evening, m_moving, m_goes, m_left, m_touches, m_cushions, m_cushionsThen, m_touchedFirst, m_stepsThen, m_downNow, m_touchedMany, m_cushionMany, m_were, m_badAct, m_badWhy, m_foulAct)) else (if (0 : Int32) ≤ m_badAct then (some (m_cell, m_points, m_fouls, m_evening, m_moving, m_goes, m_left, m_touches, m_cushions, m_cushionsThen, m_touchedFirst, m_stepsThen, m_downNow, m_touchedMany, m_cushionMany, m_were, m_badAct, m_badWhy, m_foulAct)) else (if bIn v1 60 then (if bIn v1 60 then (Option.bind (fX3_whyNot (m_act v1.toNatClampNeg) (m_which v1.toNatClampNeg) m_cell m_evening) fun z3 => (if z3 ≤ 0 then (fX3_goCrises_L78 m_act m_which m_whither m_hard m_acts (fun y0 y1 y2 y3 y4 y5 y6 y7 y8 y9 y10 y11 y12 y13 y14 y15 y16 y17 y18 y19 => fX3_goCrises_L30 m_act m_which m_whither m_hard m_acts n y0 y1 y2 y3 y4 y5 y6 y7 y8 y9 y10 y11 y12 y13 y14 y15 y16 y17 y18 y19) v1 z3 m_fouls (-6) m_cell m_points m_fouls m_evening m_moving m_goes m_left m_touches m_cushions m_cushionsThen m_touchedFirst m_stepsThen m_downNow m_touchedMany m_cushionMany m_were m_badAct m_badWhy m_foulAct) else (fX3_goCrises_L78 m_act m_which m_whither m_hard m_acts (fun y0 y1 y2 y3 y4 y5 y6 y7 y8 y9 y10 y11 y12 y13 y14 y15 y16 y17 y18 y19 => fX3_goCrises_L30 m_act m_which m_whither m_hard m_acts n y0 y1 y2 y3 y4 y5 y6 y7 y8 y9 y10 y11 y12 y13 y14 y15 y16 y17 y18 y19) v1 z3 m_fouls v1 m_cell m_points m_fouls m_evening m_moving m_goes m_left m_touches m_cushions m_cushionsThen m_touchedFirst m_stepsThen m_downNow m_touchedMany m_cushionMany m_were m_badAct m_badWhy m_foulAct))) else none) else none)))
def fX3_goCrises  (m_cell : Nat → Int32) (m_points : Int32) (m_fouls : Int32) (m_evening : Int32) (m_act : Nat → Int32) (m_which : Nat → Int32) (m_whither : Nat → Int32) (m_hard : Nat → Int32) (m_acts : Int32) (m_moving : Int32) (m_goes : Int32) (m_left : Int32) (m_touches : Int32) (m_cushions : Int32) (m_cushionsThen : Int32) (m_touchedFirst : Int32) (m_stepsThen : Int32) (m_downNow : Int32) (m_touchedMany : Int32) (m_cushionMany : Int32) (m_were : Nat → Int32) (m_badAct : Int32) (m_badWhy : Int32) (m_foulAct : Int32) : Option ((Nat → Int32) × Int32 × Int32 × Int32 × Int32 × Int32 × Int32 × Int32 × Int32 × Int32 × Int32 × Int32 × Int32 × Int32 × Int32 × (Nat → Int32) × Int32 × Int32 × Int32) := (fX3_goCrises_L30 m_act m_which m_whither m_hard m_acts FU 0 m_cell m_points m_fouls m_evening m_moving m_goes m_left m_touches m_cushions m_cushionsThen m_touchedFirst m_stepsThen m_downNow 0 0 m_were (-6) (-6) (-6))
def fX3_refusal  (m_cell : Nat → Int32) (m_points : Int32) (m_fouls : Int32) (m_evening : Int32) (m_pad : Nat → Int32) (m_padMany : Int32) (m_act : Nat → Int32) (m_which : Nat → Int32) (m_whither : Nat → Int32) (m_hard : Nat → Int32) (m_acts : Int32) (m_moving : Int32) (m_goes : Int32) (m_left : Int32) (m_touches : Int32) (m_cushions : Int32) (m_cushionsThen : Int32) (m_touchedFirst : Int32) (m_stepsThen : Int32) (m_downNow : Int32) (m_touchedMany : Int32) (m_cushionMany : Int32) (m_were : Nat → Int32) (m_had : Nat → Int32) (m_badAct : Int32) (m_badWhy : Int32) (m_foulAct : Int32) : Option (Int32 × (Nat → Int32) × Int32 × Int32 × Int32 × (Nat → Int32) × (Nat → Int32) × (Nat → Int32) × (Nat → Int32) × Int32 × Int32 × Int32 × Int32 × Int32 × Int32 × Int32 × Int32 × Int32 × Int32 × Int32 × Int32 × (Nat → Int32) × (Nat → Int32) × Int32 × Int32 × Int32) := (Option.bind (fX3_keepNow m_cell m_points m_fouls m_evening m_had) fun z1 => (Option.bind (fX3_fault m_pad m_padMany m_act m_which m_whither m_hard m_acts) fun z2 => (if z2.1 < 0 then (Option.bind (fX3_goCrises m_cell m_points m_fouls m_evening z2.2.1 z2.2.2.1 z2.2.2.2.1 z2.2.2.2.2.1 z2.2.2.2.2.2 m_moving m_goes m_left m_touches m_cushions m_cushionsThen m_touchedFirst m_stepsThen m_downNow m_touchedMany m_cushionMany m_were m_badAct m_badWhy m_foulAct) fun z3 => (if z3.2.2.2.2.2.2.2.2.2.2.2.2.2.2.2.2.1 < 0 then (some ((-6), z3.1, z3.2.1, z3.2.2.1, z3.2.2.2.1, z2.2.1, z2.2.2.1, z2.2.2.2.1, z2.2.2.2.2.1, z2.2.2.2.2.2, z3.2.2.2.2.1, z3.2.2.2.2.2.1, z3.2.2.2.2.2.2.1, z3.2.2.2.2.2.2.2.1, z3.2.2.2.2.2.2.2.2.1, z3.2.2.2.2.2.2.2.2.2.1, z3.2.2.2.2.2.2.2.2.2.2.1, z3.2.2.2.2.2.2.2.2.2.2.2.1, z3.2.2.2.2.2.2.2.2.2.2.2.2.1, z3.2.2.2.2.2.2.2.2.2.2.2.2.2.1, z3.2.2.2.2.2.2.2.2.2.2.2.2.2.2.1, z3.2.2.2.2.2.2.2.2.2.2.2.2.2.2.2.1, z1, z3.2.2.2.2.2.2.2.2.2.2.2.2.2.2.2.2.1, z3.2.2.2.2.2.2.2.2.2.2.2.2.2.2.2.2.2.1, z3.2.2.2.2.2.2.2.2.2.2.2.2.2.2.2.2.2.2)) else (some ((-3), z3.1, z3.2.1, z3.2.2.1, z3.2.2.2.1, z2.2.1, z2.2.2.1, z2.2.2.2.1, z2.2.2.2.2.1, z2.2.2.2.2.2, z3.2.2.2.2.1, z3.2.2.2.2.2.1, z3.2.2.2.2.2.2.1, z3.2.2.2.2.2.2.2.1, z3.2.2.2.2.2.2.2.2.1, z3.2.2.2.2.2.2.2.2.2.1, z3.2.2.2.2.2.2.2.2.2.2.1, z3.2.2.2.2.2.2.2.2.2.2.2.1, z3.2.2.2.2.2.2.2.2.2.2.2.2.1, z3.2.2.2.2.2.2.2.2.2.2.2.2.2.1, z3.2.2.2.2.2.2.2.2.2.2.2.2.2.2.1, z3.2.2.2.2.2.2.2.2.2.2.2.2.2.2.2.1, z1, z3.2.2.2.2.2.2.2.2.2.2.2.2.2.2.2.2.1, z3.2.2.2.2.2.2.2.2.2.2.2.2.2.2.2.2.2.1, z3.2.2.2.2.2.2.2.2.2.2.2.2.2.2.2.2.2.2)))) else (some ((-5), m_cell, m_points, m_fouls, m_evening, z2.2.1, z2.2.2.1, z2.2.2.2.1, z2.2.2.2.2.1, z2.2.2.2.2.2, m_moving, m_goes, m_left, m_touches, m_cushions, m_cushionsThen, m_touchedFirst, m_stepsThen, m_downNow, m_touchedMany, m_cushionMany, m_were, z1, m_badAct, m_badWhy, m_foulAct)))))
def fX3_back_L2 (v1 : Int32) (m_had : Nat → Int32)  : Nat → Int32 → (Nat → Int32) → Int32 → Int32 → Int32 → Option (Int32 × (Nat → Int32) × Int32 × Int32 × Int32)
  | 0, _, _, _, _, _ => none
  | n + 1, v2, m_cell, m_points, m_fouls, m_evening => (if (3 : Int32) ≤ v2 then (if bIn 3 6 then (if bIn 4 6 then (if bIn 5 6 then (some (v1, m_cell, (m_had (3 : Int32).toNatClampNeg), (m_had (4 : Int32).toNatClampNeg), (m_had (5 : Int32).toNatClampNeg))) else none) else none) else none) else (if bIn v2 6 then (if bIn v2 3 then (fX3_back_L2 v1 m_had n (v2 + 1) (upd m_cell v2.toNatClampNeg (m_had v2.toNatClampNeg)) m_points m_fouls m_evening) else none) else none))
def fX3_back (v1 : Int32) (m_cell : Nat → Int32) (m_points : Int32) (m_fouls : Int32) (m_evening : Int32) (m_had : Nat → Int32) : Option (Int32 × (Nat → Int32) × Int32 × Int32 × Int32) := (fX3_back_L2 v1 m_had FU 0 m_cell m_points m_fouls m_evening)
def fX3_judge_L43 (v1 : Int32) (m_pad : Nat → Int32) (m_padMany : Int32)  (m_cell : Nat → Int32) (m_points : Int32) (m_fouls : Int32) (m_evening : Int32) (m_act : Nat → Int32) (m_which : Nat → Int32) (m_whither : Nat → Int32) (m_hard : Nat → Int32) (m_acts : Int32) (m_moving : Int32) (m_goes : Int32) (m_left : Int32) (m_touches : Int32) (m_cushions : Int32) (m_cushionsThen : Int32) (m_touchedFirst : Int32) (m_stepsThen : Int32) (m_downNow : Int32) (m_touchedMany : Int32) (m_cushionMany : Int32) (m_were : Nat → Int32) (m_had : Nat → Int32) (m_badAct : Int32) (m_badWhy : Int32) (m_foulAct : Int32) : Option (Int32 × (Nat → Int32) × Int32 × Int32 × Int32 × (Nat → Int32) × (Nat → Int32) × (Nat → Int32) × (Nat → Int32) × Int32 × Int32 × Int32 × Int32 × Int32 × Int32 × Int32 × Int32 × Int32 × Int32 × Int32 × Int32 × (Nat → Int32) × (Nat → Int32) × Int32 × Int32 × Int32) := (if v1 = 0 then (some (m_badAct, m_cell, m_points, m_fouls, m_evening, m_act, m_which, m_whither, m_hard, m_acts, m_moving, m_goes, m_left, m_touches, m_cushions, m_cushionsThen, m_touchedFirst, m_stepsThen, m_downNow, m_touchedMany, m_cushionMany, m_were, m_had, m_badAct, m_badWhy, m_foulAct)) else (if v1 = 1 then (some (m_badWhy, m_cell, m_points, m_fouls, m_evening, m_act, m_which, m_whither, m_hard, m_acts, m_moving, m_goes, m_left, m_touches, m_cushions, m_cushionsThen, m_touchedFirst, m_stepsThen, m_downNow, m_touchedMany, m_cushionMany, m_were, m_had, m_badAct, m_badWhy, m_foulAct)) else (some (m_touchedMany, m_cell, m_points, m_fouls, m_evening, m_act, m_which, m_whither, m_hard, m_acts, m_moving, m_goes, m_left, m_touches, m_cushions, m_cushionsThen, m_touchedFirst, m_stepsThen, m_downNow, m_touchedMany, m_cushionMany, m_were, m_had, m_badAct, m_badWhy, m_foulAct))))
def fX3_judge (v1 : Int32) (m_cell : Nat → Int32) (m_points : Int32) (m_fouls : Int32) (m_evening : Int32) (m_pad : Nat → Int32) (m_padMany : Int32) (m_act : Nat → Int32) (m_which : Nat → Int32) (m_whither : Nat → Int32) (m_hard : Nat → Int32) (m_acts : Int32) (m_moving : Int32) (m_goes : Int32) (m_left : Int32) (m_touches : Int32) (m_cushions : Int32) (m_cushionsThen : Int32) (m_touchedFirst : Int32) (m_stepsThen : Int32) (m_downNow : Int32) (m_touchedMany : Int32) (m_cushionMany : Int32) (m_were : Nat → Int32) (m_had : Nat → Int32) (m_badAct : Int32) (m_badWhy : Int32) (m_foulAct : Int32) : Option (Int32 × (Nat → Int32) × Int32 × Int32 × Int32 × (Nat → Int32) × (Nat → Int32) × (Nat → Int32) × (Nat → Int32) × Int32 × Int32 × Int32 × Int32 × Int32 × Int32 × Int32 × Int32 × Int32 × Int32 × Int32 × Int32 × (Nat → Int32) × (Nat → Int32) × Int32 × Int32 × Int32) := (if (fX3_in (v1.toInt64) 0 2) = 0 then (some ((-2), m_cell, m_points, m_fouls, m_evening, m_act, m_which, m_whither, m_hard, m_acts, m_moving, m_goes, m_left, m_touches, m_cushions, m_cushionsThen, m_touchedFirst, m_stepsThen, m_downNow, m_touchedMany, m_cushionMany, m_were, m_had, m_badAct, m_badWhy, m_foulAct)) else (Option.bind (fX3_refusal m_cell m_points m_fouls m_evening m_pad m_padMany m_act m_which m_whither m_hard m_acts m_moving m_goes m_left m_touches m_cushions m_cushionsThen m_touchedFirst m_stepsThen m_downNow m_touchedMany m_cushionMany m_were m_had m_badAct m_badWhy m_foulAct) fun z1 => (Option.bind (fX3_back z1.1 z1.2.1 z1.2.2.1 z1.2.2.2.1 z1.2.2.2.2.1 z1.2.2.2.2.2.2.2.2.2.2.2.2.2.2.2.2.2.2.2.2.2.2.1) fun z2 => (if z2.1 = (-5) then (some (z2.1, z2.2.1, z2.2.2.1, z2.2.2.2.1, z2.2.2.2.2, z1.2.2.2.2.2.1, z1.2.2.2.2.2.2.1, z1.2.2.2.2.2.2.2.1, z1.2.2.2.2.2.2.2.2.1, z1.2.2.2.2.2.2.2.2.2.1, z1.2.2.2.2.2.2.2.2.2.2.1, z1.2.2.2.2.2.2.2.2.2.2.2.1, z1.2.2.2.2.2.2.2.2.2.2.2.2.1, z1.2.2.2.2.2.2.2.2.2.2.2.2.2.1, z1.2.2.2.2.2.2.2.2.2.2.2.2.2.2.1, z1.2.2.2.2.2.2.2.2.2.2.2.2.2.2.2.1, z1.2.2.2.2.2.2.2.2.2.2.2.2.2.2.2.2.1, z1.2.2.2.2.2.2.2.2.2.2.2.2.2.2.2.2.2.1, z1.2.2.2.2.2.2.2.2.2.2.2.2.2.2.2.2.2.2.1, z1.2.2.2.2.2.2.2.2.2.2.2.2.2.2.2.2.2.2.2.1, z1.2.2.2.2.2.2.2.2.2.2.2.2.2.2.2.2.2.2.2.2.1, z1.2.2.2.2.2.2.2.2.2.2.2.2.2.2.2.2.2.2.2.2.2.1, z1.2.2.2.2.2.2.2.2.2.2.2.2.2.2.2.2.2.2.2.2.2.2.1, z1.2.2.2.2.2.2.2.2.2.2.2.2.2.2.2.2.2.2.2.2.2.2.2.1, z1.2.2.2.2.2.2.2.2.2.2.2.2.2.2.2.2.2.2.2.2.2.2.2.2.1, z1.2.2.2.2.2.2.2.2.2.2.2.2.2.2.2.2.2.2.2.2.2.2.2.2.2)) else (if v1 ≤ 1 then (fX3_judge_L43 v1 m_pad m_padMany z2.2.1 z2.2.2.1 z2.2.2.2.1 z2.2.2.2.2 z1.2.2.2.2.2.1 z1.2.2.2.2.2.2.1 z1.2.2.2.2.2.2.2.1 z1.2.2.2.2.2.2.2.2.1 z1.2.2.2.2.2.2.2.2.2.1 z1.2.2.2.2.2.2.2.2.2.2.1 z1.2.2.2.2.2.2.2.2.2.2.2.1 z1.2.2.2.2.2.2.2.2.2.2.2.2.1 z1.2.2.2.2.2.2.2.2.2.2.2.2.2.1 z1.2.2.2.2.2.2.2.2.2.2.2.2.2.2.1 z1.2.2.2.2.2.2.2.2.2.2.2.2.2.2.2.1 z1.2.2.2.2.2.2.2.2.2.2.2.2.2.2.2.2.1 z1.2.2.2.2.2.2.2.2.2.2.2.2.2.2.2.2.2.1 z1.2.2.2.2.2.2.2.2.2.2.2.2.2.2.2.2.2.2.1 z1.2.2.2.2.2.2.2.2.2.2.2.2.2.2.2.2.2.2.2.1 z1.2.2.2.2.2.2.2.2.2.2.2.2.2.2.2.2.2.2.2.2.1 z1.2.2.2.2.2.2.2.2.2.2.2.2.2.2.2.2.2.2.2.2.2.1 z1.2.2.2.2.2.2.2.2.2.2.2.2.2.2.2.2.2.2.2.2.2.2.1 z1.2.2.2.2.2.2.2.2.2.2.2.2.2.2.2.2.2.2.2.2.2.2.2.1 z1.2.2.2.2.2.2.2.2.2.2.2.2.2.2.2.2.2.2.2.2.2.2.2.2.1 z1.2.2.2.2.2.2.2.2.2.2.2.2.2.2.2.2.2.2.2.2.2.2.2.2.2) else (if z2.1 = (-3) then (some (z2.1, z2.2.1, z2.2.2.1, z2.2.2.2.1, z2.2.2.2.2, z1.2.2.2.2.2.1, z1.2.2.2.2.2.2.1, z1.2.2.2.2.2.2.2.1, z1.2.2.2.2.2.2.2.2.1, z1.2.2.2.2.2.2.2.2.2.1, z1.2.2.2.2.2.2.2.2.2.2.1, z1.2.2.2.2.2.2.2.2.2.2.2.1, z1.2.2.2.2.2.2.2.2.2.2.2.2.1, z1.2.2.2.2.2.2.2.2.2.2.2.2.2.1, z1.2.2.2.2.2.2.2.2.2.2.2.2.2.2.1, z1.2.2.2.2.2.2.2.2.2.2.2.2.2.2.2.1, z1.2.2.2.2.2.2.2.2.2.2.2.2.2.2.2.2.1, z1.2.2.2.2.2.2.2.2.2.2.2.2.2.2.2.2.2.1, z1.2.2.2.2.2.2.2.2.2.2.2.2.2.2.2.2.2.2.1, z1.2.2.2.2.2.2.2.2.2.2.2.2.2.2.2.2.2.2.2.1, z1.2.2.2.2.2.2.2.2.2.2.2.2.2.2.2.2.2.2.2.2.1, z1.2.2.2.2.2.2.2.2.2.2.2.2.2.2.2.2.2.2.2.2.2.1, z1.2.2.2.2.2.2.2.2.2.2.2.2.2.2.2.2.2.2.2.2.2.2.1, z1.2.2.2.2.2.2.2.2.2.2.2.2.2.2.2.2.2.2.2.2.2.2.2.1, z1.2.2.2.2.2.2.2.2.2.2.2.2.2.2.2.2.2.2.2.2.2.2.2.2.1, z1.2.2.2.2.2.2.2.2.2.2.2.2.2.2.2.2.2.2.2.2.2.2.2.2.2)) else (fX3_judge_L43 v1 m_pad m_padMany z2.2.1 z2.2.2.1 z2.2.2.2.1 z2.2.2.2.2 z1.2.2.2.2.2.1 z1.2.2.2.2.2.2.1 z1.2.2.2.2.2.2.2.1 z1.2.2.2.2.2.2.2.2.1 z1.2.2.2.2.2.2.2.2.2.1 z1.2.2.2.2.2.2.2.2.2.2.1 z1.2.2.2.2.2.2.2.2.2.2.2.1 z1.2.2.2.2.2.2.2.2.2.2.2.2.1 z1.2.2.2.2.2.2.2.2.2.2.2.2.2.1 z1.2.2.2.2.2.2.2.2.2.2.2.2.2.2.1 z1.2.2.2.2.2.2.2.2.2.2.2.2.2.2.2.1 z1.2.2.2.2.2.2.2.2.2.2.2.2.2.2.2.2.1 z1.2.2.2.2.2.2.2.2.2.2.2.2.2.2.2.2.2.1 z1.2.2.2.2.2.2.2.2.2.2.2.2.2.2.2.2.2.2.1 z1.2.2.2.2.2.2.2.2.2.2.2.2.2.2.2.2.2.2.2.1 z1.2.2.2.2.2.2.2.2.2.2.2.2.2.2.2.2.2.2.2.2.1 z1.2.2.2.2.2.2.2.2.2.2.2.2.2.2.2.2.2.2.2.2.2.1 z1.2.2.2.2.2.2.2.2.2.2.2.2.2.2.2.2.2.2.2.2.2.2.1 z1.2.2.2.2.2.2.2.2.2.2.2.2.2.2.2.2.2.2.2.2.2.2.2.1 z1.2.2.2.2.2.2.2.2.2.2.2.2.2.2.2.2.2.2.2.2.2.2.2.2.1 z1.2.2.2.2.2.2.2.2.2.2.2.2.2.2.2.2.2.2.2.2.2.2.2.2.2)))))))
def fX3_behind (v1 : Int32) (m_cell : Nat → Int32) (m_points : Int32) (m_fouls : Int32) (m_evening : Int32) (m_pad : Nat → Int32) (m_padMany : Int32) (m_act : Nat → Int32) (m_which : Nat → Int32) (m_whither : Nat → Int32) (m_hard : Nat → Int32) (m_acts : Int32) (m_moving : Int32) (m_goes : Int32) (m_left : Int32) (m_touches : Int32) (m_cushions : Int32) (m_cushionsThen : Int32) (m_touchedFirst : Int32) (m_stepsThen : Int32) (m_downNow : Int32) (m_touchedMany : Int32) (m_cushionMany : Int32) (m_were : Nat → Int32) (m_had : Nat → Int32) (m_badAct : Int32) (m_badWhy : Int32) (m_foulAct : Int32) : Option (Int32 × (Nat → Int32) × Int32 × Int32 × Int32 × (Nat → Int32) × (Nat → Int32) × (Nat → Int32) × (Nat → Int32) × Int32 × Int32 × Int32 × Int32 × Int32 × Int32 × Int32 × Int32 × Int32 × Int32 × Int32 × Int32 × (Nat → Int32) × (Nat → Int32) × Int32 × Int32 × Int32) := (if (fX3_isBall v1) = 0 then (some ((-1), m_cell, m_points, m_fouls, m_evening, m_act, m_which, m_whither, m_hard, m_acts, m_moving, m_goes, m_left, m_touches, m_cushions, m_cushionsThen, m_touchedFirst, m_stepsThen, m_downNow, m_touchedMany, m_cushionMany, m_were, m_had, m_badAct, m_badWhy, m_foulAct)) else (Option.bind (fX3_refusal m_cell m_points m_fouls m_evening m_pad m_padMany m_act m_which m_whither m_hard m_acts m_moving m_goes m_left m_touches m_cushions m_cushionsThen m_touchedFirst m_stepsThen m_downNow m_touchedMany m_cushionMany m_were m_had m_badAct m_badWhy m_foulAct) fun z1 => (if z1.1 = (-6) then (if bIn v1 3 then (Option.bind (fX3_back (z1.2.1 v1.toNatClampNeg) z1.2.1 z1.2.2.1 z1.2.2.2.1 z1.2.2.2.2.1 z1.2.2.2.2.2.2.2.2.2.2.2.2.2.2.2.2.2.2.2.2.2.2.1) fun z3 => (some (z3.1, z3.2.1, z3.2.2.1, z3.2.2.2.1, z3.2.2.2.2, z1.2.2.2.2.2.1, z1.2.2.2.2.2.2.1, z1.2.2.2.2.2.2.2.1, z1.2.2.2.2.2.2.2.2.1, z1.2.2.2.2.2.2.2.2.2.1, z1.2.2.2.2.2.2.2.2.2.2.1, z1.2.2.2.2.2.2.2.2.2.2.2.1, z1.2.2.2.2.2.2.2.2.2.2.2.2.1, z1.2.2.2.2.2.2.2.2.2.2.2.2.2.1, z1.2.2.2.2.2.2.2.2.2.2.2.2.2.2.1, z1.2.2.2.2.2.2.2.2.2.2.2.2.2.2.2.1, z1.2.2.2.2.2.2.2.2.2.2.2.2.2.2.2.2.1, z1.2.2.2.2.2.2.2.2.2.2.2.2.2.2.2.2.2.1, z1.2.2.2.2.2.2.2.2.2.2.2.2.2.2.2.2.2.2.1, z1.2.2.2.2.2.2.2.2.2.2.2.2.2.2.2.2.2.2.2.1, z1.2.2.2.2.2.2.2.2.2.2.2.2.2.2.2.2.2.2.2.2.1, z1.2.2.2.2.2.2.2.2.2.2.2.2.2.2.2.2.2.2.2.2.2.1, z1.2.2.2.2.2.2.2.2.2.2.2.2.2.2.2.2.2.2.2.2.2.2.1, z1.2.2.2.2.2.2.2.2.2.2.2.2.2.2.2.2.2.2.2.2.2.2.2.1, z1.2.2.2.2.2.2.2.2.2.2.2.2.2.2.2.2.2.2.2.2.2.2.2.2.1, z1.2.2.2.2.2.2.2.2.2.2.2.2.2.2.2.2.2.2.2.2.2.2.2.2.2))) else none) else (Option.bind (fX3_back z1.1 z1.2.1 z1.2.2.1 z1.2.2.2.1 z1.2.2.2.2.1 z1.2.2.2.2.2.2.2.2.2.2.2.2.2.2.2.2.2.2.2.2.2.2.1) fun z4 => (some (z4.1, z4.2.1, z4.2.2.1, z4.2.2.2.1, z4.2.2.2.2, z1.2.2.2.2.2.1, z1.2.2.2.2.2.2.1, z1.2.2.2.2.2.2.2.1, z1.2.2.2.2.2.2.2.2.1, z1.2.2.2.2.2.2.2.2.2.1, z1.2.2.2.2.2.2.2.2.2.2.1, z1.2.2.2.2.2.2.2.2.2.2.2.1, z1.2.2.2.2.2.2.2.2.2.2.2.2.1, z1.2.2.2.2.2.2.2.2.2.2.2.2.2.1, z1.2.2.2.2.2.2.2.2.2.2.2.2.2.2.1, z1.2.2.2.2.2.2.2.2.2.2.2.2.2.2.2.1, z1.2.2.2.2.2.2.2.2.2.2.2.2.2.2.2.2.1, z1.2.2.2.2.2.2.2.2.2.2.2.2.2.2.2.2.2.1, z1.2.2.2.2.2.2.2.2.2.2.2.2.2.2.2.2.2.2.1, z1.2.2.2.2.2.2.2.2.2.2.2.2.2.2.2.2.2.2.2.1, z1.2.2.2.2.2.2.2.2.2.2.2.2.2.2.2.2.2.2.2.2.1, z1.2.2.2.2.2.2.2.2.2.2.2.2.2.2.2.2.2.2.2.2.2.1, z1.2.2.2.2.2.2.2.2.2.2.2.2.2.2.2.2.2.2.2.2.2.2.1, z1.2.2.2.2.2.2.2.2.2.2.2.2.2.2.2.2.2.2.2.2.2.2.2.1, z1.2.2.2.2.2.2.2.2.2.2.2.2.2.2.2.2.2.2.2.2.2.2.2.2.1, z1.2.2.2.2.2.2.2.2.2.2.2.2.2.2.2.2.2.2.2.2.2.2.2.2.2))))))
def fX3_downMany_L4  (m_cell : Nat → Int32)  : Nat → Int32 → Int32 → Option (Int32)
  | 0, _, _ => none
  | n + 1, v1, v2 => (if (3 : Int32) ≤ v2 then (some v1) else (if bIn v2 3 then (if (0 : Int32) ≤ (m_cell v2.toNatClampNeg) then (fX3_downMany_L4 m_cell n (v1 + 0) (v2 + 1)) else (fX3_downMany_L4 m_cell n (v1 + 1) (v2 + 1))) else none))
def fX3_downMany  (m_cell : Nat → Int32) : Option (Int32) := (fX3_downMany_L4 m_cell FU 0 0)
def fX3_table (v1 : Int32) (m_cell : Nat → Int32) (m_points : Int32) (m_fouls : Int32) (m_evening : Int32) (m_pad : Nat → Int32) (m_padMany : Int32) (m_act : Nat → Int32) (m_which : Nat → Int32) (m_whither : Nat → Int32) (m_hard : Nat → Int32) (m_acts : Int32) (m_moving : Int32) (m_goes : Int32) (m_left : Int32) (m_touches : Int32) (m_cushions : Int32) (m_cushionsThen : Int32) (m_touchedFirst : Int32) (m_stepsThen : Int32) (m_downNow : Int32) (m_touchedMany : Int32) (m_cushionMany : Int32) (m_were : Nat → Int32) (m_had : Nat → Int32) (m_badAct : Int32) (m_badWhy : Int32) (m_foulAct : Int32) : Option (Int32 × (Nat → Int32) × Int32 × Int32 × Int32 × (Nat → Int32) × (Nat → Int32) × (Nat → Int32) × (Nat → Int32) × Int32 × Int32 × Int32 × Int32 × Int32 × Int32 × Int32 × Int32 × Int32 × Int32 × Int32 × Int32 × (Nat → Int32) × (Nat → Int32) × Int32 × Int32 × Int32) := (if (fX3_in (v1.toInt64) 0 3) = 0 then (some ((-2), m_cell, m_points, m_fouls, m_evening, m_act, m_which, m_whither, m_hard, m_acts, m_moving, m_goes, m_left, m_touches, m_cushions, m_cushionsThen, m_touchedFirst, m_stepsThen, m_downNow, m_touchedMany, m_cushionMany, m_were, m_had, m_badAct, m_badWhy, m_foulAct)) else (Option.bind (fX3_refusal m_cell m_points m_fouls m_evening m_pad m_padMany m_act m_which m_whither m_hard m_acts m_moving m_goes m_left m_touches m_cushions m_cushionsThen m_touchedFirst m_stepsThen m_downNow m_touchedMany m_cushionMany m_were m_had m_badAct m_badWhy m_foulAct) fun z1 => (if z1.1 = (-6) then (if v1 = 0 then (Option.bind (fX3_back z1.2.2.1 z1.2.1 z1.2.2.1 z1.2.2.2.1 z1.2.2.2.2.1 z1.2.2.2.2.2.2.2.2.2.2.2.2.2.2.2.2.2.2.2.2.2.2.1) fun z8 => (some (z8.1, z8.2.1, z8.2.2.1, z8.2.2.2.1, z8.2.2.2.2, z1.2.2.2.2.2.1, z1.2.2.2.2.2.2.1, z1.2.2.2.2.2.2.2.1, z1.2.2.2.2.2.2.2.2.1, z1.2.2.2.2.2.2.2.2.2.1, z1.2.2.2.2.2.2.2.2.2.2.1, z1.2.2.2.2.2.2.2.2.2.2.2.1, z1.2.2.2.2.2.2.2.2.2.2.2.2.1, z1.2.2.2.2.2.2.2.2.2.2.2.2.2.1, z1.2.2.2.2.2.2.2.2.2.2.2.2.2.2.1, z1.2.2.2.2.2.2.2.2.2.2.2.2.2.2.2.1, z1.2.2.2.2.2.2.2.2.2.2.2.2.2.2.2.2.1, z1.2.2.2.2.2.2.2.2.2.2.2.2.2.2.2.2.2.1, z1.2.2.2.2.2.2.2.2.2.2.2.2.2.2.2.2.2.2.1, z1.2.2.2.2.2.2.2.2.2.2.2.2.2.2.2.2.2.2.2.1, z1.2.2.2.2.2.2.2.2.2.2.2.2.2.2.2.2.2.2.2.2.1, z1.2.2.2.2.2.2.2.2.2.2.2.2.2.2.2.2.2.2.2.2.2.1, z1.2.2.2.2.2.2.2.2.2.2.2.2.2.2.2.2.2.2.2.2.2.2.1, z1.2.2.2.2.2.2.2.2.2.2.2.2.2.2.2.2.2.2.2.2.2.2.2.1, z1.2.2.2.2.2.2.2.2.2.2.2.2.2.2.2.2.2.2.2.2.2.2.2.2.1, z1.2.2.2.2.2.2.2.2.2.2.2.2.2.2.2.2.2.2.2.2.2.2.2.2.2))) else (if v1 = 1 then (Option.bind (fX3_back z1.2.2.2.1 z1.2.1 z1.2.2.1 z1.2.2.2.1 z1.2.2.2.2.1 z1.2.2.2.2.2.2.2.2.2.2.2.2.2.2.2.2.2.2.2.2.2.2.1) fun z6 => (some (z6.1, z6.2.1, z6.2.2.1, z6.2.2.2.1, z6.2.2.2.2, z1.2.2.2.2.2.1, z1.2.2.2.2.2.2.1, z1.2.2.2.2.2.2.2.1, z1.2.2.2.2.2.2.2.2.1, z1.2.2.2.2.2.2.2.2.2.1, z1.2.2.2.2.2.2.2.2.2.2.1, z1.2.2.2.2.2.2.2.2.2.2.2.1, z1.2.2.2.2.2.2.2.2.2.2.2.2.1, z1.2.2.2.2.2.2.2.2.2.2.2.2.2.1, z1.2.2.2.2.2.2.2.2.2.2.2.2.2.2.1, z1.2.2.2.2.2.2.2.2.2.2.2.2.2.2.2.1, z1.2.2.2.2.2.2.2.2.2.2.2.2.2.2.2.2.1, z1.2.2.2.2.2.2.2.2.2.2.2.2.2.2.2.2.2.1, z1.2.2.2.2.2.2.2.2.2.2.2.2.2.2.2.2.2.2.1, z1.2.2.2.2.2.2.2.2.2.2.2.2.2.2.2.2.2.2.2.1, z1.2.2.2.2.2.2.2.2.2.2.2.2.2.2.2.2.2.2.2.2.1, z1.2.2.2.2.2.2.2.2.2.2.2.2.2.2.2.2.2.2.2.2.2.1, z1.2.2.2.2.2.2.2.2.2.2.2.2.2.2.2.2.2.2.2.2.2.2.1, z1.2.2.2.2.2.2.2.2.2.2.2.2.2.2.2.2.2.2.2.2.2.2.2.1, z1.2.2.2.2.2.2.2.2.2.2.2.2.2.2.2.2.2.2.2.2.2.2.2.2.1, z1.2.2.2.2.2.2.2.2.2.2.2.2.2.2.2.2.2.2.2.2.2.2.2.2.2))) else (if v1 = 2 then (Option.bind (fX3_downMany z1.2.1) fun z3 => (Option.bind (fX3_back z3 z1.2.1 z1.2.2.1 z1.2.2.2.1 z1.2.2.2.2.1 z1.2.2.2.2.2.2.2.2.2.2.2.2.2.2.2.2.2.2.2.2.2.2.1) fun z4 => (some (z4.1, z4.2.1, z4.2.2.1, z4.2.2.2.1, z4.2.2.2.2, z1.2.2.2.2.2.1, z1.2.2.2.2.2.2.1, z1.2.2.2.2.2.2.2.1, z1.2.2.2.2.2.2.2.2.1, z1.2.2.2.2.2.2.2.2.2.1, z1.2.2.2.2.2.2.2.2.2.2.1, z1.2.2.2.2.2.2.2.2.2.2.2.1, z1.2.2.2.2.2.2.2.2.2.2.2.2.1, z1.2.2.2.2.2.2.2.2.2.2.2.2.2.1, z1.2.2.2.2.2.2.2.2.2.2.2.2.2.2.1, z1.2.2.2.2.2.2.2.2.2.2.2.2.2.2.2.1, z1.2.2.2.2.2.2.2.2.2.2.2.2.2.2.2.2.1, z1.2.2.2.2.2.2.2.2.2.2.2.2.2.2.2.2.2.1, z1.2.2.2.2.2.2.2.2.2.2.2.2.2.2.2.2.2.2.1, z1.2.2.2.2.2.2.2.2.2.2.2.2.2.2.2.2.2.2.2.1, z1.2.2.2.2.2.2.2.2.2.2.2.2.2.2.2.2.2.2.2.2.1, z1.2.2.2.2.2.2.2.2.2.2.2.2.2.2.2.2.2.2.2.2.2.1, z1.2.2.2.2.2.2.2.2.2.2.2.2.2.2.2.2.2.2.2.2.2.2.1, z1.2.2.2.2.2.2.2.2.2.2.2.2.2.2.2.2.2.2.2.2.2.2.2.1, z1.2.2.2.2.2.2.2.2.2.2.2.2.2.2.2.2.2.2.2.2.2.2.2.2.1, z1.2.2.2.2.2.2.2.2.2.2.2.2.2.2.2.2.2.2.2.2.2.2.2.2.2)))) else (Option.bind (fX3_back z1.2.2.2.2.1 z1.2.1 z1.2.2.1 z1.2.2.2.1 z1.2.2.2.2.1 z1.2.2.2.2.2.2.2.2.2.2.2.2.2.2.2.2.2.2.2.2.2.2.1) fun z2 => (some (z2.1, z2.2.1, z2.2.2.1, z2.2.2.2.1, z2.2.2.2.2, z1.2.2.2.2.2.1, z1.2.2.2.2.2.2.1, z1.2.2.2.2.2.2.2.1, z1.2.2.2.2.2.2.2.2.1, z1.2.2.2.2.2.2.2.2.2.1, z1.2.2.2.2.2.2.2.2.2.2.1, z1.2.2.2.2.2.2.2.2.2.2.2.1, z1.2.2.2.2.2.2.2.2.2.2.2.2.1, z1.2.2.2.2.2.2.2.2.2.2.2.2.2.1, z1.2.2.2.2.2.2.2.2.2.2.2.2.2.2.1, z1.2.2.2.2.2.2.2.2.2.2.2.2.2.2.2.1, z1.2.2.2.2.2.2.2.2.2.2.2.2.2.2.2.2.1, z1.2.2.2.2.2.2.2.2.2.2.2.2.2.2.2.2.2.1, z1.2.2.2.2.2.2.2.2.2.2.2.2.2.2.2.2.2.2.1, z1.2.2.2.2.2.2.2.2.2.2.2.2.2.2.2.2.2.2.2.1, z1.2.2.2.2.2.2.2.2.2.2.2.2.2.2.2.2.2.2.2.2.1, z1.2.2.2.2.2.2.2.2.2.2.2.2.2.2.2.2.2.2.2.2.2.1, z1.2.2.2.2.2.2.2.2.2.2.2.2.2.2.2.2.2.2.2.2.2.2.1, z1.2.2.2.2.2.2.2.2.2.2.2.2.2.2.2.2.2.2.2.2.2.2.2.1, z1.2.2.2.2.2.2.2.2.2.2.2.2.2.2.2.2.2.2.2.2.2.2.2.2.1, z1.2.2.2.2.2.2.2.2.2.2.2.2.2.2.2.2.2.2.2.2.2.2.2.2.2)))))) else (Option.bind (fX3_back z1.1 z1.2.1 z1.2.2.1 z1.2.2.2.1 z1.2.2.2.2.1 z1.2.2.2.2.2.2.2.2.2.2.2.2.2.2.2.2.2.2.2.2.2.2.1) fun z10 => (some (z10.1, z10.2.1, z10.2.2.1, z10.2.2.2.1, z10.2.2.2.2, z1.2.2.2.2.2.1, z1.2.2.2.2.2.2.1, z1.2.2.2.2.2.2.2.1, z1.2.2.2.2.2.2.2.2.1, z1.2.2.2.2.2.2.2.2.2.1, z1.2.2.2.2.2.2.2.2.2.2.1, z1.2.2.2.2.2.2.2.2.2.2.2.1, z1.2.2.2.2.2.2.2.2.2.2.2.2.1, z1.2.2.2.2.2.2.2.2.2.2.2.2.2.1, z1.2.2.2.2.2.2.2.2.2.2.2.2.2.2.1, z1.2.2.2.2.2.2.2.2.2.2.2.2.2.2.2.1, z1.2.2.2.2.2.2.2.2.2.2.2.2.2.2.2.2.1, z1.2.2.2.2.2.2.2.2.2.2.2.2.2.2.2.2.2.1, z1.2.2.2.2.2.2.2.2.2.2.2.2.2.2.2.2.2.2.1, z1.2.2.2.2.2.2.2.2.2.2.2.2.2.2.2.2.2.2.2.1, z1.2.2.2.2.2.2.2.2.2.2.2.2.2.2.2.2.2.2.2.2.1, z1.2.2.2.2.2.2.2.2.2.2.2.2.2.2.2.2.2.2.2.2.2.1, z1.2.2.2.2.2.2.2.2.2.2.2.2.2.2.2.2.2.2.2.2.2.2.1, z1.2.2.2.2.2.2.2.2.2.2.2.2.2.2.2.2.2.2.2.2.2.2.2.1, z1.2.2.2.2.2.2.2.2.2.2.2.2.2.2.2.2.2.2.2.2.2.2.2.2.1, z1.2.2.2.2.2.2.2.2.2.2.2.2.2.2.2.2.2.2.2.2.2.2.2.2.2))))))
def fX3_candour (v1 : Int32) (m_cell : Nat → Int32) (m_points : Int32) (m_fouls : Int32) (m_evening : Int32) (m_pad : Nat → Int32) (m_padMany : Int32) (m_act : Nat → Int32) (m_which : Nat → Int32) (m_whither : Nat → Int32) (m_hard : Nat → Int32) (m_acts : Int32) (m_moving : Int32) (m_goes : Int32) (m_left : Int32) (m_touches : Int32) (m_cushions : Int32) (m_cushionsThen : Int32) (m_touchedFirst : Int32) (m_stepsThen : Int32) (m_downNow : Int32) (m_touchedMany : Int32) (m_cushionMany : Int32) (m_were : Nat → Int32) (m_had : Nat → Int32) (m_badAct : Int32) (m_badWhy : Int32) (m_foulAct : Int32) : Option (Int32 × (Nat → Int32) × Int32 × Int32 × Int32 × (Nat → Int32) × (Nat → Int32) × (Nat → Int32) × (Nat → Int32) × Int32 × Int32 × Int32 × Int32 × Int32 × Int32 × Int32 × Int32 × Int32 × Int32 × Int32 × Int32 × (Nat → Int32) × (Nat → Int32) × Int32 × Int32 × Int32) := (if (fX3_in (v1.toInt64) 0 1) = 0 then (some ((-2), m_cell, m_points, m_fouls, m_evening, m_act, m_which, m_whither, m_hard, m_acts, m_moving, m_goes, m_left, m_touches, m_cushions, m_cushionsThen, m_touchedFirst, m_stepsThen, m_downNow, m_touchedMany, m_cushionMany, m_were, m_had, m_badAct, m_badWhy, m_foulAct)) else (Option.bind (fX3_refusal m_cell m_points m_fouls m_evening m_pad m_padMany m_act m_which m_whither m_hard m_acts m_moving m_goes m_left m_touches m_cushions m_cushionsThen m_touchedFirst m_stepsThen m_downNow m_touchedMany m_cushionMany m_were m_had m_badAct m_badWhy m_foulAct) fun z1 => (Option.bind (fX3_back z1.1 z1.2.1 z1.2.2.1 z1.2.2.2.1 z1.2.2.2.2.1 z1.2.2.2.2.2.2.2.2.2.2.2.2.2.2.2.2.2.2.2.2.2.2.1) fun z2 => (if z2.1 = (-6) then (if v1 = 0 then (some (z1.2.2.2.2.2.2.2.2.2.2.2.2.2.2.2.2.2.2.2.2.2.2.2.2.2, z2.2.1, z2.2.2.1, z2.2.2.2.1, z2.2.2.2.2, z1.2.2.2.2.2.1, z1.2.2.2.2.2.2.1, z1.2.2.2.2.2.2.2.1, z1.2.2.2.2.2.2.2.2.1, z1.2.2.2.2.2.2.2.2.2.1, z1.2.2.2.2.2.2.2.2.2.2.1, z1.2.2.2.2.2.2.2.2.2.2.2.1, z1.2.2.2.2.2.2.2.2.2.2.2.2.1, z1.2.2.2.2.2.2.2.2.2.2.2.2.2.1, z1.2.2.2.2.2.2.2.2.2.2.2.2.2.2.1, z1.2.2.2.2.2.2.2.2.2.2.2.2.2.2.2.1, z1.2.2.2.2.2.2.2.2.2.2.2.2.2.2.2.2.1, z1.2.2.2.2.2.2.2.2.2.2.2.2.2.2.2.2.2.1, z1.2.2.2.2.2.2.2.2.2.2.2.2.2.2.2.2.2.2.1, z1.2.2.2.2.2.2.2.2.2.2.2.2.2.2.2.2.2.2.2.1, z1.2.2.2.2.2.2.2.2.2.2.2.2.2.2.2.2.2.2.2.2.1, z1.2.2.2.2.2.2.2.2.2.2.2.2.2.2.2.2.2.2.2.2.2.1, z1.2.2.2.2.2.2.2.2.2.2.2.2.2.2.2.2.2.2.2.2.2.2.1, z1.2.2.2.2.2.2.2.2.2.2.2.2.2.2.2.2.2.2.2.2.2.2.2.1, z1.2.2.2.2.2.2.2.2.2.2.2.2.2.2.2.2.2.2.2.2.2.2.2.2.1, z1.2.2.2.2.2.2.2.2.2.2.2.2.2.2.2.2.2.2.2.2.2.2.2.2.2)) else (some (z1.2.2.2.2.2.2.2.2.2.2.2.2.2.2.2.2.2.2.2.2.1, z2.2.1, z2.2.2.1, z2.2.2.2.1, z2.2.2.2.2, z1.2.2.2.2.2.1, z1.2.2.2.2.2.2.1, z1.2.2.2.2.2.2.2.1, z1.2.2.2.2.2.2.2.2.1, z1.2.2.2.2.2.2.2.2.2.1, z1.2.2.2.2.2.2.2.2.2.2.1, z1.2.2.2.2.2.2.2.2.2.2.2.1, z1.2.2.2.2.2.2.2.2.2.2.2.2.1, z1.2.2.2.2.2.2.2.2.2.2.2.2.2.1, z1.2.2.2.2.2.2.2.2.2.2.2.2.2.2.1, z1.2.2.2.2.2.2.2.2.2.2.2.2.2.2.2.1, z1.2.2.2.2.2.2.2.2.2.2.2.2.2.2.2.2.1, z1.2.2.2.2.2.2.2.2.2.2.2.2.2.2.2.2.2.1, z1.2.2.2.2.2.2.2.2.2.2.2.2.2.2.2.2.2.2.1, z1.2.2.2.2.2.2.2.2.2.2.2.2.2.2.2.2.2.2.2.1, z1.2.2.2.2.2.2.2.2.2.2.2.2.2.2.2.2.2.2.2.2.1, z1.2.2.2.2.2.2.2.2.2.2.2.2.2.2.2.2.2.2.2.2.2.1, z1.2.2.2.2.2.2.2.2.2.2.2.2.2.2.2.2.2.2.2.2.2.2.1, z1.2.2.2.2.2.2.2.2.2.2.2.2.2.2.2.2.2.2.2.2.2.2.2.1, z1.2.2.2.2.2.2.2.2.2.2.2.2.2.2.2.2.2.2.2.2.2.2.2.2.1, z1.2.2.2.2.2.2.2.2.2.2.2.2.2.2.2.2.2.2.2.2.2.2.2.2.2))) else (some (z2.1, z2.2.1, z2.2.2.1, z2.2.2.2.1, z2.2.2.2.2, z1.2.2.2.2.2.1, z1.2.2.2.2.2.2.1, z1.2.2.2.2.2.2.2.1, z1.2.2.2.2.2.2.2.2.1, z1.2.2.2.2.2.2.2.2.2.1, z1.2.2.2.2.2.2.2.2.2.2.1, z1.2.2.2.2.2.2.2.2.2.2.2.1, z1.2.2.2.2.2.2.2.2.2.2.2.2.1, z1.2.2.2.2.2.2.2.2.2.2.2.2.2.1, z1.2.2.2.2.2.2.2.2.2.2.2.2.2.2.1, z1.2.2.2.2.2.2.2.2.2.2.2.2.2.2.2.1, z1.2.2.2.2.2.2.2.2.2.2.2.2.2.2.2.2.1, z1.2.2.2.2.2.2.2.2.2.2.2.2.2.2.2.2.2.1, z1.2.2.2.2.2.2.2.2.2.2.2.2.2.2.2.2.2.2.1, z1.2.2.2.2.2.2.2.2.2.2.2.2.2.2.2.2.2.2.2.1, z1.2.2.2.2.2.2.2.2.2.2.2.2.2.2.2.2.2.2.2.2.1, z1.2.2.2.2.2.2.2.2.2.2.2.2.2.2.2.2.2.2.2.2.2.1, z1.2.2.2.2.2.2.2.2.2.2.2.2.2.2.2.2.2.2.2.2.2.2.1, z1.2.2.2.2.2.2.2.2.2.2.2.2.2.2.2.2.2.2.2.2.2.2.2.1, z1.2.2.2.2.2.2.2.2.2.2.2.2.2.2.2.2.2.2.2.2.2.2.2.2.1, z1.2.2.2.2.2.2.2.2.2.2.2.2.2.2.2.2.2.2.2.2.2.2.2.2.2))))))
def fX3_done  (m_cell : Nat → Int32) (m_points : Int32) (m_fouls : Int32) (m_evening : Int32) (m_pad : Nat → Int32) (m_padMany : Int32) (m_act : Nat → Int32) (m_which : Nat → Int32) (m_whither : Nat → Int32) (m_hard : Nat → Int32) (m_acts : Int32) (m_moving : Int32) (m_goes : Int32) (m_left : Int32) (m_touches : Int32) (m_cushions : Int32) (m_cushionsThen : Int32) (m_touchedFirst : Int32) (m_stepsThen : Int32) (m_downNow : Int32) (m_touchedMany : Int32) (m_cushionMany : Int32) (m_were : Nat → Int32) (m_had : Nat → Int32) (m_badAct : Int32) (m_badWhy : Int32) (m_foulAct : Int32) : Option (Int32 × (Nat → Int32) × Int32 × Int32 × Int32 × Int32 × (Nat → Int32) × (Nat → Int32) × (Nat → Int32) × (Nat → Int32) × Int32 × Int32 × Int32 × Int32 × Int32 × Int32 × Int32 × Int32 × Int32 × Int32 × Int32 × Int32 × (Nat → Int32) × (Nat → Int32) × Int32 × Int32 × Int32) := (Option.bind (fX3_refusal m_cell m_points m_fouls m_evening m_pad m_padMany m_act m_which m_whither m_hard m_acts m_moving m_goes m_left m_touches m_cushions m_cushionsThen m_touchedFirst m_stepsThen m_downNow m_touchedMany m_cushionMany m_were m_had m_badAct m_badWhy m_foulAct) fun z1 => (if z1.1 = (-6) then (some (z1.2.2.2.2.2.2.2.2.2.1, z1.2.1, z1.2.2.1, z1.2.2.2.1, z1.2.2.2.2.1, 0, z1.2.2.2.2.2.1, z1.2.2.2.2.2.2.1, z1.2.2.2.2.2.2.2.1, z1.2.2.2.2.2.2.2.2.1, z1.2.2.2.2.2.2.2.2.2.1, z1.2.2.2.2.2.2.2.2.2.2.1, z1.2.2.2.2.2.2.2.2.2.2.2.1, z1.2.2.2.2.2.2.2.2.2.2.2.2.1, z1.2.2.2.2.2.2.2.2.2.2.2.2.2.1, z1.2.2.2.2.2.2.2.2.2.2.2.2.2.2.1, z1.2.2.2.2.2.2.2.2.2.2.2.2.2.2.2.1, z1.2.2.2.2.2.2.2.2.2.2.2.2.2.2.2.2.1, z1.2.2.2.2.2.2.2.2.2.2.2.2.2.2.2.2.2.1, z1.2.2.2.2.2.2.2.2.2.2.2.2.2.2.2.2.2.2.1, z1.2.2.2.2.2.2.2.2.2.2.2.2.2.2.2.2.2.2.2.1, z1.2.2.2.2.2.2.2.2.2.2.2.2.2.2.2.2.2.2.2.2.1, z1.2.2.2.2.2.2.2.2.2.2.2.2.2.2.2.2.2.2.2.2.2.1, z1.2.2.2.2.2.2.2.2.2.2.2.2.2.2.2.2.2.2.2.2.2.2.1, z1.2.2.2.2.2.2.2.2.2.2.2.2.2.2.2.2.2.2.2.2.2.2.2.1, z1.2.2.2.2.2.2.2.2.2.2.2.2.2.2.2.2.2.2.2.2.2.2.2.2.1, z1.2.2.2.2.2.2.2.2.2.2.2.2.2.2.2.2.2.2.2.2.2.2.2.2.2)) else (Option.bind (fX3_back z1.1 z1.2.1 z1.2.2.1 z1.2.2.2.1 z1.2.2.2.2.1 z1.2.2.2.2.2.2.2.2.2.2.2.2.2.2.2.2.2.2.2.2.2.2.1) fun z2 => (some (z2.1, z2.2.1, z2.2.2.1, z2.2.2.2.1, z2.2.2.2.2, m_padMany, z1.2.2.2.2.2.1, z1.2.2.2.2.2.2.1, z1.2.2.2.2.2.2.2.1, z1.2.2.2.2.2.2.2.2.1, z1.2.2.2.2.2.2.2.2.2.1, z1.2.2.2.2.2.2.2.2.2.2.1, z1.2.2.2.2.2.2.2.2.2.2.2.1, z1.2.2.2.2.2.2.2.2.2.2.2.2.1, z1.2.2.2.2.2.2.2.2.2.2.2.2.2.1, z1.2.2.2.2.2.2.2.2.2.2.2.2.2.2.1, z1.2.2.2.2.2.2.2.2.2.2.2.2.2.2.2.1, z1.2.2.2.2.2.2.2.2.2.2.2.2.2.2.2.2.1, z1.2.2.2.2.2.2.2.2.2.2.2.2.2.2.2.2.2.1, z1.2.2.2.2.2.2.2.2.2.2.2.2.2.2.2.2.2.2.1, z1.2.2.2.2.2.2.2.2.2.2.2.2.2.2.2.2.2.2.2.1, z1.2.2.2.2.2.2.2.2.2.2.2.2.2.2.2.2.2.2.2.2.1, z1.2.2.2.2.2.2.2.2.2.2.2.2.2.2.2.2.2.2.2.2.2.1, z1.2.2.2.2.2.2.2.2.2.2.2.2.2.2.2.2.2.2.2.2.2.2.1, z1.2.2.2.2.2.2.2.2.2.2.2.2.2.2.2.2.2.2.2.2.2.2.2.1, z1.2.2.2.2.2.2.2.2.2.2.2.2.2.2.2.2.2.2.2.2.2.2.2.2.1, z1.2.2.2.2.2.2.2.2.2.2.2.2.2.2.2.2.2.2.2.2.2.2.2.2.2)))))
def fX3_stepsBy_L34 (v1 : Int32) (v2 : Int32) (v3 : Int32) (v4 : Int32)   (k0 : Int32) (m_cell : Nat → Int32) (m_points : Int32) (m_fouls : Int32) (m_evening : Int32) (m_moving : Int32) (m_goes : Int32) (m_left : Int32) (m_touches : Int32) (m_cushions : Int32) (m_cushionsThen : Int32) (m_touchedFirst : Int32) (m_stepsThen : Int32) (m_downNow : Int32) (m_had : Nat → Int32) : Option (Int32 × (Nat → Int32) × Int32 × Int32 × Int32 × Int32 × Int32 × Int32 × Int32 × Int32 × Int32 × Int32 × Int32 × Int32 × (Nat → Int32)) := (if k0 = 0 then (Option.bind (fX3_back (-6) m_cell m_points m_fouls m_evening m_had) fun z3 => (some (z3.1, z3.2.1, z3.2.2.1, z3.2.2.2.1, z3.2.2.2.2, m_moving, m_goes, m_left, m_touches, m_cushions, m_cushionsThen, m_touchedFirst, m_stepsThen, m_downNow, m_had))) else (Option.bind (fX3_back m_stepsThen m_cell m_points m_fouls m_evening m_had) fun z4 => (some (z4.1, z4.2.1, z4.2.2.1, z4.2.2.2.1, z4.2.2.2.2, m_moving, m_goes, m_left, m_touches, m_cushions, m_cushionsThen, m_touchedFirst, m_stepsThen, m_downNow, m_had))))
def fX3_stepsBy (v1 : Int32) (v2 : Int32) (v3 : Int32) (v4 : Int32) (m_cell : Nat → Int32) (m_points : Int32) (m_fouls : Int32) (m_evening : Int32) (m_moving : Int32) (m_goes : Int32) (m_left : Int32) (m_touches : Int32) (m_cushions : Int32) (m_cushionsThen : Int32) (m_touchedFirst : Int32) (m_stepsThen : Int32) (m_downNow : Int32) (m_had : Nat → Int32) : Option (Int32 × (Nat → Int32) × Int32 × Int32 × Int32 × Int32 × Int32 × Int32 × Int32 × Int32 × Int32 × Int32 × Int32 × Int32 × (Nat → Int32)) := (Option.bind (fX3_keepNow m_cell m_points m_fouls m_evening m_had) fun z1 => (Option.bind (fX3_send v1 v4 9 m_cell m_moving m_goes m_left m_touches m_cushions m_cushionsThen m_touchedFirst m_stepsThen m_downNow) fun z2 => (if z2.2.2.2.2.2.2.2.1 = v2 then (if z2.2.2.2.2.2.2.1 = v3 then (fX3_stepsBy_L34 v1 v2 v3 v4 1 z2.1 m_points m_fouls m_evening z2.2.1 z2.2.2.1 z2.2.2.2.1 z2.2.2.2.2.1 z2.2.2.2.2.2.1 z2.2.2.2.2.2.2.1 z2.2.2.2.2.2.2.2.1 z2.2.2.2.2.2.2.2.2.1 z2.2.2.2.2.2.2.2.2.2 z1) else (fX3_stepsBy_L34 v1 v2 v3 v4 0 z2.1 m_points m_fouls m_evening z2.2.1 z2.2.2.1 z2.2.2.2.1 z2.2.2.2.2.1 z2.2.2.2.2.2.1 z2.2.2.2.2.2.2.1 z2.2.2.2.2.2.2.2.1 z2.2.2.2.2.2.2.2.2.1 z2.2.2.2.2.2.2.2.2.2 z1)) else (fX3_stepsBy_L34 v1 v2 v3 v4 0 z2.1 m_points m_fouls m_evening z2.2.1 z2.2.2.1 z2.2.2.2.1 z2.2.2.2.2.1 z2.2.2.2.2.2.1 z2.2.2.2.2.2.2.1 z2.2.2.2.2.2.2.2.1 z2.2.2.2.2.2.2.2.2.1 z2.2.2.2.2.2.2.2.2.2 z1))))
def fX3_hint_L142 (v1 : Int32) (v2 : Int32) (v3 : Int32) (v4 : Int32)   (v5 : Int32) (v6 : Int32) (m_cell : Nat → Int32) (m_points : Int32) (m_fouls : Int32) (m_evening : Int32) (m_moving : Int32) (m_goes : Int32) (m_left : Int32) (m_touches : Int32) (m_cushions : Int32) (m_cushionsThen : Int32) (m_touchedFirst : Int32) (m_stepsThen : Int32) (m_downNow : Int32) (m_had : Nat → Int32) : Option (Int32 × (Nat → Int32) × Int32 × Int32 × Int32 × Int32 × Int32 × Int32 × Int32 × Int32 × Int32 × Int32 × Int32 × Int32 × (Nat → Int32)) := (if v4 = 0 then (some (v5, m_cell, m_points, m_fouls, m_evening, m_moving, m_goes, m_left, m_touches, m_cushions, m_cushionsThen, m_touchedFirst, m_stepsThen, m_downNow, m_had)) else (some (v6, m_cell, m_points, m_fouls, m_evening, m_moving, m_goes, m_left, m_touches, m_cushions, m_cushionsThen, m_touchedFirst, m_stepsThen, m_downNow, m_had)))
def fX3_hint_L120 (v1 : Int32) (v2 : Int32) (v3 : Int32) (v4 : Int32)  (k59c : Int32 → Int32 → Int32 → (Nat → Int32) → Int32 → Int32 → Int32 → Int32 → Int32 → Int32 → Int32 → Int32 → Int32 → Int32 → Int32 → Int32 → (Nat → Int32) → Option (Int32 × (Nat → Int32) × Int32 × Int32 × Int32 × Int32 × Int32 × Int32 × Int32 × Int32 × Int32 × Int32 × Int32 × Int32 × (Nat → Int32))) (v5 : Int32) (v7 : Int32) (v8 : Int32) (v9 : Int32) (k0 : Int32) (m_cell : Nat → Int32) (m_points : Int32) (m_fouls : Int32) (m_evening : Int32) (m_moving : Int32) (m_goes : Int32) (m_left : Int32) (m_touches : Int32) (m_cushions : Int32) (m_cushionsThen : Int32) (m_touchedFirst : Int32) (m_stepsThen : Int32) (m_downNow : Int32) (m_had : Nat → Int32) : Option (Int32 × (Nat → Int32) × Int32 × Int32 × Int32 × Int32 × Int32 × Int32 × Int32 × Int32 × Int32 × Int32 × Int32 × Int32 × (Nat → Int32)) := (if v9 = 0 then (k59c v5 k0 (v7 + (-1)) m_cell m_points m_fouls m_evening m_moving m_goes m_left m_touches m_cushions m_cushionsThen m_touchedFirst m_stepsThen m_downNow m_had) else (k59c v8 k0 (v7 + (-1)) m_cell m_points m_fouls m_evening m_moving m_goes m_left m_touches m_cushions m_cushionsThen m_touchedFirst m_stepsThen m_downNow m_had))
def fX3_hint_L106 (v1 : Int32) (v2 : Int32) (v3 : Int32) (v4 : Int32)  (k59c : Int32 → Int32 → Int32 → (Nat → Int32) → Int32 → Int32 → Int32 → Int32 → Int32 → Int32 → Int32 → Int32 → Int32 → Int32 → Int32 → Int32 → (Nat → Int32) → Option (Int32 × (Nat → Int32) × Int32 × Int32 × Int32 × Int32 × Int32 × Int32 × Int32 × Int32 × Int32 × Int32 × Int32 × Int32 × (Nat → Int32))) (v5 : Int32) (v6 : Int32) (v7 : Int32) (v8 : Int32) (k0 : Int32) (m_cell : Nat → Int32) (m_points : Int32) (m_fouls : Int32) (m_evening : Int32) (m_moving : Int32) (m_goes : Int32) (m_left : Int32) (m_touches : Int32) (m_cushions : Int32) (m_cushionsThen : Int32) (m_touchedFirst : Int32) (m_stepsThen : Int32) (m_downNow : Int32) (m_had : Nat → Int32) : Option (Int32 × (Nat → Int32) × Int32 × Int32 × Int32 × Int32 × Int32 × Int32 × Int32 × Int32 × Int32 × Int32 × Int32 × Int32 × (Nat → Int32)) := (if k0 = 0 then (fX3_hint_L120 v1 v2 v3 v4 k59c v5 v7 v8 k0 v6 m_cell m_points m_fouls m_evening m_moving m_goes m_left m_touches m_cushions m_cushionsThen m_touchedFirst m_stepsThen m_downNow m_had) else (fX3_hint_L120 v1 v2 v3 v4 k59c v5 v7 v8 k0 v7 m_cell m_points m_fouls m_evening m_moving m_goes m_left m_touches m_cushions m_cushionsThen m_touchedFirst m_stepsThen m_downNow m_had))
def fX3_hint_L59 (v1 : Int32) (v2 : Int32) (v3 : Int32) (v4 : Int32)   : Nat → Int32 → Int32 → Int32 → (Nat → Int32) → Int32 → Int32 → Int32 → Int32 → Int32 → Int32 → Int32 → Int32 → Int32 → Int32 → Int32 → Int32 → (Nat → Int32) → Option (Int32 × (Nat → Int32) × Int32 × Int32 × Int32 × Int32 × Int32 × Int32 × Int32 × Int32 × Int32 × Int32 × Int32 × Int32 × (Nat → Int32))
  | 0, _, _, _, _, _, _, _, _, _, _, _, _, _, _, _, _, _ => none
  | n + 1, v5, v6, v7, m_cell, m_points, m_fouls, m_evening, m_moving, m_goes, m_left, m_touches, m_cushions, m_cushionsThen, m_touchedFirst, m_stepsThen, m_downNow, m_had => (if v7 < 0 then (fX3_hint_L142 v1 v2 v3 v4 v5 v6 m_cell m_points m_fouls m_evening m_moving m_goes m_left m_touches m_cushions m_cushionsThen m_touchedFirst m_stepsThen m_downNow m_had) else (if bIn v1 3 then (if (m_cell v1.toNatClampNeg) < 0 then (fX3_hint_L142 v1 v2 v3 v4 v5 v6 m_cell m_points m_fouls m_evening m_moving m_goes m_left m_touches m_cushions m_cushionsThen m_touchedFirst m_stepsThen m_downNow m_had) else (Option.bind (fX3_stepsBy v1 v2 v3 v7 m_cell m_points m_fouls m_evening m_moving m_goes m_left m_touches m_cushions m_cushionsThen m_touchedFirst m_stepsThen m_downNow m_had) fun z3 => (if z3.1 < 0 then (fX3_hint_L106 v1 v2 v3 v4 (fun y0 y1 y2 y3 y4 y5 y6 y7 y8 y9 y10 y11 y12 y13 y14 y15 y16 => fX3_hint_L59 v1 v2 v3 v4 n y0 y1 y2 y3 y4 y5 y6 y7 y8 y9 y10 y11 y12 y13 y14 y15 y16) v5 v6 v7 z3.1 0 z3.2.1 z3.2.2.1 z3.2.2.2.1 z3.2.2.2.2.1 z3.2.2.2.2.2.1 z3.2.2.2.2.2.2.1 z3.2.2.2.2.2.2.2.1 z3.2.2.2.2.2.2.2.2.1 z3.2.2.2.2.2.2.2.2.2.1 z3.2.2.2.2.2.2.2.2.2.2.1 z3.2.2.2.2.2.2.2.2.2.2.2.1 z3.2.2.2.2.2.2.2.2.2.2.2.2.1 z3.2.2.2.2.2.2.2.2.2.2.2.2.2.1 z3.2.2.2.2.2.2.2.2.2.2.2.2.2.2) else (if v5 < 0 then (fX3_hint_L106 v1 v2 v3 v4 (fun y0 y1 y2 y3 y4 y5 y6 y7 y8 y9 y10 y11 y12 y13 y14 y15 y16 => fX3_hint_L59 v1 v2 v3 v4 n y0 y1 y2 y3 y4 y5 y6 y7 y8 y9 y10 y11 y12 y13 y14 y15 y16) v5 v6 v7 z3.1 1 z3.2.1 z3.2.2.1 z3.2.2.2.1 z3.2.2.2.2.1 z3.2.2.2.2.2.1 z3.2.2.2.2.2.2.1 z3.2.2.2.2.2.2.2.1 z3.2.2.2.2.2.2.2.2.1 z3.2.2.2.2.2.2.2.2.2.1 z3.2.2.2.2.2.2.2.2.2.2.1 z3.2.2.2.2.2.2.2.2.2.2.2.1 z3.2.2.2.2.2.2.2.2.2.2.2.2.1 z3.2.2.2.2.2.2.2.2.2.2.2.2.2.1 z3.2.2.2.2.2.2.2.2.2.2.2.2.2.2) else (if v5 < z3.1 then (fX3_hint_L106 v1 v2 v3 v4 (fun y0 y1 y2 y3 y4 y5 y6 y7 y8 y9 y10 y11 y12 y13 y14 y15 y16 => fX3_hint_L59 v1 v2 v3 v4 n y0 y1 y2 y3 y4 y5 y6 y7 y8 y9 y10 y11 y12 y13 y14 y15 y16) v5 v6 v7 z3.1 0 z3.2.1 z3.2.2.1 z3.2.2.2.1 z3.2.2.2.2.1 z3.2.2.2.2.2.1 z3.2.2.2.2.2.2.1 z3.2.2.2.2.2.2.2.1 z3.2.2.2.2.2.2.2.2.1 z3.2.2.2.2.2.2.2.2.2.1 z3.2.2.2.2.2.2.2.2.2.2.1 z3.2.2.2.2.2.2.2.2.2.2.2.1 z3.2.2.2.2.2.2.2.2.2.2.2.2.1 z3.2.2.2.2.2.2.2.2.2.2.2.2.2.1 z3.2.2.2.2.2.2.2.2.2.2.2.2.2.2) else (fX3_hint_L106 v1 v2 v3 v4 (fun y0 y1 y2 y3 y4 y5 y6 y7 y8 y9 y10 y11 y12 y13 y14 y15 y16 => fX3_hint_L59 v1 v2 v3 v4 n y0 y1 y2 y3 y4 y5 y6 y7 y8 y9 y10 y11 y12 y13 y14 y15 y16) v5 v6 v7 z3.1 1 z3.2.1 z3.2.2.1 z3.2.2.2.1 z3.2.2.2.2.1 z3.2.2.2.2.2.1 z3.2.2.2.2.2.2.1 z3.2.2.2.2.2.2.2.1 z3.2.2.2.2.2.2.2.2.1 z3.2.2.2.2.2.2.2.2.2.1 z3.2.2.2.2.2.2.2.2.2.2.1 z3.2.2.2.2.2.2.2.2.2.2.2.1 z3.2.2.2.2.2.2.2.2.2.2.2.2.1 z3.2.2.2.2.2.2.2.2.2.2.2.2.2.1 z3.2.2.2.2.2.2.2.2.2.2.2.2.2.2)))))) else none))
def fX3_hint (v1 : Int32) (v2 : Int32) (v3 : Int32) (v4 : Int32) (m_cell : Nat → Int32) (m_points : Int32) (m_fouls : Int32) (m_evening : Int32) (m_moving : Int32) (m_goes : Int32) (m_left : Int32) (m_touches : Int32) (m_cushions : Int32) (m_cushionsThen : Int32) (m_touchedFirst : Int32) (m_stepsThen : Int32) (m_downNow : Int32) (m_had : Nat → Int32) : Option (Int32 × (Nat → Int32) × Int32 × Int32 × Int32 × Int32 × Int32 × Int32 × Int32 × Int32 × Int32 × Int32 × Int32 × Int32 × (Nat → Int32)) := (if (fX3_isBall v1) = 0 then (some ((-1), m_cell, m_points, m_fouls, m_evening, m_moving, m_goes, m_left, m_touches, m_cushions, m_cushionsThen, m_touchedFirst, m_stepsThen, m_downNow, m_had)) else (if (fX3_isBall v2) = 0 then (some ((-1), m_cell, m_points, m_fouls, m_evening, m_moving, m_goes, m_left, m_touches, m_cushions, m_cushionsThen, m_touchedFirst, m_stepsThen, m_downNow, m_had)) else (if v1 = v2 then (some ((-1), m_cell, m_points, m_fouls, m_evening, m_moving, m_goes, m_left, m_touches, m_cushions, m_cushionsThen, m_touchedFirst, m_stepsThen, m_downNow, m_had)) else (if (fX3_in (v3.toInt64) 0 4) = 0 then (some ((-2), m_cell, m_points, m_fouls, m_evening, m_moving, m_goes, m_left, m_touches, m_cushions, m_cushionsThen, m_touchedFirst, m_stepsThen, m_downNow, m_had)) else (if (fX3_in (v4.toInt64) 0 1) = 0 then (some ((-2), m_cell, m_points, m_fouls, m_evening, m_moving, m_goes, m_left, m_touches, m_cushions, m_cushionsThen, m_touchedFirst, m_stepsThen, m_downNow, m_had)) else (fX3_hint_L59 v1 v2 v3 v4 FU (-6) (-6) 7 m_cell m_points m_fouls m_evening m_moving m_goes m_left m_touches m_cushions m_cushionsThen m_touchedFirst m_stepsThen m_downNow m_had))))))
def fX3_metMany_L54 (v1 : Int32)  (k28c : Int32 → Int32 → Int32 → (Nat → Int32) → Option (Int32 × (Nat → Int32))) (v2 : Int32) (v4 : Int32) (k0 : Int32) (k1 : Int32) (m_met : Nat → Int32) : Option (Int32 × (Nat → Int32)) := (if bIn (v2 / 10) 45 then (k28c (fX3_next v2) (k0 + k1) (v4 + 1) (upd m_met (v2 / 10).toNatClampNeg (vp_nar .boolean 1))) else none)
def fX3_metMany_L28 (v1 : Int32)   : Nat → Int32 → Int32 → Int32 → (Nat → Int32) → Option (Int32 × (Nat → Int32))
  | 0, _, _, _, _ => none
  | n + 1, v2, v3, v4, m_met => (if (400 : Int32) ≤ v4 then (some (v3, m_met)) else (if bIn (v2 / 10) 45 then (if (m_met (v2 / 10).toNatClampNeg) = 0 then (fX3_metMany_L54 v1 (fun y0 y1 y2 y3 => fX3_metMany_L28 v1 n y0 y1 y2 y3) v2 v4 v3 1 m_met) else (fX3_metMany_L54 v1 (fun y0 y1 y2 y3 => fX3_metMany_L28 v1 n y0 y1 y2 y3) v2 v4 v3 0 m_met)) else none))
def fX3_metMany_L2 (v1 : Int32)   : Nat → Int32 → (Nat → Int32) → Option (Int32 × (Nat → Int32))
  | 0, _, _ => none
  | n + 1, v2, m_met => (if (45 : Int32) ≤ v2 then (fX3_metMany_L28 v1 FU v1 0 0 m_met) else (if bIn v2 45 then (fX3_metMany_L2 v1 n (v2 + 1) (upd m_met v2.toNatClampNeg (vp_nar .boolean 0))) else none))
def fX3_metMany (v1 : Int32) (m_met : Nat → Int32) : Option (Int32 × (Nat → Int32)) := (fX3_metMany_L2 v1 FU 0 m_met)
def fX3_alone (v1 : Int32) (v2 : Int32) (v3 : Int32) (v4 : Int32) (m_met : Nat → Int32) : Option (Int32 × (Nat → Int32)) := (if (fX3_isPlace v1) = 0 then (some ((-1), m_met)) else (if (fX3_in (v2.toInt64) 0 7) = 0 then (some ((-2), m_met)) else (if (fX3_in (v3.toInt64) 0 99999) = 0 then (some ((-2), m_met)) else (if (fX3_in (v4.toInt64) 0 2) = 0 then (some ((-2), m_met)) else (if v4 = 0 then (Option.bind (fX3_behindSteps (((10 : Int32) * v1) + v2) v3) fun z4 => (some ((z4 / 10), m_met))) else (if v4 = 1 then (Option.bind (fX3_stepsBack (((10 : Int32) * v1) + v2)) fun z2 => (some (z2, m_met))) else (Option.bind (fX3_metMany (((10 : Int32) * v1) + v2) m_met) fun z1 => (some (z1.1, z1.2)))))))))
def fX3_leadsTo_L17 (v1 : Int32) (v2 : Int32) (v3 : Int32) (m_far : Nat → Int32)  : Nat → Int32 → Int32 → Int32 → Int32 → Option (Int32)
  | 0, _, _, _, _ => none
  | n + 1, v4, v5, v6, v7 => (if (9 : Int32) < v7 then (if v5 = 0 ∨ v5 = 1 then (some v5) else none) else (if v6 = 0 then (if v5 = 0 then (if (fX3_isPocket ((fX3_next v4) / 10)) = 0 then (if bIn ((fX3_next v4) / 10) 45 then (if (m_far ((fX3_next v4) / 10).toNatClampNeg) = v3 then (fX3_leadsTo_L17 v1 v2 v3 m_far n (fX3_next v4) 1 (fX3_isPocket ((fX3_next v4) / 10)) (v7 + 1)) else (fX3_leadsTo_L17 v1 v2 v3 m_far n (fX3_next v4) 0 (fX3_isPocket ((fX3_next v4) / 10)) (v7 + 1))) else none) else (fX3_leadsTo_L17 v1 v2 v3 m_far n (fX3_next v4) 0 (fX3_isPocket ((fX3_next v4) / 10)) (v7 + 1))) else (fX3_leadsTo_L17 v1 v2 v3 m_far n (fX3_next v4) 1 (fX3_isPocket ((fX3_next v4) / 10)) (v7 + 1))) else (if v5 = 0 ∨ v5 = 1 then (some v5) else none)))
def fX3_leadsTo (v1 : Int32) (v2 : Int32) (v3 : Int32) (m_far : Nat → Int32) : Option (Int32) := (fX3_leadsTo_L17 v1 v2 v3 m_far FU (((10 : Int32) * v1) + v2) 0 0 1)
def fX3_wayTo_L7 (v1 : Int32) (v2 : Int32) (m_far : Nat → Int32)  : Nat → Int32 → Int32 → Option (Int32)
  | 0, _, _ => none
  | n + 1, v3, v4 => (if v4 < 0 then (some v3) else (Option.bind (fX3_leadsTo v1 v4 v2 m_far) fun z1 => (if z1 = 0 then (fX3_wayTo_L7 v1 v2 m_far n v3 (v4 + (-1))) else (fX3_wayTo_L7 v1 v2 m_far n v4 (v4 + (-1))))))
def fX3_wayTo (v1 : Int32) (v2 : Int32) (m_far : Nat → Int32) : Option (Int32) := (fX3_wayTo_L7 v1 v2 m_far FU (-6) 7)
def fX3_findFar_L64 (v1 : Int32)  (k4c : Int32 → Int32 → (Nat → Int32) → Option (Int32 × (Nat → Int32))) (v2 : Int32) (v3 : Int32) (v4 : Int32) (k1 : Int32) (k2 : Int32) (m_far : Nat → Int32) : Option (Int32 × (Nat → Int32)) := (if bIn k1 45 then (if v2 = 0 then (if v4 = 0 then (k4c 0 (v3 + 1) (upd m_far k1.toNatClampNeg k2)) else (k4c 1 (v3 + 1) (upd m_far k1.toNatClampNeg k2))) else (k4c 1 (v3 + 1) (upd m_far k1.toNatClampNeg k2))) else none)
def fX3_findFar_L42 (v1 : Int32)  (k4c : Int32 → Int32 → (Nat → Int32) → Option (Int32 × (Nat → Int32))) (v2 : Int32) (v3 : Int32) (k0 : Int32) (m_far : Nat → Int32) : Option (Int32 × (Nat → Int32)) := (if k0 = 0 then (if bIn v3 45 then (fX3_findFar_L64 v1 k4c v2 v3 k0 v3 (m_far v3.toNatClampNeg) m_far) else none) else (fX3_findFar_L64 v1 k4c v2 v3 k0 v3 v1 m_far))
def fX3_findFar_L4 (v1 : Int32)   : Nat → Int32 → Int32 → (Nat → Int32) → Option (Int32 × (Nat → Int32))
  | 0, _, _, _ => none
  | n + 1, v2, v3, m_far => (if (45 : Int32) ≤ v3 then (if v2 = 0 ∨ v2 = 1 then (some (v2, m_far)) else none) else (if bIn v3 45 then (if (0 : Int32) ≤ (m_far v3.toNatClampNeg) then (fX3_findFar_L42 v1 (fun y0 y1 y2 => fX3_findFar_L4 v1 n y0 y1 y2) v2 v3 0 m_far) else (if (fX3_isPocket v3) = 0 then (Option.bind (fX3_wayTo v3 (v1 - 1) m_far) fun z8 => (if z8 < 0 then (fX3_findFar_L42 v1 (fun y0 y1 y2 => fX3_findFar_L4 v1 n y0 y1 y2) v2 v3 0 m_far) else (fX3_findFar_L42 v1 (fun y0 y1 y2 => fX3_findFar_L4 v1 n y0 y1 y2) v2 v3 1 m_far))) else (fX3_findFar_L42 v1 (fun y0 y1 y2 => fX3_findFar_L4 v1 n y0 y1 y2) v2 v3 0 m_far))) else none))
def fX3_findFar (v1 : Int32) (m_far : Nat → Int32) : Option (Int32 × (Nat → Int32)) := (fX3_findFar_L4 v1 FU 0 0 m_far)
def fX3_strokes_L70 (v1 : Int32) (v2 : Int32) (v3 : Int32)   : Nat → Int32 → Int32 → (Nat → Int32) → Option (Int32 × (Nat → Int32))
  | 0, _, _, _ => none
  | n + 1, v4, v5, m_far => (if v4 = 0 then (if v3 = 0 then (if bIn v1 45 then (some ((m_far v1.toNatClampNeg), m_far)) else none) else (if bIn v1 45 then (if (1 : Int32) ≤ (m_far v1.toNatClampNeg) then (if bIn v1 45 then (Option.bind (fX3_wayTo v1 ((m_far v1.toNatClampNeg) - 1) m_far) fun z3 => (some (z3, m_far))) else none) else (some ((-6), m_far))) else none)) else (Option.bind (fX3_findFar v5 m_far) fun z7 => (fX3_strokes_L70 v1 v2 v3 n z7.1 (v5 + 1) z7.2)))
def fX3_strokes_L32 (v1 : Int32) (v2 : Int32) (v3 : Int32)   : Nat → Int32 → (Nat → Int32) → Option (Int32 × (Nat → Int32))
  | 0, _, _ => none
  | n + 1, v4, m_far => (if (45 : Int32) ≤ v4 then (fX3_strokes_L70 v1 v2 v3 FU 1 1 m_far) else (if v4 = v2 then (if bIn v4 45 then (fX3_strokes_L32 v1 v2 v3 n (v4 + 1) (upd m_far v4.toNatClampNeg 0)) else none) else (if bIn v4 45 then (fX3_strokes_L32 v1 v2 v3 n (v4 + 1) (upd m_far v4.toNatClampNeg (-6))) else none)))
def fX3_strokes (v1 : Int32) (v2 : Int32) (v3 : Int32) (m_far : Nat → Int32) : Option (Int32 × (Nat → Int32)) := (if (fX3_isPlace v1) = 0 then (some ((-1), m_far)) else (if (fX3_isPlace v2) = 0 then (some ((-1), m_far)) else (if (fX3_in (v3.toInt64) 0 1) = 0 then (some ((-2), m_far)) else (fX3_strokes_L32 v1 v2 v3 FU 0 m_far))))
def fX3_seen (v1 : Int32) (v2 : Int32) (m_sightStep : Nat → Int32) (m_sightCell : Nat → Int32) (m_sights : Int32) : Option (Int32 × (Nat → Int32) × (Nat → Int32) × Int32) := (if (fX3_isCell v2) = 0 then (some ((-1), m_sightStep, m_sightCell, m_sights)) else (if (fX3_in (v1.toInt64) 0 60) = 0 then (some ((-2), m_sightStep, m_sightCell, m_sights)) else (if m_sights = 8 then (some ((-4), m_sightStep, m_sightCell, m_sights)) else (if bIn m_sights 8 then (if bIn m_sights 8 then (some ((m_sights + 1), (upd m_sightStep m_sights.toNatClampNeg v1), (upd m_sightCell m_sights.toNatClampNeg v2), (m_sights + 1))) else none) else none))))
def fX3_forget  (m_sights : Int32) : Option (Int32 × Int32) := (some (m_sights, 0))
def fX3_isFit_L27 (v1 : Int32) (m_sightStep : Nat → Int32) (m_sightCell : Nat → Int32) (m_sights : Int32)  : Nat → Int32 → Int32 → Option (Int32)
  | 0, _, _ => none
  | n + 1, v2, v3 => (if m_sights ≤ v3 then (if v2 = 0 ∨ v2 = 1 then (some v2) else none) else (if v2 = 0 then (if v2 = 0 ∨ v2 = 1 then (some v2) else none) else (if bIn v3 8 then (Option.bind (fX3_behindSteps v1 (m_sightStep v3.toNatClampNeg)) fun z4 => (if bIn v3 8 then (if (z4 / 10) = (m_sightCell v3.toNatClampNeg) then (fX3_isFit_L27 v1 m_sightStep m_sightCell m_sights n 1 (v3 + 1)) else (fX3_isFit_L27 v1 m_sightStep m_sightCell m_sights n 0 (v3 + 1))) else none)) else none)))
def fX3_isFit (v1 : Int32) (m_sightStep : Nat → Int32) (m_sightCell : Nat → Int32) (m_sights : Int32) : Option (Int32) := (if (8 : Int32) ≤ (v1 - v1 / 10 * 10) then (fX3_isFit_L27 v1 m_sightStep m_sightCell m_sights FU 0 0) else (if (fX3_isPocket (v1 / 10)) = 0 then (fX3_isFit_L27 v1 m_sightStep m_sightCell m_sights FU 1 0) else (fX3_isFit_L27 v1 m_sightStep m_sightCell m_sights FU 0 0)))
def fX3_findFits_L7  (m_sightStep : Nat → Int32) (m_sightCell : Nat → Int32) (m_sights : Int32)  : Nat → Int32 → (Nat → Int32) → (Nat → Int32) → Int32 → Option ((Nat → Int32) × (Nat → Int32) × Int32)
  | 0, _, _, _, _ => none
  | n + 1, v1, m_fit, m_now, m_fitMany => (if (450 : Int32) ≤ v1 then (some (m_fit, m_now, m_fitMany)) else (Option.bind (fX3_isFit v1 m_sightStep m_sightCell m_sights) fun z1 => (if z1 = 0 then (fX3_findFits_L7 m_sightStep m_sightCell m_sights n (v1 + 1) m_fit m_now m_fitMany) else (if bIn m_fitMany 360 then (if bIn m_fitMany 360 then (fX3_findFits_L7 m_sightStep m_sightCell m_sights n (v1 + 1) (upd m_fit m_fitMany.toNatClampNeg v1) (upd m_now m_fitMany.toNatClampNeg v1) (m_fitMany + 1)) else none) else none))))
def fX3_findFits  (m_sightStep : Nat → Int32) (m_sightCell : Nat → Int32) (m_sights : Int32) (m_fit : Nat → Int32) (m_now : Nat → Int32) (m_fitMany : Int32) : Option ((Nat → Int32) × (Nat → Int32) × Int32) := (fX3_findFits_L7 m_sightStep m_sightCell m_sights FU 0 m_fit m_now 0)
def fX3_sent (v1 : Int32) (m_sightStep : Nat → Int32) (m_sightCell : Nat → Int32) (m_sights : Int32) (m_fit : Nat → Int32) (m_now : Nat → Int32) (m_fitMany : Int32) : Option (Int32 × (Nat → Int32) × (Nat → Int32) × Int32) := (Option.bind (fX3_findFits m_sightStep m_sightCell m_sights m_fit m_now m_fitMany) fun z1 => (if v1 = (-1) then (some (z1.2.2, z1.1, z1.2.1, z1.2.2)) else (if (fX3_in (v1.toInt64) 0 ((z1.2.2 - 1).toInt64)) = 0 then (some ((-6), z1.1, z1.2.1, z1.2.2)) else (if bIn v1 360 then (some ((z1.1 v1.toNatClampNeg), z1.1, z1.2.1, z1.2.2)) else none))))
def fX3_mostNow_L73  (m_fitMany : Int32) (k25c : Int32 → Int32 → (Nat → Int32) → (Nat → Int32) → Option (Int32 × (Nat → Int32) × (Nat → Int32))) (v2 : Int32) (k0 : Int32) (m_now : Nat → Int32) (m_byCell : Nat → Int32) : Option (Int32 × (Nat → Int32) × (Nat → Int32)) := (if bIn v2 360 then (if bIn v2 360 then (k25c k0 (v2 + 1) (upd m_now v2.toNatClampNeg (fX3_next (m_now v2.toNatClampNeg))) m_byCell) else none) else none)
def fX3_mostNow_L25  (m_fitMany : Int32)  : Nat → Int32 → Int32 → (Nat → Int32) → (Nat → Int32) → Option (Int32 × (Nat → Int32) × (Nat → Int32))
  | 0, _, _, _, _ => none
  | n + 1, v1, v2, m_now, m_byCell => (if m_fitMany ≤ v2 then (some (v1, m_now, m_byCell)) else (if bIn v2 360 then (if bIn ((m_now v2.toNatClampNeg) / 10) 45 then (if bIn ((m_now v2.toNatClampNeg) / 10) 45 then (if bIn ((m_now v2.toNatClampNeg) / 10) 45 then (if ((upd m_byCell ((m_now v2.toNatClampNeg) / 10).toNatClampNeg ((m_byCell ((m_now v2.toNatClampNeg) / 10).toNatClampNeg) + 1)) ((m_now v2.toNatClampNeg) / 10).toNatClampNeg) ≤ v1 then (fX3_mostNow_L73 m_fitMany (fun y0 y1 y2 y3 => fX3_mostNow_L25 m_fitMany n y0 y1 y2 y3) v2 v1 m_now (upd m_byCell ((m_now v2.toNatClampNeg) / 10).toNatClampNeg ((m_byCell ((m_now v2.toNatClampNeg) / 10).toNatClampNeg) + 1))) else (if bIn ((m_now v2.toNatClampNeg) / 10) 45 then (fX3_mostNow_L73 m_fitMany (fun y0 y1 y2 y3 => fX3_mostNow_L25 m_fitMany n y0 y1 y2 y3) v2 ((upd m_byCell ((m_now v2.toNatClampNeg) / 10).toNatClampNeg ((m_byCell ((m_now v2.toNatClampNeg) / 10).toNatClampNeg) + 1)) ((m_now v2.toNatClampNeg) / 10).toNatClampNeg) m_now (upd m_byCell ((m_now v2.toNatClampNeg) / 10).toNatClampNeg ((m_byCell ((m_now v2.toNatClampNeg) / 10).toNatClampNeg) + 1))) else none)) else none) else none) else none) else none))
def fX3_mostNow_L4  (m_fitMany : Int32)  : Nat → Int32 → Int32 → (Nat → Int32) → (Nat → Int32) → Option (Int32 × (Nat → Int32) × (Nat → Int32))
  | 0, _, _, _, _ => none
  | n + 1, v1, v2, m_now, m_byCell => (if (45 : Int32) ≤ v2 then (fX3_mostNow_L25 m_fitMany FU v1 0 m_now m_byCell) else (if bIn v2 45 then (fX3_mostNow_L4 m_fitMany n v1 (v2 + 1) m_now (upd m_byCell v2.toNatClampNeg 0)) else none))
def fX3_mostNow  (m_now : Nat → Int32) (m_fitMany : Int32) (m_byCell : Nat → Int32) : Option (Int32 × (Nat → Int32) × (Nat → Int32)) := (fX3_mostNow_L4 m_fitMany FU 0 0 m_now m_byCell)
def fX3_ask_L82 (v1 : Int32) (m_sightStep : Nat → Int32) (m_sightCell : Nat → Int32) (m_sights : Int32)  (v2 : Int32) (v3 : Int32) (m_fit : Nat → Int32) (m_now : Nat → Int32) (m_fitMany : Int32) (m_byCell : Nat → Int32) : Option (Int32 × (Nat → Int32) × (Nat → Int32) × Int32 × (Nat → Int32)) := (if v2 < 0 then (some (v2, m_fit, m_now, m_fitMany, m_byCell)) else (if v1 = 0 then (some (v2, m_fit, m_now, m_fitMany, m_byCell)) else (some (v3, m_fit, m_now, m_fitMany, m_byCell))))
def fX3_ask_L62 (v1 : Int32) (m_sightStep : Nat → Int32) (m_sightCell : Nat → Int32) (m_sights : Int32) (k30c : Int32 → Int32 → Int32 → (Nat → Int32) → (Nat → Int32) → Int32 → (Nat → Int32) → Option (Int32 × (Nat → Int32) × (Nat → Int32) × Int32 × (Nat → Int32))) (v3 : Int32) (v4 : Int32) (v5 : Int32) (k0 : Int32) (m_fit : Nat → Int32) (m_now : Nat → Int32) (m_fitMany : Int32) (m_byCell : Nat → Int32) : Option (Int32 × (Nat → Int32) × (Nat → Int32) × Int32 × (Nat → Int32)) := (if v3 ≤ v5 then (k30c k0 v3 (v4 + 1) m_fit m_now m_fitMany m_byCell) else (k30c k0 v5 (v4 + 1) m_fit m_now m_fitMany m_byCell))
def fX3_ask_L30 (v1 : Int32) (m_sightStep : Nat → Int32) (m_sightCell : Nat → Int32) (m_sights : Int32)  : Nat → Int32 → Int32 → Int32 → (Nat → Int32) → (Nat → Int32) → Int32 → (Nat → Int32) → Option (Int32 × (Nat → Int32) × (Nat → Int32) × Int32 × (Nat → Int32))
  | 0, _, _, _, _, _, _, _ => none
  | n + 1, v2, v3, v4, m_fit, m_now, m_fitMany, m_byCell => (if (60 : Int32) < v4 then (fX3_ask_L82 v1 m_sightStep m_sightCell m_sights v2 v3 m_fit m_now m_fitMany m_byCell) else (if m_fitMany ≤ 0 then (fX3_ask_L82 v1 m_sightStep m_sightCell m_sights v2 v3 m_fit m_now m_fitMany m_byCell) else (Option.bind (fX3_mostNow m_now m_fitMany m_byCell) fun z4 => (if v3 ≤ z4.1 then (fX3_ask_L62 v1 m_sightStep m_sightCell m_sights (fun y0 y1 y2 y3 y4 y5 y6 => fX3_ask_L30 v1 m_sightStep m_sightCell m_sights n y0 y1 y2 y3 y4 y5 y6) v3 v4 z4.1 v2 m_fit z4.2.1 m_fitMany z4.2.2) else (fX3_ask_L62 v1 m_sightStep m_sightCell m_sights (fun y0 y1 y2 y3 y4 y5 y6 => fX3_ask_L30 v1 m_sightStep m_sightCell m_sights n y0 y1 y2 y3 y4 y5 y6) v3 v4 z4.1 v4 m_fit z4.2.1 m_fitMany z4.2.2)))))
def fX3_ask (v1 : Int32) (m_sightStep : Nat → Int32) (m_sightCell : Nat → Int32) (m_sights : Int32) (m_fit : Nat → Int32) (m_now : Nat → Int32) (m_fitMany : Int32) (m_byCell : Nat → Int32) : Option (Int32 × (Nat → Int32) × (Nat → Int32) × Int32 × (Nat → Int32)) := (if (fX3_in (v1.toInt64) 0 1) = 0 then (some ((-2), m_fit, m_now, m_fitMany, m_byCell)) else (Option.bind (fX3_findFits m_sightStep m_sightCell m_sights m_fit m_now m_fitMany) fun z1 => (fX3_ask_L30 v1 m_sightStep m_sightCell m_sights FU (-6) (z1.2.2 + 1) 0 z1.1 z1.2.1 z1.2.2 m_byCell)))
def fX3_leastTake_L44 (v1 : Int32) (v2 : Int32) (m_wins : Nat → Int32) (k31c : Int32 → Int32 → Option (Int32)) : Nat → Int32 → Int32 → Int32 → Option (Int32)
  | 0, _, _, _ => none
  | n + 1, v3, v4, v5 => (if v5 ≤ 0 then (k31c v3 (v4 + (-1))) else (if bIn (((2 : Int32) * (v1 - (v5 * (fX3_tenTo v4)))) + v2) 2000 then (if (m_wins (((2 : Int32) * (v1 - (v5 * (fX3_tenTo v4)))) + v2).toNatClampNeg) = 0 then (fX3_leastTake_L44 v1 v2 m_wins k31c n (((10 : Int32) * v4) + v5) v4 (v5 + (-1))) else (fX3_leastTake_L44 v1 v2 m_wins k31c n v3 v4 (v5 + (-1)))) else none))
def fX3_leastTake_L31 (v1 : Int32) (v2 : Int32) (m_wins : Nat → Int32)  : Nat → Int32 → Int32 → Option (Int32)
  | 0, _, _ => none
  | n + 1, v3, v4 => (if v4 < 0 then (some v3) else (fX3_leastTake_L44 v1 v2 m_wins (fun y0 y1 => fX3_leastTake_L31 v1 v2 m_wins n y0 y1) FU v3 v4 (fX3_digit v1 v4)))
def fX3_leastTake (v1 : Int32) (v2 : Int32) (m_wins : Nat → Int32) : Option (Int32) := (if v2 = 1 then (if v1 ≤ 0 then (fX3_leastTake_L31 v1 v2 m_wins FU (-6) 2) else (if bIn ((2 : Int32) * v1) 2000 then (if (m_wins ((2 : Int32) * v1).toNatClampNeg) = 0 then (fX3_leastTake_L31 v1 v2 m_wins FU 99 2) else (fX3_leastTake_L31 v1 v2 m_wins FU (-6) 2)) else none)) else (fX3_leastTake_L31 v1 v2 m_wins FU (-6) 2))
def fX3_chalk_L67 (v1 : Int32) (v2 : Int32) (v3 : Int32)  (k38c : Int32 → (Nat → Int32) → Option (Int32 × (Nat → Int32))) (v4 : Int32) (k1 : Int32) (k2 : Int32) (m_wins : Nat → Int32) : Option (Int32 × (Nat → Int32)) := (if bIn k1 2000 then (Option.bind (fX3_leastTake v4 1 (upd m_wins k1.toNatClampNeg (vp_nar .boolean k2))) fun z6 => (if z6 < 0 then (if bIn (((2 : Int32) * v4) + 1) 2000 then (k38c (v4 + 1) (upd (upd m_wins k1.toNatClampNeg (vp_nar .boolean k2)) (((2 : Int32) * v4) + 1).toNatClampNeg (vp_nar .boolean 0))) else none) else (if bIn (((2 : Int32) * v4) + 1) 2000 then (k38c (v4 + 1) (upd (upd m_wins k1.toNatClampNeg (vp_nar .boolean k2)) (((2 : Int32) * v4) + 1).toNatClampNeg (vp_nar .boolean 1))) else none))) else none)
def fX3_chalk_L38 (v1 : Int32) (v2 : Int32) (v3 : Int32)   : Nat → Int32 → (Nat → Int32) → Option (Int32 × (Nat → Int32))
  | 0, _, _ => none
  | n + 1, v4, m_wins => (if v1 < v4 then (Option.bind (fX3_leastTake v1 v2 m_wins) fun z1 => (if v3 = 1 then (some (z1, m_wins)) else (if (0 : Int32) ≤ z1 then (some (1, m_wins)) else (some (0, m_wins))))) else (Option.bind (fX3_leastTake v4 0 m_wins) fun z4 => (if z4 < 0 then (fX3_chalk_L67 v1 v2 v3 (fun y0 y1 => fX3_chalk_L38 v1 v2 v3 n y0 y1) v4 ((2 : Int32) * v4) 0 m_wins) else (fX3_chalk_L67 v1 v2 v3 (fun y0 y1 => fX3_chalk_L38 v1 v2 v3 n y0 y1) v4 ((2 : Int32) * v4) 1 m_wins))))
def fX3_chalk (v1 : Int32) (v2 : Int32) (v3 : Int32) (m_wins : Nat → Int32) : Option (Int32 × (Nat → Int32)) := (if (fX3_in (v1.toInt64) 0 999) = 0 then (some ((-2), m_wins)) else (if (fX3_in (v2.toInt64) 0 1) = 0 then (some ((-2), m_wins)) else (if (fX3_in (v3.toInt64) 0 1) = 0 then (some ((-2), m_wins)) else (fX3_chalk_L38 v1 v2 v3 FU 0 m_wins))))
def fX3_findChance_L53 (v1 : Int32) (v2 : Int32) (v3 : Int32) (v4 : Int32)  (k43c : Int32 → (Nat → Int64) → Option ((Nat → Int64))) : Nat → Int32 → Int32 → (Nat → Int64) → Option ((Nat → Int64))
  | 0, _, _, _ => none
  | n + 1, v5, v6, m_chance => (if v1 ≤ v6 then (k43c (v5 + 1) m_chance) else (if bIn (((9 : Int32) * (v5 + 1)) + v6) 81 then (if bIn (((9 : Int32) * v5) + v6) 81 then (if bIn (((9 : Int32) * (v5 + 1)) + v6) 81 then (if bIn ((((9 : Int32) * v5) + v6) + 1) 81 then (if bIn (((9 : Int32) * v5) + v6) 81 then (if bIn ((((9 : Int32) * v5) + v6) + 1) 81 then (fX3_findChance_L53 v1 v2 v3 v4 k43c n v5 (v6 + 1) (vp_updL (vp_updL m_chance (((9 : Int32) * (v5 + 1)) + v6).toNatClampNeg ((m_chance (((9 : Int32) * (v5 + 1)) + v6).toNatClampNeg) + ((v2.toInt64) * (m_chance (((9 : Int32) * v5) + v6).toNatClampNeg)))) ((((9 : Int32) * v5) + v6) + 1).toNatClampNeg (((vp_updL m_chance (((9 : Int32) * (v5 + 1)) + v6).toNatClampNeg ((m_chance (((9 : Int32) * (v5 + 1)) + v6).toNatClampNeg) + ((v2.toInt64) * (m_chance (((9 : Int32) * v5) + v6).toNatClampNeg)))) ((((9 : Int32) * v5) + v6) + 1).toNatClampNeg) + (((10 : Int64) - (v2.toInt64)) * ((vp_updL m_chance (((9 : Int32) * (v5 + 1)) + v6).toNatClampNeg ((m_chance (((9 : Int32) * (v5 + 1)) + v6).toNatClampNeg) + ((v2.toInt64) * (m_chance (((9 : Int32) * v5) + v6).toNatClampNeg)))) (((9 : Int32) * v5) + v6).toNatClampNeg))))) else none) else none) else none) else none) else none) else none))
def fX3_findChance_L43 (v1 : Int32) (v2 : Int32) (v3 : Int32) (v4 : Int32)   : Nat → Int32 → (Nat → Int64) → Option ((Nat → Int64))
  | 0, _, _ => none
  | n + 1, v5, m_chance => (if v1 ≤ v5 then (some m_chance) else (fX3_findChance_L53 v1 v2 v3 v4 (fun y0 y1 => fX3_findChance_L43 v1 v2 v3 v4 n y0 y1) FU v5 v4 m_chance))
def fX3_findChance_L3 (v1 : Int32) (v2 : Int32) (v3 : Int32) (v4 : Int32)   : Nat → Int32 → (Nat → Int64) → Option ((Nat → Int64))
  | 0, _, _ => none
  | n + 1, v5, m_chance => (if (81 : Int32) ≤ v5 then (fX3_findChance_L43 v1 v2 v3 v4 FU v3 m_chance) else (if v5 = (((9 : Int32) * v3) + v4) then (if bIn v5 81 then (fX3_findChance_L3 v1 v2 v3 v4 n (v5 + 1) (vp_updL m_chance v5.toNatClampNeg 1)) else none) else (if bIn v5 81 then (fX3_findChance_L3 v1 v2 v3 v4 n (v5 + 1) (vp_updL m_chance v5.toNatClampNeg 0)) else none)))
def fX3_findChance (v1 : Int32) (v2 : Int32) (v3 : Int32) (v4 : Int32) (m_chance : Nat → Int64) : Option ((Nat → Int64)) := (fX3_findChance_L3 v1 v2 v3 v4 FU 0 m_chance)
def fX3_match_L196 (v1 : Int32) (v2 : Int32) (v3 : Int32) (v4 : Int32) (v5 : Int32) (v6 : Int32)   : Nat → Int32 → Int64 → Int64 → Int32 → (Nat → Int64) → Option (Int64 × (Nat → Int64))
  | 0, _, _, _, _, _ => none
  | n + 1, v7, v8, v10, v12, m_chance => (if v1 ≤ v12 then (if v5 = 0 then (Option.bind (fX3_power 10 v7) fun z4 => (Option.bind (fX3_lowest v8 z4 v6) fun z5 => (some (z5, m_chance)))) else (Option.bind (fX3_power 10 v7) fun z2 => (Option.bind (fX3_lowest v10 z2 v6) fun z3 => (some (z3, m_chance))))) else (if bIn (((9 : Int32) * v12) + v1) 81 then (Option.bind (fX3_power 10 (v7 - (((v12 - v3) + v1) - v4))) fun z8 => (fX3_match_L196 v1 v2 v3 v4 v5 v6 n v7 v8 (v10 + ((((((v12 - v3) + v1) - v4).toInt64) * (m_chance (((9 : Int32) * v12) + v1).toNatClampNeg)) * z8)) (v12 + 1) m_chance)) else none))
def fX3_match_L108 (v1 : Int32) (v2 : Int32) (v3 : Int32) (v4 : Int32) (v5 : Int32) (v6 : Int32)   : Nat → Int32 → Int64 → Int64 → Int32 → (Nat → Int64) → Option (Int64 × (Nat → Int64))
  | 0, _, _, _, _, _ => none
  | n + 1, v7, v8, v10, v12, m_chance => (if v1 ≤ v12 then (fX3_match_L196 v1 v2 v3 v4 v5 v6 FU v7 v8 v10 v3 m_chance) else (if bIn (((9 : Int32) * v1) + v12) 81 then (Option.bind (fX3_power 10 (v7 - (((v1 - v3) + v12) - v4))) fun z11 => (if bIn (((9 : Int32) * v1) + v12) 81 then (Option.bind (fX3_power 10 (v7 - (((v1 - v3) + v12) - v4))) fun z13 => (fX3_match_L108 v1 v2 v3 v4 v5 v6 n v7 (v8 + ((m_chance (((9 : Int32) * v1) + v12).toNatClampNeg) * z11)) (v10 + ((((((v1 - v3) + v12) - v4).toInt64) * (m_chance (((9 : Int32) * v1) + v12).toNatClampNeg)) * z13)) (v12 + 1) m_chance)) else none)) else none))
def fX3_match (v1 : Int32) (v2 : Int32) (v3 : Int32) (v4 : Int32) (v5 : Int32) (v6 : Int32) (m_chance : Nat → Int64) : Option (Int64 × (Nat → Int64)) := (if (fX3_in (v1.toInt64) 1 8) = 0 then (some ((-1000000000000000002), m_chance)) else (if (fX3_in (v2.toInt64) 0 10) = 0 then (some ((-1000000000000000002), m_chance)) else (if (fX3_in (v3.toInt64) 0 ((v1 - 1).toInt64)) = 0 then (some ((-1000000000000000002), m_chance)) else (if (fX3_in (v4.toInt64) 0 ((v1 - 1).toInt64)) = 0 then (some ((-1000000000000000002), m_chance)) else (if (fX3_in (v5.toInt64) 0 1) = 0 then (some ((-1000000000000000002), m_chance)) else (if (fX3_in (v6.toInt64) 0 1) = 0 then (some ((-1000000000000000002), m_chance)) else (Option.bind (fX3_findChance v1 v2 v3 v4 m_chance) fun z1 => (fX3_match_L108 v1 v2 v3 v4 v5 v6 FU ((((v1 - v3) + v1) - v4) - 1) 0 0 v4 z1))))))))
def fX3_season_L49 (v1 : Int32) (v2 : Int32) (v3 : Int32)   : Nat → Int32 → Int32 → (Nat → Int32) → Int32 → Int32 → Int32 → Int32 → Int32 → Int32 → Int32 → Int32 → Int32 → Int32 → Int32 → Int32 → Int32 → Int32 → (Nat → Int32) → (Nat → Int32) → Option (Int32 × (Nat → Int32) × Int32 × Int32 × Int32 × Int32 × Int32 × Int32 × Int32 × Int32 × Int32 × Int32 × Int32 × Int32 × Int32 × Int32 × (Nat → Int32) × (Nat → Int32))
  | 0, _, _, _, _, _, _, _, _, _, _, _, _, _, _, _, _, _, _, _ => none
  | n + 1, v4, v5, m_cell, m_points, m_fouls, m_evening, m_moving, m_goes, m_left, m_touches, m_cushions, m_cushionsThen, m_touchedFirst, m_stepsThen, m_downNow, m_touchedMany, m_cushionMany, m_were, m_had => (if v2 ≤ v5 then (if v3 = 0 then (Option.bind (fX3_back m_points m_cell m_points m_fouls m_evening m_had) fun z6 => (some (z6.1, z6.2.1, z6.2.2.1, z6.2.2.2.1, z6.2.2.2.2, m_moving, m_goes, m_left, m_touches, m_cushions, m_cushionsThen, m_touchedFirst, m_stepsThen, m_downNow, m_touchedMany, m_cushionMany, m_were, m_had))) else (if v3 = 1 then (Option.bind (fX3_back m_fouls m_cell m_points m_fouls m_evening m_had) fun z4 => (some (z4.1, z4.2.1, z4.2.2.1, z4.2.2.2.1, z4.2.2.2.2, m_moving, m_goes, m_left, m_touches, m_cushions, m_cushionsThen, m_touchedFirst, m_stepsThen, m_downNow, m_touchedMany, m_cushionMany, m_were, m_had))) else (Option.bind (fX3_downMany m_cell) fun z2 => (Option.bind (fX3_back z2 m_cell m_points m_fouls m_evening m_had) fun z3 => (some (z3.1, z3.2.1, z3.2.2.1, z3.2.2.2.1, z3.2.2.2.2, m_moving, m_goes, m_left, m_touches, m_cushions, m_cushionsThen, m_touchedFirst, m_stepsThen, m_downNow, m_touchedMany, m_cushionMany, m_were, m_had)))))) else (Option.bind (fX3_whyNot (fX3_actBy (((((((75 : Int64) * (v4.toInt64)) + 74) - (((75 : Int64) * (v4.toInt64)) + 74) / 65537 * 65537).toInt32) / 3) - ((((((75 : Int64) * (v4.toInt64)) + 74) - (((75 : Int64) * (v4.toInt64)) + 74) / 65537 * 65537).toInt32) / 3) / 8 * 8)) ((((((75 : Int64) * (v4.toInt64)) + 74) - (((75 : Int64) * (v4.toInt64)) + 74) / 65537 * 65537).toInt32) - (((((75 : Int64) * (v4.toInt64)) + 74) - (((75 : Int64) * (v4.toInt64)) + 74) / 65537 * 65537).toInt32) / 3 * 3) m_cell m_evening) fun z8 => (if z8 = 0 then (Option.bind (fX3_happen (fX3_actBy (((((((75 : Int64) * (v4.toInt64)) + 74) - (((75 : Int64) * (v4.toInt64)) + 74) / 65537 * 65537).toInt32) / 3) - ((((((75 : Int64) * (v4.toInt64)) + 74) - (((75 : Int64) * (v4.toInt64)) + 74) / 65537 * 65537).toInt32) / 3) / 8 * 8)) ((((((75 : Int64) * (v4.toInt64)) + 74) - (((75 : Int64) * (v4.toInt64)) + 74) / 65537 * 65537).toInt32) - (((((75 : Int64) * (v4.toInt64)) + 74) - (((75 : Int64) * (v4.toInt64)) + 74) / 65537 * 65537).toInt32) / 3 * 3) (((((((75 : Int64) * (v4.toInt64)) + 74) - (((75 : Int64) * (v4.toInt64)) + 74) / 65537 * 65537).toInt32) / 24) - ((((((75 : Int64) * (v4.toInt64)) + 74) - (((75 : Int64) * (v4.toInt64)) + 74) / 65537 * 65537).toInt32) / 24) / 8 * 8) ((1 : Int32) + ((((((((75 : Int64) * (v4.toInt64)) + 74) - (((75 : Int64) * (v4.toInt64)) + 74) / 65537 * 65537).toInt32) / 24) / 8) - (((((((75 : Int64) * (v4.toInt64)) + 74) - (((75 : Int64) * (v4.toInt64)) + 74) / 65537 * 65537).toInt32) / 24) / 8) / 9 * 9)) m_cell m_points m_fouls m_evening m_moving m_goes m_left m_touches m_cushions m_cushionsThen m_touchedFirst m_stepsThen m_downNow m_touchedMany m_cushionMany m_were) fun z9 => (fX3_season_L49 v1 v2 v3 n (((((75 : Int64) * (v4.toInt64)) + 74) - (((75 : Int64) * (v4.toInt64)) + 74) / 65537 * 65537).toInt32) (v5 + 1) z9.1 z9.2.1 z9.2.2.1 z9.2.2.2.1 z9.2.2.2.2.1 z9.2.2.2.2.2.1 z9.2.2.2.2.2.2.1 z9.2.2.2.2.2.2.2.1 z9.2.2.2.2.2.2.2.2.1 z9.2.2.2.2.2.2.2.2.2.1 z9.2.2.2.2.2.2.2.2.2.2.1 z9.2.2.2.2.2.2.2.2.2.2.2.1 z9.2.2.2.2.2.2.2.2.2.2.2.2.1 z9.2.2.2.2.2.2.2.2.2.2.2.2.2.1 z9.2.2.2.2.2.2.2.2.2.2.2.2.2.2.1 z9.2.2.2.2.2.2.2.2.2.2.2.2.2.2.2 m_had)) else (fX3_season_L49 v1 v2 v3 n (((((75 : Int64) * (v4.toInt64)) + 74) - (((75 : Int64) * (v4.toInt64)) + 74) / 65537 * 65537).toInt32) (v5 + 1) m_cell m_points m_fouls m_evening m_moving m_goes m_left m_touches m_cushions m_cushionsThen m_touchedFirst m_stepsThen m_downNow m_touchedMany m_cushionMany m_were m_had))))
def fX3_season (v1 : Int32) (v2 : Int32) (v3 : Int32) (m_cell : Nat → Int32) (m_points : Int32) (m_fouls : Int32) (m_evening : Int32) (m_moving : Int32) (m_goes : Int32) (m_left : Int32) (m_touches : Int32) (m_cushions : Int32) (m_cushionsThen : Int32) (m_touchedFirst : Int32) (m_stepsThen : Int32) (m_downNow : Int32) (m_touchedMany : Int32) (m_cushionMany : Int32) (m_were : Nat → Int32) (m_had : Nat → Int32) : Option (Int32 × (Nat → Int32) × Int32 × Int32 × Int32 × Int32 × Int32 × Int32 × Int32 × Int32 × Int32 × Int32 × Int32 × Int32 × Int32 × Int32 × (Nat → Int32) × (Nat → Int32)) := (if (fX3_in (v1.toInt64) 0 9999) = 0 then (some ((-2), m_cell, m_points, m_fouls, m_evening, m_moving, m_goes, m_left, m_touches, m_cushions, m_cushionsThen, m_touchedFirst, m_stepsThen, m_downNow, m_touchedMany, m_cushionMany, m_were, m_had)) else (if (fX3_in (v2.toInt64) 1 99) = 0 then (some ((-2), m_cell, m_points, m_fouls, m_evening, m_moving, m_goes, m_left, m_touches, m_cushions, m_cushionsThen, m_touchedFirst, m_stepsThen, m_downNow, m_touchedMany, m_cushionMany, m_were, m_had)) else (if (fX3_in (v3.toInt64) 0 2) = 0 then (some ((-2), m_cell, m_points, m_fouls, m_evening, m_moving, m_goes, m_left, m_touches, m_cushions, m_cushionsThen, m_touchedFirst, m_stepsThen, m_downNow, m_touchedMany, m_cushionMany, m_were, m_had)) else (Option.bind (fX3_keepNow m_cell m_points m_fouls m_evening m_had) fun z1 => (fX3_season_L49 v1 v2 v3 FU v1 0 m_cell m_points m_fouls m_evening m_moving m_goes m_left m_touches m_cushions m_cushionsThen m_touchedFirst m_stepsThen m_downNow m_touchedMany m_cushionMany m_were z1)))))
def fX3_pass_L20 (v1 : Int32) (m_isWriting : Int32)  (k0 : Int32) (m_kept : Nat → Int32) (m_keptAt : Int32) : Option (Int32 × (Nat → Int32) × Int32) := (if bIn m_keptAt 60 then (some (k0, (upd m_kept m_keptAt.toNatClampNeg k0), (m_keptAt + 1))) else none)
def fX3_pass (v1 : Int32) (m_kept : Nat → Int32) (m_keptAt : Int32) (m_isWriting : Int32) : Option (Int32 × (Nat → Int32) × Int32) := (if m_isWriting = 0 then (if bIn m_keptAt 60 then (fX3_pass_L20 v1 m_isWriting (m_kept m_keptAt.toNatClampNeg) m_kept m_keptAt) else none) else (fX3_pass_L20 v1 m_isWriting v1 m_kept m_keptAt))
def fX3_passRow_m_cell_L2 (v2 : Int32) (m_isWriting : Int32)  : Nat → Int32 → (Nat → Int32) → (Nat → Int32) → Int32 → Option ((Nat → Int32) × (Nat → Int32) × Int32)
  | 0, _, _, _, _ => none
  | n + 1, v3, m_cell, m_kept, m_keptAt => (if v2 ≤ v3 then (some (m_cell, m_kept, m_keptAt)) else (if bIn v3 3 then (Option.bind (fX3_pass (m_cell v3.toNatClampNeg) m_kept m_keptAt m_isWriting) fun z2 => (if bIn v3 3 then (fX3_passRow_m_cell_L2 v2 m_isWriting n (v3 + 1) (upd m_cell v3.toNatClampNeg z2.1) z2.2.1 z2.2.2) else none)) else none))
def fX3_passRow_m_cell (v2 : Int32) (m_cell : Nat → Int32) (m_kept : Nat → Int32) (m_keptAt : Int32) (m_isWriting : Int32) : Option ((Nat → Int32) × (Nat → Int32) × Int32) := (fX3_passRow_m_cell_L2 v2 m_isWriting FU 0 m_cell m_kept m_keptAt)
def fX3_passRow_m_sightStep_L2 (v2 : Int32) (m_isWriting : Int32)  : Nat → Int32 → (Nat → Int32) → (Nat → Int32) → Int32 → Option ((Nat → Int32) × (Nat → Int32) × Int32)
  | 0, _, _, _, _ => none
  | n + 1, v3, m_sightStep, m_kept, m_keptAt => (if v2 ≤ v3 then (some (m_sightStep, m_kept, m_keptAt)) else (if bIn v3 8 then (Option.bind (fX3_pass (m_sightStep v3.toNatClampNeg) m_kept m_keptAt m_isWriting) fun z2 => (if bIn v3 8 then (fX3_passRow_m_sightStep_L2 v2 m_isWriting n (v3 + 1) (upd m_sightStep v3.toNatClampNeg z2.1) z2.2.1 z2.2.2) else none)) else none))
def fX3_passRow_m_sightStep (v2 : Int32) (m_sightStep : Nat → Int32) (m_kept : Nat → Int32) (m_keptAt : Int32) (m_isWriting : Int32) : Option ((Nat → Int32) × (Nat → Int32) × Int32) := (fX3_passRow_m_sightStep_L2 v2 m_isWriting FU 0 m_sightStep m_kept m_keptAt)
def fX3_passRow_m_sightCell_L2 (v2 : Int32) (m_isWriting : Int32)  : Nat → Int32 → (Nat → Int32) → (Nat → Int32) → Int32 → Option ((Nat → Int32) × (Nat → Int32) × Int32)
  | 0, _, _, _, _ => none
  | n + 1, v3, m_sightCell, m_kept, m_keptAt => (if v2 ≤ v3 then (some (m_sightCell, m_kept, m_keptAt)) else (if bIn v3 8 then (Option.bind (fX3_pass (m_sightCell v3.toNatClampNeg) m_kept m_keptAt m_isWriting) fun z2 => (if bIn v3 8 then (fX3_passRow_m_sightCell_L2 v2 m_isWriting n (v3 + 1) (upd m_sightCell v3.toNatClampNeg z2.1) z2.2.1 z2.2.2) else none)) else none))
def fX3_passRow_m_sightCell (v2 : Int32) (m_sightCell : Nat → Int32) (m_kept : Nat → Int32) (m_keptAt : Int32) (m_isWriting : Int32) : Option ((Nat → Int32) × (Nat → Int32) × Int32) := (fX3_passRow_m_sightCell_L2 v2 m_isWriting FU 0 m_sightCell m_kept m_keptAt)
def fX3_passAll  (m_cell : Nat → Int32) (m_points : Int32) (m_fouls : Int32) (m_evening : Int32) (m_sightStep : Nat → Int32) (m_sightCell : Nat → Int32) (m_sights : Int32) (m_kept : Nat → Int32) (m_keptAt : Int32) (m_isWriting : Int32) : Option ((Nat → Int32) × Int32 × Int32 × Int32 × (Nat → Int32) × (Nat → Int32) × Int32 × (Nat → Int32) × Int32) := (Option.bind (fX3_pass m_points m_kept m_keptAt m_isWriting) fun z1 => (Option.bind (fX3_pass m_fouls z1.2.1 z1.2.2 m_isWriting) fun z2 => (Option.bind (fX3_pass m_evening z2.2.1 z2.2.2 m_isWriting) fun z3 => (Option.bind (fX3_pass m_sights z3.2.1 z3.2.2 m_isWriting) fun z4 => (Option.bind (fX3_passRow_m_cell 3 m_cell z4.2.1 z4.2.2 m_isWriting) fun z5 => (Option.bind (fX3_passRow_m_sightStep 8 m_sightStep z5.2.1 z5.2.2 m_isWriting) fun z6 => (Option.bind (fX3_passRow_m_sightCell 8 m_sightCell z6.2.1 z6.2.2 m_isWriting) fun z7 => (some (z5.1, z1.1, z2.1, z3.1, z6.1, z7.1, z4.1, z7.2.1, z7.2.2)))))))))
def fX3_image (v1 : Int32) (m_cell : Nat → Int32) (m_points : Int32) (m_fouls : Int32) (m_evening : Int32) (m_sightStep : Nat → Int32) (m_sightCell : Nat → Int32) (m_sights : Int32) (m_kept : Nat → Int32) (m_isKept : Nat → Int32) (m_keptAt : Int32) (m_isWriting : Int32) : Option (Int32 × (Nat → Int32) × Int32 × Int32 × Int32 × (Nat → Int32) × (Nat → Int32) × Int32 × (Nat → Int32) × (Nat → Int32) × Int32 × Int32) := (if (fX3_in (v1.toInt64) 0 1) = 0 then (some ((-2), m_cell, m_points, m_fouls, m_evening, m_sightStep, m_sightCell, m_sights, m_kept, m_isKept, m_keptAt, m_isWriting)) else (Option.bind (fX3_passAll m_cell m_points m_fouls m_evening m_sightStep m_sightCell m_sights m_kept ((30 : Int32) * v1) 1) fun z1 => (if bIn v1 2 then (some (1, z1.1, z1.2.1, z1.2.2.1, z1.2.2.2.1, z1.2.2.2.2.1, z1.2.2.2.2.2.1, z1.2.2.2.2.2.2.1, z1.2.2.2.2.2.2.2.1, (upd m_isKept v1.toNatClampNeg (vp_nar .boolean 1)), z1.2.2.2.2.2.2.2.2, 1)) else none)))
def fX3_restore (v1 : Int32) (m_cell : Nat → Int32) (m_points : Int32) (m_fouls : Int32) (m_evening : Int32) (m_sightStep : Nat → Int32) (m_sightCell : Nat → Int32) (m_sights : Int32) (m_kept : Nat → Int32) (m_isKept : Nat → Int32) (m_keptAt : Int32) (m_isWriting : Int32) : Option (Int32 × (Nat → Int32) × Int32 × Int32 × Int32 × (Nat → Int32) × (Nat → Int32) × Int32 × (Nat → Int32) × Int32 × Int32) := (if (fX3_in (v1.toInt64) 0 1) = 0 then (some ((-2), m_cell, m_points, m_fouls, m_evening, m_sightStep, m_sightCell, m_sights, m_kept, m_keptAt, m_isWriting)) else (if bIn v1 2 then (if (m_isKept v1.toNatClampNeg) = 0 then (some ((-3), m_cell, m_points, m_fouls, m_evening, m_sightStep, m_sightCell, m_sights, m_kept, m_keptAt, m_isWriting)) else (Option.bind (fX3_passAll m_cell m_points m_fouls m_evening m_sightStep m_sightCell m_sights m_kept ((30 : Int32) * v1) 0) fun z2 => (some (1, z2.1, z2.2.1, z2.2.2.1, z2.2.2.2.1, z2.2.2.2.2.1, z2.2.2.2.2.2.1, z2.2.2.2.2.2.2.1, z2.2.2.2.2.2.2.2.1, z2.2.2.2.2.2.2.2.2, 0)))) else none))
def fX3_told (v1 : Int32) (m_cell : Nat → Int32) (m_points : Int32) (m_fouls : Int32) (m_evening : Int32) (m_sights : Int32) (m_padMany : Int32) : Option (Int32) := (if (fX3_in (v1.toInt64) 10 12) = 0 then (if v1 = 0 then (some m_padMany) else (if v1 = 1 then (some m_points) else (if v1 = 2 then (some m_fouls) else (if v1 = 3 then (some m_evening) else (if v1 = 4 then (some m_sights) else (some (-2))))))) else (if bIn (v1 - 10) 3 then (some (m_cell (v1 - 10).toNatClampNeg)) else none))
set_option maxHeartbeats 4000000 in
set_option maxRecDepth 100000 in
theorem metX3_ballOn {v1 : Int32} {res : Int32} (hf : fX3_ballOn v1 m_cell = some res) : CtI l yX3_ballOn cX3_ballOn 4 .int 0 D E sz [.ref (h 0), .int v1] (WX3 h E m_cell m_points m_fouls m_evening m_sightStep m_sightCell m_sights m_pad m_padMany m_act m_which m_whither m_hard m_acts m_moving m_goes m_left m_touches m_cushions m_cushionsThen m_touchedFirst m_stepsThen m_downNow m_touchedMany m_cushionMany m_were m_had m_badAct m_badWhy m_foulAct m_met m_far m_fit m_now m_fitMany m_byCell m_wins m_chance m_kept m_isKept m_keptAt m_isWriting) (WX3 h E m_cell m_points m_fouls m_evening m_sightStep m_sightCell m_sights m_pad m_padMany m_act m_which m_whither m_hard m_acts m_moving m_goes m_left m_touches m_cushions m_cushionsThen m_touchedFirst m_stepsThen m_downNow m_touchedMany m_cushionMany m_were m_had m_badAct m_badWhy m_foulAct m_met m_far m_fit m_now m_fitMany m_byCell m_wins m_chance m_kept m_isKept m_keptAt m_isWriting) res := by
  refine startI (own := RX3) (by decide) rfl (Nat.le_of_ble_eq_true rfl) ?_
  intro p e s m args below meth c A Q ls hC ret hl hw
  have hx := hC.1.1
  have hb := hC.1.2.1
  have hown := hC.1.2.2.2.1
  have hts := hC.1.2.2.2.2
  have hl : lv_has ls 4 [(0, .ref (h 0)), (1, .int v1)] := hl
  have L5 : ∀ (n : Nat), ∀ (v2 : Int32) (v3 : Int32) (H : Heap) (locs : List Loc) (ls : Array Slot), Wo D A s.heap H locs (WX3 h E m_cell m_points m_fouls m_evening m_sightStep m_sightCell m_sights m_pad m_padMany m_act m_which m_whither m_hard m_acts m_moving m_goes m_left m_touches m_cushions m_cushionsThen m_touchedFirst m_stepsThen m_downNow m_touchedMany m_cushionMany m_were m_had m_badAct m_badWhy m_foulAct m_met m_far m_fit m_now m_fitMany m_byCell m_wins m_chance m_kept m_isKept m_keptAt m_isWriting) → lv_has ls 4 [(0, .ref (h 0)), (1, .int v1), (2, .int v2), (3, .int v3)] → fX3_ballOn_L5 v1 m_cell  n v2 v3 = some res → W p l e (rmN 0) s m args below meth c H locs 0 0 Q (F0 m 5 ls []) := by
    intro  n
    induction n with
    | zero =>
      intro v2 v3 H locs ls hw hl hf
      exact dk_n hf
    | succ n ih =>
      intro v2 v3 H locs ls hw hl hf
      refine lv_iload_n hx hb dX3_ballOn_5 rfl (lv_at hl 3 rfl) ?_
      refine lv_iconst (v := 3) hx hb dX3_ballOn_6 rfl ?_
      refine lv_icmp_ge (tgt := 32) hx hb dX3_ballOn_7 rfl (fun c3 => ?_) (fun c3 => ?_)
      · have hf := dk_t c3 hf
        refine lv_iload_n hx hb dX3_ballOn_32 rfl (lv_at hl 2 rfl) ?_
        exact ret _ _ _ _ _ dX3_ballOn_33 rfl (Option.some.inj hf) hw
      · have hf := dk_f c3 hf
        refine lv_aload_n hx hb dX3_ballOn_10 rfl (lv_at hl 0 rfl) ?_
        refine gX3_this_cell hC hw dX3_ballOn_11 ?_
        refine lv_iload_n hx hb dX3_ballOn_14 rfl (lv_at hl 3 rfl) ?_
        obtain ⟨b1, hf⟩ := dk_c hf
        refine aX3_m_cell hC hw b1 dX3_ballOn_15 ?_
        refine lv_iload_n hx hb dX3_ballOn_16 rfl (lv_at hl 1 rfl) ?_
        refine lv_icmp_ne (tgt := 24) hx hb dX3_ballOn_17 rfl (fun c2 => ?_) (fun c2 => ?_)
        · have hf := dk_f c2 hf
          refine lv_iload_n hx hb dX3_ballOn_24 rfl (lv_at hl 2 rfl) ?_
          refine lv_istore_n (lv' := [(2, .int v2), (0, .ref (h 0)), (1, .int v1), (3, .int v3)]) hx hb dX3_ballOn_25 rfl hl (by decide) rfl (fun ls hl => ?_)
          refine lv_iinc (v := (v3 + 1)) (lv' := [(3, .int (v3 + 1)), (2, .int v2), (0, .ref (h 0)), (1, .int v1)]) hx hb dX3_ballOn_26 hl (k := 3) rfl rfl (by decide) rfl (fun ls hl => ?_)
          refine lv_goto (tgt := 5) hx hb dX3_ballOn_29 rfl ?_
          exact ih v2 (v3 + 1) _ _ _ hw (lv_sub hl [2, 3, 1, 0] rfl) hf
        · have hf := dk_t c2 hf
          refine lv_iload_n hx hb dX3_ballOn_20 rfl (lv_at hl 3 rfl) ?_
          refine lv_goto (tgt := 25) hx hb dX3_ballOn_21 rfl ?_
          refine lv_istore_n (lv' := [(2, .int v3), (0, .ref (h 0)), (1, .int v1), (3, .int v3)]) hx hb dX3_ballOn_25 rfl hl (by decide) rfl (fun ls hl => ?_)
          refine lv_iinc (v := (v3 + 1)) (lv' := [(3, .int (v3 + 1)), (2, .int v3), (0, .ref (h 0)), (1, .int v1)]) hx hb dX3_ballOn_26 hl (k := 3) rfl rfl (by decide) rfl (fun ls hl => ?_)
          refine lv_goto (tgt := 5) hx hb dX3_ballOn_29 rfl ?_
          exact ih v3 (v3 + 1) _ _ _ hw (lv_sub hl [2, 3, 1, 0] rfl) hf
  refine lv_bipush (v := (-6)) hx hb dX3_ballOn_0 rfl ?_
  refine lv_istore_n (lv' := [(2, .int (-6)), (0, .ref (h 0)), (1, .int v1)]) hx hb dX3_ballOn_2 rfl hl (by decide) rfl (fun ls hl => ?_)
  refine lv_iconst (v := 0) hx hb dX3_ballOn_3 rfl ?_
  refine lv_istore_n (lv' := [(3, .int 0), (2, .int (-6)), (0, .ref (h 0)), (1, .int v1)]) hx hb dX3_ballOn_4 rfl hl (by decide) rfl (fun ls hl => ?_)
  exact L5 FU (-6) 0 _ _ _ hw (lv_sub hl [2, 3, 1, 0] rfl) hf
set_option maxHeartbeats 4000000 in
set_option maxRecDepth 100000 in
theorem metX3_ball {v1 : Int32} {v2 : Int32} {res : Int32 × (Nat → Int32)} (hf : fX3_ball v1 v2 m_cell = some res) : CtI l yX3_ball cX3_ball 5 .int 3 D E sz [.ref (h 0), .int v1, .int v2] (WX3 h E m_cell m_points m_fouls m_evening m_sightStep m_sightCell m_sights m_pad m_padMany m_act m_which m_whither m_hard m_acts m_moving m_goes m_left m_touches m_cushions m_cushionsThen m_touchedFirst m_stepsThen m_downNow m_touchedMany m_cushionMany m_were m_had m_badAct m_badWhy m_foulAct m_met m_far m_fit m_now m_fitMany m_byCell m_wins m_chance m_kept m_isKept m_keptAt m_isWriting) (WX3 h E res.2 m_points m_fouls m_evening m_sightStep m_sightCell m_sights m_pad m_padMany m_act m_which m_whither m_hard m_acts m_moving m_goes m_left m_touches m_cushions m_cushionsThen m_touchedFirst m_stepsThen m_downNow m_touchedMany m_cushionMany m_were m_had m_badAct m_badWhy m_foulAct m_met m_far m_fit m_now m_fitMany m_byCell m_wins m_chance m_kept m_isKept m_keptAt m_isWriting) res.1 := by
  refine startI (own := RX3) (by decide) rfl (Nat.le_of_ble_eq_true rfl) ?_
  intro p e s m args below meth c A Q ls hC ret hl hw
  have hx := hC.1.1
  have hb := hC.1.2.1
  have hown := hC.1.2.2.2.1
  have hts := hC.1.2.2.2.2
  have hl : lv_has ls 5 [(0, .ref (h 0)), (1, .int v1), (2, .int v2)] := hl
  have L48 : ∀ (m_cell : Nat → Int32) (H : Heap) (locs : List Loc) (ls : Array Slot), Wo D A s.heap H locs (WX3 h E m_cell m_points m_fouls m_evening m_sightStep m_sightCell m_sights m_pad m_padMany m_act m_which m_whither m_hard m_acts m_moving m_goes m_left m_touches m_cushions m_cushionsThen m_touchedFirst m_stepsThen m_downNow m_touchedMany m_cushionMany m_were m_had m_badAct m_badWhy m_foulAct m_met m_far m_fit m_now m_fitMany m_byCell m_wins m_chance m_kept m_isKept m_keptAt m_isWriting) → lv_has ls 5 [(0, .ref (h 0)), (1, .int v1), (2, .int v2)] → fX3_ball_L48 v1 v2  m_cell = some res → W p l e (rmN 3) s m args below meth c H locs 0 0 Q (F0 m 48 ls []) := by
    intro  m_cell H locs ls hw hl hf
    refine lv_aload_n hx hb dX3_ball_48 rfl (lv_at hl 0 rfl) ?_
    refine gX3_this_cell hC hw dX3_ball_49 ?_
    refine lv_iload_n hx hb dX3_ball_52 rfl (lv_at hl 1 rfl) ?_
    obtain ⟨b2, hf⟩ := dk_c hf
    refine aX3_m_cell hC hw b2 dX3_ball_53 ?_
    refine lv_istore (lv' := [(4, .int (m_cell v1.toNatClampNeg)), (0, .ref (h 0)), (1, .int v1), (2, .int v2)]) hx hb dX3_ball_54 hl (by decide) rfl (fun ls hl => ?_)
    refine lv_aload_n hx hb dX3_ball_56 rfl (lv_at hl 1 rfl) ?_
    refine gX3_this_cell hC hw dX3_ball_57 ?_
    refine lv_iload_n hx hb dX3_ball_60 rfl (lv_at hl 2 rfl) ?_
    refine lv_iload_n hx hb dX3_ball_61 rfl (lv_at hl 3 rfl) ?_
    refine lv_if_ge (tgt := 70) hx hb dX3_ball_62 rfl (fun c5 => ?_) (fun c5 => ?_)
    · have hf := dk_t c5 hf
      refine lv_iload_n hx hb dX3_ball_70 rfl (lv_at hl 3 rfl) ?_
      obtain ⟨b3, hf⟩ := dk_c hf
      refine sX3_m_cell hC hw b3 dX3_ball_71 (fun H locs hw => ?_)
      refine lv_iload hx hb dX3_ball_72 (lv_at hl 0 rfl) ?_
      obtain rfl := Option.some.inj hf
      exact ret _ _ _ _ _ dX3_ball_74 rfl rfl hw
    · have hf := dk_f c5 hf
      refine lv_bipush (v := (-6)) hx hb dX3_ball_65 rfl ?_
      refine lv_goto (tgt := 71) hx hb dX3_ball_67 rfl ?_
      obtain ⟨b4, hf⟩ := dk_c hf
      refine sX3_m_cell hC hw b4 dX3_ball_71 (fun H locs hw => ?_)
      refine lv_iload hx hb dX3_ball_72 (lv_at hl 0 rfl) ?_
      obtain rfl := Option.some.inj hf
      exact ret _ _ _ _ _ dX3_ball_74 rfl rfl hw
  have L35 : ∀ (k0 : Int32) (m_cell : Nat → Int32) (H : Heap) (locs : List Loc) (ls : Array Slot), Wo D A s.heap H locs (WX3 h E m_cell m_points m_fouls m_evening m_sightStep m_sightCell m_sights m_pad m_padMany m_act m_which m_whither m_hard m_acts m_moving m_goes m_left m_touches m_cushions m_cushionsThen m_touchedFirst m_stepsThen m_downNow m_touchedMany m_cushionMany m_were m_had m_badAct m_badWhy m_foulAct m_met m_far m_fit m_now m_fitMany m_byCell m_wins m_chance m_kept m_isKept m_keptAt m_isWriting) → lv_has ls 5 [(0, .ref (h 0)), (1, .int v1), (2, .int v2)] → fX3_ball_L35 v1 v2  k0 m_cell = some res → W p l e (rmN 3) s m args below meth c H locs 0 0 Q (F0 m 35 ls [.int k0]) := by
    intro  k0 m_cell H locs ls hw hl hf
    refine lv_istore_n (lv' := [(3, .int k0), (0, .ref (h 0)), (1, .int v1), (2, .int v2)]) hx hb dX3_ball_35 rfl hl (by decide) rfl (fun ls hl => ?_)
    refine lv_iload_n hx hb dX3_ball_36 rfl (lv_at hl 0 rfl) ?_
    refine lv_if_lt (tgt := 48) hx hb dX3_ball_37 rfl (fun c7 => ?_) (fun c7 => ?_)
    · have hf := dk_t c7 hf
      exact L48 m_cell _ _ _ hw (lv_sub hl [1, 2, 3] rfl) hf
    · have hf := dk_f c7 hf
      refine lv_iload_n hx hb dX3_ball_40 rfl (lv_at hl 0 rfl) ?_
      refine lv_iload_n hx hb dX3_ball_41 rfl (lv_at hl 2 rfl) ?_
      refine lv_icmp_eq (tgt := 48) hx hb dX3_ball_42 rfl (fun c6 => ?_) (fun c6 => ?_)
      · have hf := dk_t c6 hf
        exact L48 m_cell _ _ _ hw (lv_sub hl [1, 2, 3] rfl) hf
      · have hf := dk_f c6 hf
        refine lv_bipush (v := (-3)) hx hb dX3_ball_45 rfl ?_
        obtain rfl := Option.some.inj hf
        exact ret _ _ _ _ _ dX3_ball_47 rfl rfl hw
  have L21 : ∀ (m_cell : Nat → Int32) (H : Heap) (locs : List Loc) (ls : Array Slot), Wo D A s.heap H locs (WX3 h E m_cell m_points m_fouls m_evening m_sightStep m_sightCell m_sights m_pad m_padMany m_act m_which m_whither m_hard m_acts m_moving m_goes m_left m_touches m_cushions m_cushionsThen m_touchedFirst m_stepsThen m_downNow m_touchedMany m_cushionMany m_were m_had m_badAct m_badWhy m_foulAct m_met m_far m_fit m_now m_fitMany m_byCell m_wins m_chance m_kept m_isKept m_keptAt m_isWriting) → lv_has ls 5 [(0, .ref (h 0)), (1, .int v1), (2, .int v2)] → fX3_ball_L21 v1 v2  m_cell = some res → W p l e (rmN 3) s m args below meth c H locs 0 0 Q (F0 m 21 ls []) := by
    intro  m_cell H locs ls hw hl hf
    refine lv_iload_n hx hb dX3_ball_21 rfl (lv_at hl 2 rfl) ?_
    refine lv_if_ge (tgt := 30) hx hb dX3_ball_22 rfl (fun c8 => ?_) (fun c8 => ?_)
    · have hf := dk_t c8 hf
      refine lv_aload_n hx hb dX3_ball_30 rfl (lv_at hl 0 rfl) ?_
      refine lv_iload_n hx hb dX3_ball_31 rfl (lv_at hl 2 rfl) ?_
      obtain ⟨z1, hz1, hf⟩ := dk_b hf
      refine callVI (rest := []) 0 _ 3 hC hw (sm1 _) (metX3_ballOn hz1) mi_X3_ballOn q603 (rm_ok (by decide) (by decide)) rfl rfl rfl hl.1 rfl (Nat.le_of_ble_eq_true rfl) dX3_ball_32 ⟨Nat.zero_le _, Nat.zero_le _⟩ (sm2 _ _) (fun H locs hw => ?_)
      exact L35 z1 m_cell _ _ _ hw (lv_sub hl [0, 1, 2] rfl) hf
    · have hf := dk_f c8 hf
      refine lv_bipush (v := (-6)) hx hb dX3_ball_25 rfl ?_
      refine lv_goto (tgt := 35) hx hb dX3_ball_27 rfl ?_
      exact L35 (-6) m_cell _ _ _ hw (lv_sub hl [0, 1, 2] rfl) hf
  refine lv_iload_n hx hb dX3_ball_0 rfl (lv_at hl 1 rfl) ?_
  refine callSI (rest := []) 0 0 hC hw (st1 _) (metX3_isBall rfl) mi_X3_isBall q586 (rm_ok (by decide) (by decide)) rfl hl.1 rfl (Nat.le_of_ble_eq_true rfl) dX3_ball_1 ⟨Nat.zero_le _, Nat.zero_le _⟩ (st2 _) (fun H locs hw => ?_)
  refine lv_if_eq (tgt := 19) hx hb dX3_ball_4 rfl (fun c11 => ?_) (fun c11 => ?_)
  · have hf := dk_t c11 hf
    refine lv_iconst (v := (-1)) hx hb dX3_ball_19 rfl ?_
    obtain rfl := Option.some.inj hf
    exact ret _ _ _ _ _ dX3_ball_20 rfl rfl hw
  · have hf := dk_f c11 hf
    refine lv_iload_n hx hb dX3_ball_7 rfl (lv_at hl 2 rfl) ?_
    refine lv_iconst (v := (-1)) hx hb dX3_ball_8 rfl ?_
    refine lv_icmp_eq (tgt := 21) hx hb dX3_ball_9 rfl (fun c10 => ?_) (fun c10 => ?_)
    · have hf := dk_t c10 hf
      exact L21 m_cell _ _ _ hw (lv_sub hl [0, 1, 2] rfl) hf
    · have hf := dk_f c10 hf
      refine lv_iload_n hx hb dX3_ball_12 rfl (lv_at hl 2 rfl) ?_
      refine callSI (rest := []) 0 0 hC hw (st1 _) (metX3_isPlace rfl) mi_X3_isPlace q593 (rm_ok (by decide) (by decide)) rfl hl.1 rfl (Nat.le_of_ble_eq_true rfl) dX3_ball_13 ⟨Nat.zero_le _, Nat.zero_le _⟩ (st2 _) (fun H locs hw => ?_)
      refine lv_if_ne (tgt := 21) hx hb dX3_ball_16 rfl (fun c9 => ?_) (fun c9 => ?_)
      · have hf := dk_f c9 hf
        exact L21 m_cell _ _ _ hw (lv_sub hl [0, 1, 2] rfl) hf
      · have hf := dk_t c9 hf
        refine lv_iconst (v := (-1)) hx hb dX3_ball_19 rfl ?_
        obtain rfl := Option.some.inj hf
        exact ret _ _ _ _ _ dX3_ball_20 rfl rfl hw
set_option maxHeartbeats 4000000 in
set_option maxRecDepth 100000 in
theorem metX3_score {v1 : Int32} {v2 : Int32} {res : Int32 × Int32 × Int32} (hf : fX3_score v1 v2 m_points m_fouls = some res) : CtI l yX3_score cX3_score 4 .int 1 D E sz [.ref (h 0), .int v1, .int v2] (WX3 h E m_cell m_points m_fouls m_evening m_sightStep m_sightCell m_sights m_pad m_padMany m_act m_which m_whither m_hard m_acts m_moving m_goes m_left m_touches m_cushions m_cushionsThen m_touchedFirst m_stepsThen m_downNow m_touchedMany m_cushionMany m_were m_had m_badAct m_badWhy m_foulAct m_met m_far m_fit m_now m_fitMany m_byCell m_wins m_chance m_kept m_isKept m_keptAt m_isWriting) (WX3 h E m_cell res.2.1 res.2.2 m_evening m_sightStep m_sightCell m_sights m_pad m_padMany m_act m_which m_whither m_hard m_acts m_moving m_goes m_left m_touches m_cushions m_cushionsThen m_touchedFirst m_stepsThen m_downNow m_touchedMany m_cushionMany m_were m_had m_badAct m_badWhy m_foulAct m_met m_far m_fit m_now m_fitMany m_byCell m_wins m_chance m_kept m_isKept m_keptAt m_isWriting) res.1 := by
  refine startI (own := RX3) (by decide) rfl (Nat.le_of_ble_eq_true rfl) ?_
  intro p e s m args below meth c A Q ls hC ret hl hw
  have hx := hC.1.1
  have hb := hC.1.2.1
  have hown := hC.1.2.2.2.1
  have hts := hC.1.2.2.2.2
  have hl : lv_has ls 4 [(0, .ref (h 0)), (1, .int v1), (2, .int v2)] := hl
  refine lv_iload_n hx hb dX3_score_0 rfl (lv_at hl 1 rfl) ?_
  refine lv_i2l (v := (v1.toInt64)) hx hb dX3_score_1 rfl ?_
  refine lv_lconst (v := 0) hx hb dX3_score_2 rfl ?_
  refine W.ldc2 (v := 99) hx hb hown (hts _ q611) rfl dX3_score_3 ?_
  refine callSI (rest := []) 0 0 hC hw (st1 _) (metX3_in rfl) mi_X3_in q590 (rm_ok (by decide) (by decide)) rfl hl.1 rfl (Nat.le_of_ble_eq_true rfl) dX3_score_6 ⟨Nat.zero_le _, Nat.zero_le _⟩ (st2 _) (fun H locs hw => ?_)
  refine lv_if_eq (tgt := 24) hx hb dX3_score_9 rfl (fun c2 => ?_) (fun c2 => ?_)
  · have hf := dk_t c2 hf
    refine lv_bipush (v := (-2)) hx hb dX3_score_24 rfl ?_
    obtain rfl := Option.some.inj hf
    exact ret _ _ _ _ _ dX3_score_26 rfl rfl hw
  · have hf := dk_f c2 hf
    refine lv_iload_n hx hb dX3_score_12 rfl (lv_at hl 2 rfl) ?_
    refine lv_i2l (v := (v2.toInt64)) hx hb dX3_score_13 rfl ?_
    refine lv_lconst (v := 0) hx hb dX3_score_14 rfl ?_
    refine W.ldc2 (v := 99) hx hb hown (hts _ q611) rfl dX3_score_15 ?_
    refine callSI (rest := []) 0 0 hC hw (st1 _) (metX3_in rfl) mi_X3_in q590 (rm_ok (by decide) (by decide)) rfl hl.1 rfl (Nat.le_of_ble_eq_true rfl) dX3_score_18 ⟨Nat.zero_le _, Nat.zero_le _⟩ (st2 _) (fun H locs hw => ?_)
    refine lv_if_ne (tgt := 27) hx hb dX3_score_21 rfl (fun c1 => ?_) (fun c1 => ?_)
    · have hf := dk_f c1 hf
      refine lv_bipush (v := 100) hx hb dX3_score_27 rfl ?_
      refine lv_aload_n hx hb dX3_score_29 rfl (lv_at hl 0 rfl) ?_
      refine gX3_this_points hC hw dX3_score_30 ?_
      refine lv_imul hx hb dX3_score_33 ?_
      refine lv_aload_n hx hb dX3_score_34 rfl (lv_at hl 0 rfl) ?_
      refine gX3_this_fouls hC hw dX3_score_35 ?_
      refine lv_iadd hx hb dX3_score_38 ?_
      refine lv_istore_n (lv' := [(3, .int (((100 : Int32) * m_points) + m_fouls)), (0, .ref (h 0)), (1, .int v1), (2, .int v2)]) hx hb dX3_score_39 rfl hl (by decide) rfl (fun ls hl => ?_)
      refine lv_aload_n hx hb dX3_score_40 rfl (lv_at hl 1 rfl) ?_
      refine lv_iload_n hx hb dX3_score_41 rfl (lv_at hl 2 rfl) ?_
      refine pX3_this_points hC hw dX3_score_42 (fun H locs hw => ?_)
      refine lv_aload_n hx hb dX3_score_45 rfl (lv_at hl 1 rfl) ?_
      refine lv_iload_n hx hb dX3_score_46 rfl (lv_at hl 3 rfl) ?_
      refine pX3_this_fouls hC hw dX3_score_47 (fun H locs hw => ?_)
      refine lv_iload_n hx hb dX3_score_50 rfl (lv_at hl 0 rfl) ?_
      obtain rfl := Option.some.inj hf
      exact ret _ _ _ _ _ dX3_score_51 rfl rfl hw
    · have hf := dk_t c1 hf
      refine lv_bipush (v := (-2)) hx hb dX3_score_24 rfl ?_
      obtain rfl := Option.some.inj hf
      exact ret _ _ _ _ _ dX3_score_26 rfl rfl hw
set_option maxHeartbeats 4000000 in
set_option maxRecDepth 100000 in
theorem metX3_say {v1 : Int32} {res : Int32 × (Nat → Int32) × Int32} (hf : fX3_say v1 m_pad m_padMany = some res) : CtI l yX3_say cX3_say 2 .int 1 D E sz [.ref (h 0), .int v1] (WX3 h E m_cell m_points m_fouls m_evening m_sightStep m_sightCell m_sights m_pad m_padMany m_act m_which m_whither m_hard m_acts m_moving m_goes m_left m_touches m_cushions m_cushionsThen m_touchedFirst m_stepsThen m_downNow m_touchedMany m_cushionMany m_were m_had m_badAct m_badWhy m_foulAct m_met m_far m_fit m_now m_fitMany m_byCell m_wins m_chance m_kept m_isKept m_keptAt m_isWriting) (WX3 h E m_cell m_points m_fouls m_evening m_sightStep m_sightCell m_sights res.2.1 res.2.2 m_act m_which m_whither m_hard m_acts m_moving m_goes m_left m_touches m_cushions m_cushionsThen m_touchedFirst m_stepsThen m_downNow m_touchedMany m_cushionMany m_were m_had m_badAct m_badWhy m_foulAct m_met m_far m_fit m_now m_fitMany m_byCell m_wins m_chance m_kept m_isKept m_keptAt m_isWriting) res.1 := by
  refine startI (own := RX3) (by decide) rfl (Nat.le_of_ble_eq_true rfl) ?_
  intro p e s m args below meth c A Q ls hC ret hl hw
  have hx := hC.1.1
  have hb := hC.1.2.1
  have hown := hC.1.2.2.2.1
  have hts := hC.1.2.2.2.2
  have hl : lv_has ls 2 [(0, .ref (h 0)), (1, .int v1)] := hl
  refine lv_iload_n hx hb dX3_say_0 rfl (lv_at hl 1 rfl) ?_
  refine lv_i2l (v := (v1.toInt64)) hx hb dX3_say_1 rfl ?_
  refine W.ldc2 (v := 33) hx hb hown (hts _ q616) rfl dX3_say_2 ?_
  refine W.ldc2 (v := 126) hx hb hown (hts _ q617) rfl dX3_say_5 ?_
  refine callSI (rest := []) 0 0 hC hw (st1 _) (metX3_in rfl) mi_X3_in q590 (rm_ok (by decide) (by decide)) rfl hl.1 rfl (Nat.le_of_ble_eq_true rfl) dX3_say_8 ⟨Nat.zero_le _, Nat.zero_le _⟩ (st2 _) (fun H locs hw => ?_)
  refine lv_if_ne (tgt := 17) hx hb dX3_say_11 rfl (fun c3 => ?_) (fun c3 => ?_)
  · have hf := dk_f c3 hf
    refine lv_aload_n hx hb dX3_say_17 rfl (lv_at hl 0 rfl) ?_
    refine gX3_this_padMany hC hw dX3_say_18 ?_
    refine lv_bipush (v := 60) hx hb dX3_say_21 rfl ?_
    refine lv_icmp_ne (tgt := 29) hx hb dX3_say_23 rfl (fun c2 => ?_) (fun c2 => ?_)
    · have hf := dk_f c2 hf
      refine lv_aload_n hx hb dX3_say_29 rfl (lv_at hl 0 rfl) ?_
      refine gX3_this_pad hC hw dX3_say_30 ?_
      refine lv_aload_n hx hb dX3_say_33 rfl (lv_at hl 0 rfl) ?_
      refine gX3_this_padMany hC hw dX3_say_34 ?_
      refine lv_iload_n hx hb dX3_say_37 rfl (lv_at hl 1 rfl) ?_
      obtain ⟨b1, hf⟩ := dk_c hf
      refine sX3_m_pad hC hw b1 dX3_say_38 (fun H locs hw => ?_)
      refine lv_aload_n hx hb dX3_say_39 rfl (lv_at hl 0 rfl) ?_
      refine lv_dup hx hb dX3_say_40 rfl ?_
      refine gX3_this_padMany hC hw dX3_say_41 ?_
      refine lv_iconst (v := 1) hx hb dX3_say_44 rfl ?_
      refine lv_iadd hx hb dX3_say_45 ?_
      refine pX3_this_padMany hC hw dX3_say_46 (fun H locs hw => ?_)
      refine lv_aload_n hx hb dX3_say_49 rfl (lv_at hl 0 rfl) ?_
      refine gX3_this_padMany hC hw dX3_say_50 ?_
      obtain rfl := Option.some.inj hf
      exact ret _ _ _ _ _ dX3_say_53 rfl rfl hw
    · have hf := dk_t c2 hf
      refine lv_bipush (v := (-4)) hx hb dX3_say_26 rfl ?_
      obtain rfl := Option.some.inj hf
      exact ret _ _ _ _ _ dX3_say_28 rfl rfl hw
  · have hf := dk_t c3 hf
    refine lv_bipush (v := (-2)) hx hb dX3_say_14 rfl ?_
    obtain rfl := Option.some.inj hf
    exact ret _ _ _ _ _ dX3_say_16 rfl rfl hw
set_option maxHeartbeats 4000000 in
set_option maxRecDepth 100000 in
theorem metX3_wipe  {res : Int32 × Int32} (hf : fX3_wipe m_padMany = some res) : CtI l yX3_wipe cX3_wipe 2 .int 0 D E sz [.ref (h 0)] (WX3 h E m_cell m_points m_fouls m_evening m_sightStep m_sightCell m_sights m_pad m_padMany m_act m_which m_whither m_hard m_acts m_moving m_goes m_left m_touches m_cushions m_cushionsThen m_touchedFirst m_stepsThen m_downNow m_touchedMany m_cushionMany m_were m_had m_badAct m_badWhy m_foulAct m_met m_far m_fit m_now m_fitMany m_byCell m_wins m_chance m_kept m_isKept m_keptAt m_isWriting) (WX3 h E m_cell m_points m_fouls m_evening m_sightStep m_sightCell m_sights m_pad res.2 m_act m_which m_whither m_hard m_acts m_moving m_goes m_left m_touches m_cushions m_cushionsThen m_touchedFirst m_stepsThen m_downNow m_touchedMany m_cushionMany m_were m_had m_badAct m_badWhy m_foulAct m_met m_far m_fit m_now m_fitMany m_byCell m_wins m_chance m_kept m_isKept m_keptAt m_isWriting) res.1 := by
  refine startI (own := RX3) (by decide) rfl (Nat.le_of_ble_eq_true rfl) ?_
  intro p e s m args below meth c A Q ls hC ret hl hw
  have hx := hC.1.1
  have hb := hC.1.2.1
  have hown := hC.1.2.2.2.1
  have hts := hC.1.2.2.2.2
  have hl : lv_has ls 2 [(0, .ref (h 0))] := hl
  refine lv_aload_n hx hb dX3_wipe_0 rfl (lv_at hl 0 rfl) ?_
  refine gX3_this_padMany hC hw dX3_wipe_1 ?_
  refine lv_istore_n (lv' := [(1, .int m_padMany), (0, .ref (h 0))]) hx hb dX3_wipe_4 rfl hl (by decide) rfl (fun ls hl => ?_)
  refine lv_aload_n hx hb dX3_wipe_5 rfl (lv_at hl 1 rfl) ?_
  refine lv_iconst (v := 0) hx hb dX3_wipe_6 rfl ?_
  refine pX3_this_padMany hC hw dX3_wipe_7 (fun H locs hw => ?_)
  refine lv_iload_n hx hb dX3_wipe_10 rfl (lv_at hl 0 rfl) ?_
  obtain rfl := Option.some.inj hf
  exact ret _ _ _ _ _ dX3_wipe_11 rfl rfl hw
set_option maxHeartbeats 4000000 in
set_option maxRecDepth 100000 in
theorem metX3_close {v1 : Int32} {res : Int32 × (Nat → Int32) × Int32} (hf : fX3_close v1 m_act m_acts = some res) : CtI l yX3_close cX3_close 2 .int 0 D E sz [.ref (h 0), .int v1] (WX3 h E m_cell m_points m_fouls m_evening m_sightStep m_sightCell m_sights m_pad m_padMany m_act m_which m_whither m_hard m_acts m_moving m_goes m_left m_touches m_cushions m_cushionsThen m_touchedFirst m_stepsThen m_downNow m_touchedMany m_cushionMany m_were m_had m_badAct m_badWhy m_foulAct m_met m_far m_fit m_now m_fitMany m_byCell m_wins m_chance m_kept m_isKept m_keptAt m_isWriting) (WX3 h E m_cell m_points m_fouls m_evening m_sightStep m_sightCell m_sights m_pad m_padMany res.2.1 m_which m_whither m_hard res.2.2 m_moving m_goes m_left m_touches m_cushions m_cushionsThen m_touchedFirst m_stepsThen m_downNow m_touchedMany m_cushionMany m_were m_had m_badAct m_badWhy m_foulAct m_met m_far m_fit m_now m_fitMany m_byCell m_wins m_chance m_kept m_isKept m_keptAt m_isWriting) res.1 := by
  refine startI (own := RX3) (by decide) rfl (Nat.le_of_ble_eq_true rfl) ?_
  intro p e s m args below meth c A Q ls hC ret hl hw
  have hx := hC.1.1
  have hb := hC.1.2.1
  have hown := hC.1.2.2.2.1
  have hts := hC.1.2.2.2.2
  have hl : lv_has ls 2 [(0, .ref (h 0)), (1, .int v1)] := hl
  refine lv_aload_n hx hb dX3_close_0 rfl (lv_at hl 0 rfl) ?_
  refine gX3_this_act hC hw dX3_close_1 ?_
  refine lv_aload_n hx hb dX3_close_4 rfl (lv_at hl 0 rfl) ?_
  refine gX3_this_acts hC hw dX3_close_5 ?_
  refine lv_iload_n hx hb dX3_close_8 rfl (lv_at hl 1 rfl) ?_
  obtain ⟨b1, hf⟩ := dk_c hf
  refine sX3_m_act hC hw b1 dX3_close_9 (fun H locs hw => ?_)
  refine lv_aload_n hx hb dX3_close_10 rfl (lv_at hl 0 rfl) ?_
  refine lv_dup hx hb dX3_close_11 rfl ?_
  refine gX3_this_acts hC hw dX3_close_12 ?_
  refine lv_iconst (v := 1) hx hb dX3_close_15 rfl ?_
  refine lv_iadd hx hb dX3_close_16 ?_
  refine pX3_this_acts hC hw dX3_close_17 (fun H locs hw => ?_)
  refine lv_iconst (v := 0) hx hb dX3_close_20 rfl ?_
  obtain rfl := Option.some.inj hf
  exact ret _ _ _ _ _ dX3_close_21 rfl rfl hw
set_option maxHeartbeats 4000000 in
set_option maxRecDepth 100000 in
theorem metX3_begin {v1 : Int32} {res : Int32 × (Nat → Int32) × (Nat → Int32) × (Nat → Int32) × (Nat → Int32) × Int32} (hf : fX3_begin v1 m_act m_which m_whither m_hard m_acts = some res) : CtI l yX3_begin cX3_begin 3 .int 1 D E sz [.ref (h 0), .int v1] (WX3 h E m_cell m_points m_fouls m_evening m_sightStep m_sightCell m_sights m_pad m_padMany m_act m_which m_whither m_hard m_acts m_moving m_goes m_left m_touches m_cushions m_cushionsThen m_touchedFirst m_stepsThen m_downNow m_touchedMany m_cushionMany m_were m_had m_badAct m_badWhy m_foulAct m_met m_far m_fit m_now m_fitMany m_byCell m_wins m_chance m_kept m_isKept m_keptAt m_isWriting) (WX3 h E m_cell m_points m_fouls m_evening m_sightStep m_sightCell m_sights m_pad m_padMany res.2.1 res.2.2.1 res.2.2.2.1 res.2.2.2.2.1 res.2.2.2.2.2 m_moving m_goes m_left m_touches m_cushions m_cushionsThen m_touchedFirst m_stepsThen m_downNow m_touchedMany m_cushionMany m_were m_had m_badAct m_badWhy m_foulAct m_met m_far m_fit m_now m_fitMany m_byCell m_wins m_chance m_kept m_isKept m_keptAt m_isWriting) res.1 := by
  refine startI (own := RX3) (by decide) rfl (Nat.le_of_ble_eq_true rfl) ?_
  intro p e s m args below meth c A Q ls hC ret hl hw
  have hx := hC.1.1
  have hb := hC.1.2.1
  have hown := hC.1.2.2.2.1
  have hts := hC.1.2.2.2.2
  have hl : lv_has ls 3 [(0, .ref (h 0)), (1, .int v1)] := hl
  have L32 : ∀ (v2 : Int32) (k1 : Int32) (k2 : Int32) (m_act : Nat → Int32) (m_which : Nat → Int32) (m_whither : Nat → Int32) (m_hard : Nat → Int32) (m_acts : Int32) (H : Heap) (locs : List Loc) (ls : Array Slot), Wo D A s.heap H locs (WX3 h E m_cell m_points m_fouls m_evening m_sightStep m_sightCell m_sights m_pad m_padMany m_act m_which m_whither m_hard m_acts m_moving m_goes m_left m_touches m_cushions m_cushionsThen m_touchedFirst m_stepsThen m_downNow m_touchedMany m_cushionMany m_were m_had m_badAct m_badWhy m_foulAct m_met m_far m_fit m_now m_fitMany m_byCell m_wins m_chance m_kept m_isKept m_keptAt m_isWriting) → lv_has ls 3 [(0, .ref (h 0)), (1, .int v1), (2, .int v2)] → fX3_begin_L32 v1  v2 k1 k2 m_act m_which m_whither m_hard m_acts = some res → W p l e (rmN 1) s m args below meth c H locs 0 0 Q (F0 m 32 ls [.int k2, .int k1, .ref (h 6)]) := by
    intro  v2 k1 k2 m_act m_which m_whither m_hard m_acts H locs ls hw hl hf
    obtain ⟨b1, hf⟩ := dk_c hf
    refine sX3_m_which hC hw b1 dX3_begin_32 (fun H locs hw => ?_)
    refine lv_aload_n hx hb dX3_begin_33 rfl (lv_at hl 0 rfl) ?_
    refine gX3_this_whither hC hw dX3_begin_34 ?_
    refine lv_aload_n hx hb dX3_begin_37 rfl (lv_at hl 0 rfl) ?_
    refine gX3_this_acts hC hw dX3_begin_38 ?_
    refine lv_iconst (v := 0) hx hb dX3_begin_41 rfl ?_
    obtain ⟨b2, hf⟩ := dk_c hf
    refine sX3_m_whither hC hw b2 dX3_begin_42 (fun H locs hw => ?_)
    refine lv_aload_n hx hb dX3_begin_43 rfl (lv_at hl 0 rfl) ?_
    refine gX3_this_hard hC hw dX3_begin_44 ?_
    refine lv_aload_n hx hb dX3_begin_47 rfl (lv_at hl 0 rfl) ?_
    refine gX3_this_acts hC hw dX3_begin_48 ?_
    refine lv_iconst (v := 0) hx hb dX3_begin_51 rfl ?_
    obtain ⟨b3, hf⟩ := dk_c hf
    refine sX3_m_hard hC hw b3 dX3_begin_52 (fun H locs hw => ?_)
    refine lv_iload_n hx hb dX3_begin_53 rfl (lv_at hl 2 rfl) ?_
    refine lv_if_eq (tgt := 61) hx hb dX3_begin_54 rfl (fun c8 => ?_) (fun c8 => ?_)
    · have hf := dk_t c8 hf
      refine lv_iload_n hx hb dX3_begin_61 rfl (lv_at hl 1 rfl) ?_
      refine lv_bipush (v := 126) hx hb dX3_begin_62 rfl ?_
      refine lv_icmp_ne (tgt := 75) hx hb dX3_begin_64 rfl (fun c7 => ?_) (fun c7 => ?_)
      · have hf := dk_f c7 hf
        refine lv_iload_n hx hb dX3_begin_75 rfl (lv_at hl 1 rfl) ?_
        refine lv_bipush (v := 46) hx hb dX3_begin_76 rfl ?_
        refine lv_icmp_ne (tgt := 89) hx hb dX3_begin_78 rfl (fun c5 => ?_) (fun c5 => ?_)
        · have hf := dk_f c5 hf
          refine lv_bipush (v := (-6)) hx hb dX3_begin_89 rfl ?_
          obtain rfl := Option.some.inj hf
          exact ret _ _ _ _ _ dX3_begin_91 rfl rfl hw
        · have hf := dk_t c5 hf
          refine lv_aload_n hx hb dX3_begin_81 rfl (lv_at hl 0 rfl) ?_
          refine lv_iconst (v := 3) hx hb dX3_begin_82 rfl ?_
          obtain ⟨z4, hz4, hf⟩ := dk_b hf
          refine callVI (rest := []) 0 _ 3 hC hw (sm1 _) (metX3_close hz4) mi_X3_close q636 (rm_ok (by decide) (by decide)) rfl rfl rfl hl.1 rfl (Nat.le_of_ble_eq_true rfl) dX3_begin_83 ⟨Nat.zero_le _, Nat.zero_le _⟩ (sm2 _ _) (fun H locs hw => ?_)
          refine lv_goto (tgt := 91) hx hb dX3_begin_86 rfl ?_
          obtain rfl := Option.some.inj hf
          exact ret _ _ _ _ _ dX3_begin_91 rfl rfl hw
      · have hf := dk_t c7 hf
        refine lv_aload_n hx hb dX3_begin_67 rfl (lv_at hl 0 rfl) ?_
        refine lv_iconst (v := 2) hx hb dX3_begin_68 rfl ?_
        obtain ⟨z6, hz6, hf⟩ := dk_b hf
        refine callVI (rest := []) 0 _ 3 hC hw (sm1 _) (metX3_close hz6) mi_X3_close q636 (rm_ok (by decide) (by decide)) rfl rfl rfl hl.1 rfl (Nat.le_of_ble_eq_true rfl) dX3_begin_69 ⟨Nat.zero_le _, Nat.zero_le _⟩ (sm2 _ _) (fun H locs hw => ?_)
        refine lv_goto (tgt := 91) hx hb dX3_begin_72 rfl ?_
        obtain rfl := Option.some.inj hf
        exact ret _ _ _ _ _ dX3_begin_91 rfl rfl hw
    · have hf := dk_f c8 hf
      refine lv_iconst (v := 1) hx hb dX3_begin_57 rfl ?_
      refine lv_goto (tgt := 91) hx hb dX3_begin_58 rfl ?_
      obtain rfl := Option.some.inj hf
      exact ret _ _ _ _ _ dX3_begin_91 rfl rfl hw
  refine lv_iload_n hx hb dX3_begin_0 rfl (lv_at hl 1 rfl) ?_
  refine lv_i2l (v := (v1.toInt64)) hx hb dX3_begin_1 rfl ?_
  refine W.ldc2 (v := 65) hx hb hown (hts _ q634) rfl dX3_begin_2 ?_
  refine W.ldc2 (v := 67) hx hb hown (hts _ q635) rfl dX3_begin_5 ?_
  refine callSI (rest := []) 0 0 hC hw (st1 _) (metX3_in rfl) mi_X3_in q590 (rm_ok (by decide) (by decide)) rfl hl.1 rfl (Nat.le_of_ble_eq_true rfl) dX3_begin_8 ⟨Nat.zero_le _, Nat.zero_le _⟩ (st2 _) (fun H locs hw => ?_)
  refine lv_istore_n (lv' := [(2, .int (fX3_in (v1.toInt64) 65 67)), (0, .ref (h 0)), (1, .int v1)]) hx hb dX3_begin_11 rfl hl (by decide) rfl (fun ls hl => ?_)
  refine lv_aload_n hx hb dX3_begin_12 rfl (lv_at hl 1 rfl) ?_
  refine gX3_this_which hC hw dX3_begin_13 ?_
  refine lv_aload_n hx hb dX3_begin_16 rfl (lv_at hl 1 rfl) ?_
  refine gX3_this_acts hC hw dX3_begin_17 ?_
  refine lv_iload_n hx hb dX3_begin_20 rfl (lv_at hl 0 rfl) ?_
  refine lv_if_eq (tgt := 31) hx hb dX3_begin_21 rfl (fun c9 => ?_) (fun c9 => ?_)
  · have hf := dk_t c9 hf
    refine lv_iconst (v := 0) hx hb dX3_begin_31 rfl ?_
    exact L32 (fX3_in (v1.toInt64) 65 67) m_acts 0 m_act m_which m_whither m_hard m_acts _ _ _ hw (lv_sub hl [1, 2, 0] rfl) hf
  · have hf := dk_f c9 hf
    refine lv_iload_n hx hb dX3_begin_24 rfl (lv_at hl 2 rfl) ?_
    refine lv_bipush (v := 65) hx hb dX3_begin_25 rfl ?_
    refine lv_isub hx hb dX3_begin_27 ?_
    refine lv_goto (tgt := 32) hx hb dX3_begin_28 rfl ?_
    exact L32 (fX3_in (v1.toInt64) 65 67) m_acts (v1 - 65) m_act m_which m_whither m_hard m_acts _ _ _ hw (lv_sub hl [1, 2, 0] rfl) hf
set_option maxHeartbeats 4000000 in
set_option maxRecDepth 100000 in
theorem metX3_deed {v1 : Int32} {res : Int32 × (Nat → Int32) × (Nat → Int32) × Int32} (hf : fX3_deed v1 m_act m_whither m_acts = some res) : CtI l yX3_deed cX3_deed 2 .int 1 D E sz [.ref (h 0), .int v1] (WX3 h E m_cell m_points m_fouls m_evening m_sightStep m_sightCell m_sights m_pad m_padMany m_act m_which m_whither m_hard m_acts m_moving m_goes m_left m_touches m_cushions m_cushionsThen m_touchedFirst m_stepsThen m_downNow m_touchedMany m_cushionMany m_were m_had m_badAct m_badWhy m_foulAct m_met m_far m_fit m_now m_fitMany m_byCell m_wins m_chance m_kept m_isKept m_keptAt m_isWriting) (WX3 h E m_cell m_points m_fouls m_evening m_sightStep m_sightCell m_sights m_pad m_padMany res.2.1 m_which res.2.2.1 m_hard res.2.2.2 m_moving m_goes m_left m_touches m_cushions m_cushionsThen m_touchedFirst m_stepsThen m_downNow m_touchedMany m_cushionMany m_were m_had m_badAct m_badWhy m_foulAct m_met m_far m_fit m_now m_fitMany m_byCell m_wins m_chance m_kept m_isKept m_keptAt m_isWriting) res.1 := by
  refine startI (own := RX3) (by decide) rfl (Nat.le_of_ble_eq_true rfl) ?_
  intro p e s m args below meth c A Q ls hC ret hl hw
  have hx := hC.1.1
  have hb := hC.1.2.1
  have hown := hC.1.2.2.2.1
  have hts := hC.1.2.2.2.2
  have hl : lv_has ls 2 [(0, .ref (h 0)), (1, .int v1)] := hl
  refine lv_iload_n hx hb dX3_deed_0 rfl (lv_at hl 1 rfl) ?_
  refine lv_bipush (v := 94) hx hb dX3_deed_1 rfl ?_
  refine lv_icmp_ne (tgt := 12) hx hb dX3_deed_3 rfl (fun c4 => ?_) (fun c4 => ?_)
  · have hf := dk_f c4 hf
    refine lv_aload_n hx hb dX3_deed_12 rfl (lv_at hl 0 rfl) ?_
    refine gX3_this_whither hC hw dX3_deed_13 ?_
    refine lv_aload_n hx hb dX3_deed_16 rfl (lv_at hl 0 rfl) ?_
    refine gX3_this_acts hC hw dX3_deed_17 ?_
    refine lv_iload_n hx hb dX3_deed_20 rfl (lv_at hl 1 rfl) ?_
    refine lv_bipush (v := 48) hx hb dX3_deed_21 rfl ?_
    refine lv_isub hx hb dX3_deed_23 ?_
    obtain ⟨b1, hf⟩ := dk_c hf
    refine sX3_m_whither hC hw b1 dX3_deed_24 (fun H locs hw => ?_)
    refine lv_iload_n hx hb dX3_deed_25 rfl (lv_at hl 1 rfl) ?_
    refine lv_i2l (v := (v1.toInt64)) hx hb dX3_deed_26 rfl ?_
    refine W.ldc2 (v := 48) hx hb hown (hts _ q644) rfl dX3_deed_27 ?_
    refine W.ldc2 (v := 55) hx hb hown (hts _ q645) rfl dX3_deed_30 ?_
    refine callSI (rest := []) 0 0 hC hw (st1 _) (metX3_in rfl) mi_X3_in q590 (rm_ok (by decide) (by decide)) rfl hl.1 rfl (Nat.le_of_ble_eq_true rfl) dX3_deed_33 ⟨Nat.zero_le _, Nat.zero_le _⟩ (st2 _) (fun H locs hw => ?_)
    refine lv_if_eq (tgt := 43) hx hb dX3_deed_36 rfl (fun c2 => ?_) (fun c2 => ?_)
    · have hf := dk_t c2 hf
      refine lv_bipush (v := (-6)) hx hb dX3_deed_43 rfl ?_
      obtain rfl := Option.some.inj hf
      exact ret _ _ _ _ _ dX3_deed_45 rfl rfl hw
    · have hf := dk_f c2 hf
      refine lv_iconst (v := 2) hx hb dX3_deed_39 rfl ?_
      refine lv_goto (tgt := 45) hx hb dX3_deed_40 rfl ?_
      obtain rfl := Option.some.inj hf
      exact ret _ _ _ _ _ dX3_deed_45 rfl rfl hw
  · have hf := dk_t c4 hf
    refine lv_aload_n hx hb dX3_deed_6 rfl (lv_at hl 0 rfl) ?_
    refine lv_iconst (v := 1) hx hb dX3_deed_7 rfl ?_
    obtain ⟨z3, hz3, hf⟩ := dk_b hf
    refine callVI (rest := []) 0 _ 3 hC hw (sm1 _) (metX3_close hz3) mi_X3_close q636 (rm_ok (by decide) (by decide)) rfl rfl rfl hl.1 rfl (Nat.le_of_ble_eq_true rfl) dX3_deed_8 ⟨Nat.zero_le _, Nat.zero_le _⟩ (sm2 _ _) (fun H locs hw => ?_)
    obtain rfl := Option.some.inj hf
    exact ret _ _ _ _ _ dX3_deed_11 rfl rfl hw
set_option maxHeartbeats 4000000 in
set_option maxRecDepth 100000 in
theorem metX3_force {v1 : Int32} {res : Int32 × (Nat → Int32) × (Nat → Int32) × Int32} (hf : fX3_force v1 m_act m_hard m_acts = some res) : CtI l yX3_force cX3_force 2 .int 1 D E sz [.ref (h 0), .int v1] (WX3 h E m_cell m_points m_fouls m_evening m_sightStep m_sightCell m_sights m_pad m_padMany m_act m_which m_whither m_hard m_acts m_moving m_goes m_left m_touches m_cushions m_cushionsThen m_touchedFirst m_stepsThen m_downNow m_touchedMany m_cushionMany m_were m_had m_badAct m_badWhy m_foulAct m_met m_far m_fit m_now m_fitMany m_byCell m_wins m_chance m_kept m_isKept m_keptAt m_isWriting) (WX3 h E m_cell m_points m_fouls m_evening m_sightStep m_sightCell m_sights m_pad m_padMany res.2.1 m_which m_whither res.2.2.1 res.2.2.2 m_moving m_goes m_left m_touches m_cushions m_cushionsThen m_touchedFirst m_stepsThen m_downNow m_touchedMany m_cushionMany m_were m_had m_badAct m_badWhy m_foulAct m_met m_far m_fit m_now m_fitMany m_byCell m_wins m_chance m_kept m_isKept m_keptAt m_isWriting) res.1 := by
  refine startI (own := RX3) (by decide) rfl (Nat.le_of_ble_eq_true rfl) ?_
  intro p e s m args below meth c A Q ls hC ret hl hw
  have hx := hC.1.1
  have hb := hC.1.2.1
  have hown := hC.1.2.2.2.1
  have hts := hC.1.2.2.2.2
  have hl : lv_has ls 2 [(0, .ref (h 0)), (1, .int v1)] := hl
  refine lv_aload_n hx hb dX3_force_0 rfl (lv_at hl 0 rfl) ?_
  refine gX3_this_hard hC hw dX3_force_1 ?_
  refine lv_aload_n hx hb dX3_force_4 rfl (lv_at hl 0 rfl) ?_
  refine gX3_this_acts hC hw dX3_force_5 ?_
  refine lv_iload_n hx hb dX3_force_8 rfl (lv_at hl 1 rfl) ?_
  refine lv_bipush (v := 48) hx hb dX3_force_9 rfl ?_
  refine lv_isub hx hb dX3_force_11 ?_
  obtain ⟨b1, hf⟩ := dk_c hf
  refine sX3_m_hard hC hw b1 dX3_force_12 (fun H locs hw => ?_)
  refine lv_iload_n hx hb dX3_force_13 rfl (lv_at hl 1 rfl) ?_
  refine lv_i2l (v := (v1.toInt64)) hx hb dX3_force_14 rfl ?_
  refine W.ldc2 (v := 49) hx hb hown (hts _ q650) rfl dX3_force_15 ?_
  refine W.ldc2 (v := 57) hx hb hown (hts _ q651) rfl dX3_force_18 ?_
  refine callSI (rest := []) 0 0 hC hw (st1 _) (metX3_in rfl) mi_X3_in q590 (rm_ok (by decide) (by decide)) rfl hl.1 rfl (Nat.le_of_ble_eq_true rfl) dX3_force_21 ⟨Nat.zero_le _, Nat.zero_le _⟩ (st2 _) (fun H locs hw => ?_)
  refine lv_if_eq (tgt := 35) hx hb dX3_force_24 rfl (fun c3 => ?_) (fun c3 => ?_)
  · have hf := dk_t c3 hf
    refine lv_bipush (v := (-6)) hx hb dX3_force_35 rfl ?_
    obtain rfl := Option.some.inj hf
    exact ret _ _ _ _ _ dX3_force_37 rfl rfl hw
  · have hf := dk_f c3 hf
    refine lv_aload_n hx hb dX3_force_27 rfl (lv_at hl 0 rfl) ?_
    refine lv_iconst (v := 0) hx hb dX3_force_28 rfl ?_
    obtain ⟨z2, hz2, hf⟩ := dk_b hf
    refine callVI (rest := []) 0 _ 3 hC hw (sm1 _) (metX3_close hz2) mi_X3_close q636 (rm_ok (by decide) (by decide)) rfl rfl rfl hl.1 rfl (Nat.le_of_ble_eq_true rfl) dX3_force_29 ⟨Nat.zero_le _, Nat.zero_le _⟩ (sm2 _ _) (fun H locs hw => ?_)
    refine lv_goto (tgt := 37) hx hb dX3_force_32 rfl ?_
    obtain rfl := Option.some.inj hf
    exact ret _ _ _ _ _ dX3_force_37 rfl rfl hw
set_option maxHeartbeats 4000000 in
set_option maxRecDepth 100000 in
theorem metX3_readOn {v1 : Int32} {v2 : Int32} {res : Int32 × (Nat → Int32) × (Nat → Int32) × (Nat → Int32) × (Nat → Int32) × Int32} (hf : fX3_readOn v1 v2 m_act m_which m_whither m_hard m_acts = some res) : CtI l yX3_readOn cX3_readOn 3 .int 2 D E sz [.ref (h 0), .int v1, .int v2] (WX3 h E m_cell m_points m_fouls m_evening m_sightStep m_sightCell m_sights m_pad m_padMany m_act m_which m_whither m_hard m_acts m_moving m_goes m_left m_touches m_cushions m_cushionsThen m_touchedFirst m_stepsThen m_downNow m_touchedMany m_cushionMany m_were m_had m_badAct m_badWhy m_foulAct m_met m_far m_fit m_now m_fitMany m_byCell m_wins m_chance m_kept m_isKept m_keptAt m_isWriting) (WX3 h E m_cell m_points m_fouls m_evening m_sightStep m_sightCell m_sights m_pad m_padMany res.2.1 res.2.2.1 res.2.2.2.1 res.2.2.2.2.1 res.2.2.2.2.2 m_moving m_goes m_left m_touches m_cushions m_cushionsThen m_touchedFirst m_stepsThen m_downNow m_touchedMany m_cushionMany m_were m_had m_badAct m_badWhy m_foulAct m_met m_far m_fit m_now m_fitMany m_byCell m_wins m_chance m_kept m_isKept m_keptAt m_isWriting) res.1 := by
  refine startI (own := RX3) (by decide) rfl (Nat.le_of_ble_eq_true rfl) ?_
  intro p e s m args below meth c A Q ls hC ret hl hw
  have hx := hC.1.1
  have hb := hC.1.2.1
  have hown := hC.1.2.2.2.1
  have hts := hC.1.2.2.2.2
  have hl : lv_has ls 3 [(0, .ref (h 0)), (1, .int v1), (2, .int v2)] := hl
  refine lv_iload_n hx hb dX3_readOn_0 rfl (lv_at hl 1 rfl) ?_
  refine lv_if_ne (tgt := 12) hx hb dX3_readOn_1 rfl (fun c5 => ?_) (fun c5 => ?_)
  · have hf := dk_f c5 hf
    refine lv_iload_n hx hb dX3_readOn_12 rfl (lv_at hl 1 rfl) ?_
    refine lv_iconst (v := 1) hx hb dX3_readOn_13 rfl ?_
    refine lv_icmp_ne (tgt := 25) hx hb dX3_readOn_14 rfl (fun c3 => ?_) (fun c3 => ?_)
    · have hf := dk_f c3 hf
      refine lv_aload_n hx hb dX3_readOn_25 rfl (lv_at hl 0 rfl) ?_
      refine lv_iload_n hx hb dX3_readOn_26 rfl (lv_at hl 2 rfl) ?_
      obtain ⟨z1, hz1, hf⟩ := dk_b hf
      refine callVI (rest := []) 0 _ 3 hC hw (sm1 _) (metX3_force hz1) mi_X3_force q646 (rm_ok (by decide) (by decide)) rfl rfl rfl hl.1 rfl (Nat.le_of_ble_eq_true rfl) dX3_readOn_27 ⟨Nat.zero_le _, Nat.zero_le _⟩ (sm2 _ _) (fun H locs hw => ?_)
      obtain rfl := Option.some.inj hf
      exact ret _ _ _ _ _ dX3_readOn_30 rfl rfl hw
    · have hf := dk_t c3 hf
      refine lv_aload_n hx hb dX3_readOn_17 rfl (lv_at hl 0 rfl) ?_
      refine lv_iload_n hx hb dX3_readOn_18 rfl (lv_at hl 2 rfl) ?_
      obtain ⟨z2, hz2, hf⟩ := dk_b hf
      refine callVI (rest := []) 0 _ 3 hC hw (sm1 _) (metX3_deed hz2) mi_X3_deed q640 (rm_ok (by decide) (by decide)) rfl rfl rfl hl.1 rfl (Nat.le_of_ble_eq_true rfl) dX3_readOn_19 ⟨Nat.zero_le _, Nat.zero_le _⟩ (sm2 _ _) (fun H locs hw => ?_)
      refine lv_goto (tgt := 30) hx hb dX3_readOn_22 rfl ?_
      obtain rfl := Option.some.inj hf
      exact ret _ _ _ _ _ dX3_readOn_30 rfl rfl hw
  · have hf := dk_t c5 hf
    refine lv_aload_n hx hb dX3_readOn_4 rfl (lv_at hl 0 rfl) ?_
    refine lv_iload_n hx hb dX3_readOn_5 rfl (lv_at hl 2 rfl) ?_
    obtain ⟨z4, hz4, hf⟩ := dk_b hf
    refine callVI (rest := []) 0 _ 3 hC hw (sm1 _) (metX3_begin hz4) mi_X3_begin q630 (rm_ok (by decide) (by decide)) rfl rfl rfl hl.1 rfl (Nat.le_of_ble_eq_true rfl) dX3_readOn_6 ⟨Nat.zero_le _, Nat.zero_le _⟩ (sm2 _ _) (fun H locs hw => ?_)
    refine lv_goto (tgt := 30) hx hb dX3_readOn_9 rfl ?_
    obtain rfl := Option.some.inj hf
    exact ret _ _ _ _ _ dX3_readOn_30 rfl rfl hw
set_option maxHeartbeats 4000000 in
set_option maxRecDepth 100000 in
theorem metX3_fault  {res : Int32 × (Nat → Int32) × (Nat → Int32) × (Nat → Int32) × (Nat → Int32) × Int32} (hf : fX3_fault m_pad m_padMany m_act m_which m_whither m_hard m_acts = some res) : CtI l yX3_fault cX3_fault 3 .int 3 D E sz [.ref (h 0)] (WX3 h E m_cell m_points m_fouls m_evening m_sightStep m_sightCell m_sights m_pad m_padMany m_act m_which m_whither m_hard m_acts m_moving m_goes m_left m_touches m_cushions m_cushionsThen m_touchedFirst m_stepsThen m_downNow m_touchedMany m_cushionMany m_were m_had m_badAct m_badWhy m_foulAct m_met m_far m_fit m_now m_fitMany m_byCell m_wins m_chance m_kept m_isKept m_keptAt m_isWriting) (WX3 h E m_cell m_points m_fouls m_evening m_sightStep m_sightCell m_sights m_pad m_padMany res.2.1 res.2.2.1 res.2.2.2.1 res.2.2.2.2.1 res.2.2.2.2.2 m_moving m_goes m_left m_touches m_cushions m_cushionsThen m_touchedFirst m_stepsThen m_downNow m_touchedMany m_cushionMany m_were m_had m_badAct m_badWhy m_foulAct m_met m_far m_fit m_now m_fitMany m_byCell m_wins m_chance m_kept m_isKept m_keptAt m_isWriting) res.1 := by
  refine startI (own := RX3) (by decide) rfl (Nat.le_of_ble_eq_true rfl) ?_
  intro p e s m args below meth c A Q ls hC ret hl hw
  have hx := hC.1.1
  have hb := hC.1.2.1
  have hown := hC.1.2.2.2.1
  have hts := hC.1.2.2.2.2
  have hl : lv_has ls 3 [(0, .ref (h 0))] := hl
  have L9 : ∀ (n : Nat), ∀ (v1 : Int32) (v2 : Int32) (m_act : Nat → Int32) (m_which : Nat → Int32) (m_whither : Nat → Int32) (m_hard : Nat → Int32) (m_acts : Int32) (H : Heap) (locs : List Loc) (ls : Array Slot), Wo D A s.heap H locs (WX3 h E m_cell m_points m_fouls m_evening m_sightStep m_sightCell m_sights m_pad m_padMany m_act m_which m_whither m_hard m_acts m_moving m_goes m_left m_touches m_cushions m_cushionsThen m_touchedFirst m_stepsThen m_downNow m_touchedMany m_cushionMany m_were m_had m_badAct m_badWhy m_foulAct m_met m_far m_fit m_now m_fitMany m_byCell m_wins m_chance m_kept m_isKept m_keptAt m_isWriting) → lv_has ls 3 [(0, .ref (h 0)), (1, .int v1), (2, .int v2)] → fX3_fault_L9 m_pad m_padMany  n v1 v2 m_act m_which m_whither m_hard m_acts = some res → W p l e (rmN 3) s m args below meth c H locs 0 0 Q (F0 m 9 ls []) := by
    intro  n
    induction n with
    | zero =>
      intro v1 v2 m_act m_which m_whither m_hard m_acts H locs ls hw hl hf
      exact dk_n hf
    | succ n ih =>
      intro v1 v2 m_act m_which m_whither m_hard m_acts H locs ls hw hl hf
      refine lv_iload_n hx hb dX3_fault_9 rfl (lv_at hl 2 rfl) ?_
      refine lv_aload_n hx hb dX3_fault_10 rfl (lv_at hl 0 rfl) ?_
      refine gX3_this_padMany hC hw dX3_fault_11 ?_
      refine lv_icmp_ge (tgt := 41) hx hb dX3_fault_14 rfl (fun c5 => ?_) (fun c5 => ?_)
      · have hf := dk_t c5 hf
        refine lv_iload_n hx hb dX3_fault_41 rfl (lv_at hl 1 rfl) ?_
        refine lv_if_ne (tgt := 50) hx hb dX3_fault_42 rfl (fun c1 => ?_) (fun c1 => ?_)
        · have hf := dk_f c1 hf
          refine lv_aload_n hx hb dX3_fault_50 rfl (lv_at hl 0 rfl) ?_
          refine gX3_this_padMany hC hw dX3_fault_51 ?_
          obtain rfl := Option.some.inj hf
          exact ret _ _ _ _ _ dX3_fault_54 rfl rfl hw
        · have hf := dk_t c1 hf
          refine lv_bipush (v := (-6)) hx hb dX3_fault_45 rfl ?_
          refine lv_goto (tgt := 54) hx hb dX3_fault_47 rfl ?_
          obtain rfl := Option.some.inj hf
          exact ret _ _ _ _ _ dX3_fault_54 rfl rfl hw
      · have hf := dk_f c5 hf
        refine lv_aload_n hx hb dX3_fault_17 rfl (lv_at hl 0 rfl) ?_
        refine lv_iload_n hx hb dX3_fault_18 rfl (lv_at hl 1 rfl) ?_
        refine lv_aload_n hx hb dX3_fault_19 rfl (lv_at hl 0 rfl) ?_
        refine gX3_this_pad hC hw dX3_fault_20 ?_
        refine lv_iload_n hx hb dX3_fault_23 rfl (lv_at hl 2 rfl) ?_
        obtain ⟨b2, hf⟩ := dk_c hf
        refine aX3_m_pad hC hw b2 dX3_fault_24 ?_
        obtain ⟨z3, hz3, hf⟩ := dk_b hf
        refine callVI (rest := []) 0 _ 3 hC hw (sm1 _) (metX3_readOn hz3) mi_X3_readOn q626 (rm_ok (by decide) (by decide)) rfl rfl rfl hl.1 rfl (Nat.le_of_ble_eq_true rfl) dX3_fault_25 ⟨Nat.zero_le _, Nat.zero_le _⟩ (sm2 _ _) (fun H locs hw => ?_)
        refine lv_istore_n (lv' := [(1, .int z3.1), (0, .ref (h 0)), (2, .int v2)]) hx hb dX3_fault_28 rfl hl (by decide) rfl (fun ls hl => ?_)
        refine lv_iload_n hx hb dX3_fault_29 rfl (lv_at hl 0 rfl) ?_
        refine lv_if_ge (tgt := 35) hx hb dX3_fault_30 rfl (fun c4 => ?_) (fun c4 => ?_)
        · have hf := dk_t c4 hf
          refine lv_iinc (v := (v2 + 1)) (lv' := [(2, .int (v2 + 1)), (1, .int z3.1), (0, .ref (h 0))]) hx hb dX3_fault_35 hl (k := 2) rfl rfl (by decide) rfl (fun ls hl => ?_)
          refine lv_goto (tgt := 9) hx hb dX3_fault_38 rfl ?_
          exact ih z3.1 (v2 + 1) z3.2.1 z3.2.2.1 z3.2.2.2.1 z3.2.2.2.2.1 z3.2.2.2.2.2 _ _ _ hw (lv_sub hl [2, 1, 0] rfl) hf
        · have hf := dk_f c4 hf
          refine lv_iload_n hx hb dX3_fault_33 rfl (lv_at hl 2 rfl) ?_
          obtain rfl := Option.some.inj hf
          exact ret _ _ _ _ _ dX3_fault_34 rfl rfl hw
  refine lv_aload_n hx hb dX3_fault_0 rfl (lv_at hl 0 rfl) ?_
  refine lv_iconst (v := 0) hx hb dX3_fault_1 rfl ?_
  refine pX3_this_acts hC hw dX3_fault_2 (fun H locs hw => ?_)
  refine lv_iconst (v := 0) hx hb dX3_fault_5 rfl ?_
  refine lv_istore_n (lv' := [(1, .int 0), (0, .ref (h 0))]) hx hb dX3_fault_6 rfl hl (by decide) rfl (fun ls hl => ?_)
  refine lv_iconst (v := 0) hx hb dX3_fault_7 rfl ?_
  refine lv_istore_n (lv' := [(2, .int 0), (1, .int 0), (0, .ref (h 0))]) hx hb dX3_fault_8 rfl hl (by decide) rfl (fun ls hl => ?_)
  exact L9 FU 0 0 m_act m_which m_whither m_hard 0 _ _ _ hw (lv_sub hl [2, 1, 0] rfl) hf
set_option maxHeartbeats 4000000 in
set_option maxRecDepth 100000 in
theorem metX3_keepNow  {res : (Nat → Int32)} (hf : fX3_keepNow m_cell m_points m_fouls m_evening m_had = some res) : CtV l yX3_keepNow cX3_keepNow 2 0 D E sz [.ref (h 0)] (WX3 h E m_cell m_points m_fouls m_evening m_sightStep m_sightCell m_sights m_pad m_padMany m_act m_which m_whither m_hard m_acts m_moving m_goes m_left m_touches m_cushions m_cushionsThen m_touchedFirst m_stepsThen m_downNow m_touchedMany m_cushionMany m_were m_had m_badAct m_badWhy m_foulAct m_met m_far m_fit m_now m_fitMany m_byCell m_wins m_chance m_kept m_isKept m_keptAt m_isWriting) (WX3 h E m_cell m_points m_fouls m_evening m_sightStep m_sightCell m_sights m_pad m_padMany m_act m_which m_whither m_hard m_acts m_moving m_goes m_left m_touches m_cushions m_cushionsThen m_touchedFirst m_stepsThen m_downNow m_touchedMany m_cushionMany m_were res m_badAct m_badWhy m_foulAct m_met m_far m_fit m_now m_fitMany m_byCell m_wins m_chance m_kept m_isKept m_keptAt m_isWriting) := by
  refine startV (own := RX3) (by decide) rfl (Nat.le_of_ble_eq_true rfl) ?_
  intro p e s m args below meth c A Q ls hC ret hl hw
  have hx := hC.1.1
  have hb := hC.1.2.1
  have hown := hC.1.2.2.2.1
  have hts := hC.1.2.2.2.2
  have hl : lv_has ls 2 [(0, .ref (h 0))] := hl
  have L2 : ∀ (n : Nat), ∀ (v1 : Int32) (m_had : Nat → Int32) (H : Heap) (locs : List Loc) (ls : Array Slot), Wo D A s.heap H locs (WX3 h E m_cell m_points m_fouls m_evening m_sightStep m_sightCell m_sights m_pad m_padMany m_act m_which m_whither m_hard m_acts m_moving m_goes m_left m_touches m_cushions m_cushionsThen m_touchedFirst m_stepsThen m_downNow m_touchedMany m_cushionMany m_were m_had m_badAct m_badWhy m_foulAct m_met m_far m_fit m_now m_fitMany m_byCell m_wins m_chance m_kept m_isKept m_keptAt m_isWriting) → lv_has ls 2 [(0, .ref (h 0)), (1, .int v1)] → fX3_keepNow_L2 m_cell m_points m_fouls m_evening  n v1 m_had = some res → W p l e (rmN 0) s m args below meth c H locs 0 0 Q (F0 m 2 ls []) := by
    intro  n
    induction n with
    | zero =>
      intro v1 m_had H locs ls hw hl hf
      exact dk_n hf
    | succ n ih =>
      intro v1 m_had H locs ls hw hl hf
      refine lv_iload_n hx hb dX3_keepNow_2 rfl (lv_at hl 1 rfl) ?_
      refine lv_iconst (v := 3) hx hb dX3_keepNow_3 rfl ?_
      refine lv_icmp_ge (tgt := 25) hx hb dX3_keepNow_4 rfl (fun c6 => ?_) (fun c6 => ?_)
      · have hf := dk_t c6 hf
        refine lv_aload_n hx hb dX3_keepNow_25 rfl (lv_at hl 0 rfl) ?_
        refine gX3_this_had hC hw dX3_keepNow_26 ?_
        refine lv_iconst (v := 3) hx hb dX3_keepNow_29 rfl ?_
        refine lv_aload_n hx hb dX3_keepNow_30 rfl (lv_at hl 0 rfl) ?_
        refine gX3_this_points hC hw dX3_keepNow_31 ?_
        obtain ⟨b1, hf⟩ := dk_c hf
        refine sX3_m_had hC hw b1 dX3_keepNow_34 (fun H locs hw => ?_)
        refine lv_aload_n hx hb dX3_keepNow_35 rfl (lv_at hl 0 rfl) ?_
        refine gX3_this_had hC hw dX3_keepNow_36 ?_
        refine lv_iconst (v := 4) hx hb dX3_keepNow_39 rfl ?_
        refine lv_aload_n hx hb dX3_keepNow_40 rfl (lv_at hl 0 rfl) ?_
        refine gX3_this_fouls hC hw dX3_keepNow_41 ?_
        obtain ⟨b2, hf⟩ := dk_c hf
        refine sX3_m_had hC hw b2 dX3_keepNow_44 (fun H locs hw => ?_)
        refine lv_aload_n hx hb dX3_keepNow_45 rfl (lv_at hl 0 rfl) ?_
        refine gX3_this_had hC hw dX3_keepNow_46 ?_
        refine lv_iconst (v := 5) hx hb dX3_keepNow_49 rfl ?_
        refine lv_aload_n hx hb dX3_keepNow_50 rfl (lv_at hl 0 rfl) ?_
        refine gX3_this_evening hC hw dX3_keepNow_51 ?_
        obtain ⟨b3, hf⟩ := dk_c hf
        refine sX3_m_had hC hw b3 dX3_keepNow_54 (fun H locs hw => ?_)
        obtain rfl := Option.some.inj hf
        exact ret _ _ _ _ dX3_keepNow_55 hw
      · have hf := dk_f c6 hf
        refine lv_aload_n hx hb dX3_keepNow_7 rfl (lv_at hl 0 rfl) ?_
        refine gX3_this_had hC hw dX3_keepNow_8 ?_
        refine lv_iload_n hx hb dX3_keepNow_11 rfl (lv_at hl 1 rfl) ?_
        refine lv_aload_n hx hb dX3_keepNow_12 rfl (lv_at hl 0 rfl) ?_
        refine gX3_this_cell hC hw dX3_keepNow_13 ?_
        refine lv_iload_n hx hb dX3_keepNow_16 rfl (lv_at hl 1 rfl) ?_
        obtain ⟨b4, hf⟩ := dk_c hf
        refine aX3_m_cell hC hw b4 dX3_keepNow_17 ?_
        obtain ⟨b5, hf⟩ := dk_c hf
        refine sX3_m_had hC hw b5 dX3_keepNow_18 (fun H locs hw => ?_)
        refine lv_iinc (v := (v1 + 1)) (lv' := [(1, .int (v1 + 1)), (0, .ref (h 0))]) hx hb dX3_keepNow_19 hl (k := 1) rfl rfl (by decide) rfl (fun ls hl => ?_)
        refine lv_goto (tgt := 2) hx hb dX3_keepNow_22 rfl ?_
        exact ih (v1 + 1) (upd m_had v1.toNatClampNeg (m_cell v1.toNatClampNeg)) _ _ _ hw (lv_sub hl [1, 0] rfl) hf
  refine lv_iconst (v := 0) hx hb dX3_keepNow_0 rfl ?_
  refine lv_istore_n (lv' := [(1, .int 0), (0, .ref (h 0))]) hx hb dX3_keepNow_1 rfl hl (by decide) rfl (fun ls hl => ?_)
  exact L2 FU 0 m_had _ _ _ hw (lv_sub hl [1, 0] rfl) hf
set_option maxHeartbeats 4000000 in
set_option maxRecDepth 100000 in
theorem metX3_whyNot {v1 : Int32} {v2 : Int32} {res : Int32} (hf : fX3_whyNot v1 v2 m_cell m_evening = some res) : CtI l yX3_whyNot cX3_whyNot 3 .int 1 D E sz [.ref (h 0), .int v1, .int v2] (WX3 h E m_cell m_points m_fouls m_evening m_sightStep m_sightCell m_sights m_pad m_padMany m_act m_which m_whither m_hard m_acts m_moving m_goes m_left m_touches m_cushions m_cushionsThen m_touchedFirst m_stepsThen m_downNow m_touchedMany m_cushionMany m_were m_had m_badAct m_badWhy m_foulAct m_met m_far m_fit m_now m_fitMany m_byCell m_wins m_chance m_kept m_isKept m_keptAt m_isWriting) (WX3 h E m_cell m_points m_fouls m_evening m_sightStep m_sightCell m_sights m_pad m_padMany m_act m_which m_whither m_hard m_acts m_moving m_goes m_left m_touches m_cushions m_cushionsThen m_touchedFirst m_stepsThen m_downNow m_touchedMany m_cushionMany m_were m_had m_badAct m_badWhy m_foulAct m_met m_far m_fit m_now m_fitMany m_byCell m_wins m_chance m_kept m_isKept m_keptAt m_isWriting) res := by
  refine startI (own := RX3) (by decide) rfl (Nat.le_of_ble_eq_true rfl) ?_
  intro p e s m args below meth c A Q ls hC ret hl hw
  have hx := hC.1.1
  have hb := hC.1.2.1
  have hown := hC.1.2.2.2.1
  have hts := hC.1.2.2.2.2
  have hl : lv_has ls 3 [(0, .ref (h 0)), (1, .int v1), (2, .int v2)] := hl
  refine lv_iload_n hx hb dX3_whyNot_0 rfl (lv_at hl 1 rfl) ?_
  by_cases c1 : v1 = 0
  · have hf := dk_t c1 hf
    refine lv_tableIn (tgt := 32) hx hb dX3_whyNot_1 (by rw [c1] <;> decide) (by rw [c1] <;> decide) (by rw [c1] <;> rfl) rfl ?_
    refine lv_aload_n hx hb dX3_whyNot_32 rfl (lv_at hl 0 rfl) ?_
    refine gX3_this_cell hC hw dX3_whyNot_33 ?_
    refine lv_iload_n hx hb dX3_whyNot_36 rfl (lv_at hl 2 rfl) ?_
    obtain ⟨b2, hf⟩ := dk_c hf
    refine aX3_m_cell hC hw b2 dX3_whyNot_37 ?_
    refine lv_if_ge (tgt := 45) hx hb dX3_whyNot_38 rfl (fun c3 => ?_) (fun c3 => ?_)
    · have hf := dk_t c3 hf
      refine lv_iconst (v := 0) hx hb dX3_whyNot_45 rfl ?_
      exact ret _ _ _ _ _ dX3_whyNot_46 rfl (Option.some.inj hf) hw
    · have hf := dk_f c3 hf
      refine lv_iconst (v := 1) hx hb dX3_whyNot_41 rfl ?_
      refine lv_goto (tgt := 46) hx hb dX3_whyNot_42 rfl ?_
      exact ret _ _ _ _ _ dX3_whyNot_46 rfl (Option.some.inj hf) hw
  · have hf := dk_f c1 hf
    by_cases c4 : v1 = 1
    · have hf := dk_t c4 hf
      refine lv_tableIn (tgt := 47) hx hb dX3_whyNot_1 (by rw [c4] <;> decide) (by rw [c4] <;> decide) (by rw [c4] <;> rfl) rfl ?_
      refine lv_aload_n hx hb dX3_whyNot_47 rfl (lv_at hl 0 rfl) ?_
      refine gX3_this_cell hC hw dX3_whyNot_48 ?_
      refine lv_iload_n hx hb dX3_whyNot_51 rfl (lv_at hl 2 rfl) ?_
      obtain ⟨b5, hf⟩ := dk_c hf
      refine aX3_m_cell hC hw b5 dX3_whyNot_52 ?_
      refine lv_if_lt (tgt := 60) hx hb dX3_whyNot_53 rfl (fun c8 => ?_) (fun c8 => ?_)
      · have hf := dk_t c8 hf
        refine lv_aload_n hx hb dX3_whyNot_60 rfl (lv_at hl 0 rfl) ?_
        refine lv_iload_n hx hb dX3_whyNot_61 rfl (lv_at hl 2 rfl) ?_
        refine callSI (rest := [.ref (h 0)]) 0 0 hC hw (st1 _) (metX3_home rfl) mi_X3_home q452 (rm_ok (by decide) (by decide)) rfl hl.1 rfl (Nat.le_of_ble_eq_true rfl) dX3_whyNot_62 ⟨Nat.zero_le _, Nat.zero_le _⟩ (st2 _) (fun H locs hw => ?_)
        obtain ⟨z6, hz6, hf⟩ := dk_b hf
        refine callVI (rest := []) 0 _ 3 hC hw (sm1 _) (metX3_ballOn hz6) mi_X3_ballOn q603 (rm_ok (by decide) (by decide)) rfl rfl rfl hl.1 rfl (Nat.le_of_ble_eq_true rfl) dX3_whyNot_65 ⟨Nat.zero_le _, Nat.zero_le _⟩ (sm2 _ _) (fun H locs hw => ?_)
        refine lv_if_lt (tgt := 75) hx hb dX3_whyNot_68 rfl (fun c7 => ?_) (fun c7 => ?_)
        · have hf := dk_t c7 hf
          refine lv_iconst (v := 0) hx hb dX3_whyNot_75 rfl ?_
          exact ret _ _ _ _ _ dX3_whyNot_76 rfl (Option.some.inj hf) hw
        · have hf := dk_f c7 hf
          refine lv_iconst (v := 2) hx hb dX3_whyNot_71 rfl ?_
          refine lv_goto (tgt := 76) hx hb dX3_whyNot_72 rfl ?_
          exact ret _ _ _ _ _ dX3_whyNot_76 rfl (Option.some.inj hf) hw
      · have hf := dk_f c8 hf
        refine lv_iconst (v := 1) hx hb dX3_whyNot_56 rfl ?_
        refine lv_goto (tgt := 76) hx hb dX3_whyNot_57 rfl ?_
        exact ret _ _ _ _ _ dX3_whyNot_76 rfl (Option.some.inj hf) hw
    · have hf := dk_f c4 hf
      by_cases c9 : v1 = 2
      · have hf := dk_t c9 hf
        refine lv_tableIn (tgt := 92) hx hb dX3_whyNot_1 (by rw [c9] <;> decide) (by rw [c9] <;> decide) (by rw [c9] <;> rfl) rfl ?_
        refine lv_iconst (v := 0) hx hb dX3_whyNot_92 rfl ?_
        exact ret _ _ _ _ _ dX3_whyNot_93 rfl (Option.some.inj hf) hw
      · have hf := dk_f c9 hf
        by_cases c10 : v1 = 3
        · have hf := dk_t c10 hf
          refine lv_tableIn (tgt := 77) hx hb dX3_whyNot_1 (by rw [c10] <;> decide) (by rw [c10] <;> decide) (by rw [c10] <;> rfl) rfl ?_
          refine lv_aload_n hx hb dX3_whyNot_77 rfl (lv_at hl 0 rfl) ?_
          refine gX3_this_evening hC hw dX3_whyNot_78 ?_
          refine lv_bipush (v := 99) hx hb dX3_whyNot_81 rfl ?_
          refine lv_icmp_ne (tgt := 90) hx hb dX3_whyNot_83 rfl (fun c11 => ?_) (fun c11 => ?_)
          · have hf := dk_f c11 hf
            refine lv_iconst (v := 0) hx hb dX3_whyNot_90 rfl ?_
            exact ret _ _ _ _ _ dX3_whyNot_91 rfl (Option.some.inj hf) hw
          · have hf := dk_t c11 hf
            refine lv_iconst (v := 3) hx hb dX3_whyNot_86 rfl ?_
            refine lv_goto (tgt := 91) hx hb dX3_whyNot_87 rfl ?_
            exact ret _ _ _ _ _ dX3_whyNot_91 rfl (Option.some.inj hf) hw
        · have hf := dk_f c10 hf
          refine lv_tableOut (tgt := 92) hx hb dX3_whyNot_1 (by have e0 : v1.toInt ≠ 0 := fun h => c1 (Int32.toInt_inj.mp (h.trans (by decide))); have e1 : v1.toInt ≠ 1 := fun h => c4 (Int32.toInt_inj.mp (h.trans (by decide))); have e2 : v1.toInt ≠ 2 := fun h => c9 (Int32.toInt_inj.mp (h.trans (by decide))); have e3 : v1.toInt ≠ 3 := fun h => c10 (Int32.toInt_inj.mp (h.trans (by decide))); omega) rfl ?_
          refine lv_iconst (v := 0) hx hb dX3_whyNot_92 rfl ?_
          exact ret _ _ _ _ _ dX3_whyNot_93 rfl (Option.some.inj hf) hw
set_option maxHeartbeats 4000000 in
set_option maxRecDepth 100000 in
theorem metX3_drift {v1 : Int32} {res : (Nat → Int32)} (hf : fX3_drift v1 m_cell = some res) : CtV l yX3_drift cX3_drift 3 1 D E sz [.ref (h 0), .int v1] (WX3 h E m_cell m_points m_fouls m_evening m_sightStep m_sightCell m_sights m_pad m_padMany m_act m_which m_whither m_hard m_acts m_moving m_goes m_left m_touches m_cushions m_cushionsThen m_touchedFirst m_stepsThen m_downNow m_touchedMany m_cushionMany m_were m_had m_badAct m_badWhy m_foulAct m_met m_far m_fit m_now m_fitMany m_byCell m_wins m_chance m_kept m_isKept m_keptAt m_isWriting) (WX3 h E res m_points m_fouls m_evening m_sightStep m_sightCell m_sights m_pad m_padMany m_act m_which m_whither m_hard m_acts m_moving m_goes m_left m_touches m_cushions m_cushionsThen m_touchedFirst m_stepsThen m_downNow m_touchedMany m_cushionMany m_were m_had m_badAct m_badWhy m_foulAct m_met m_far m_fit m_now m_fitMany m_byCell m_wins m_chance m_kept m_isKept m_keptAt m_isWriting) := by
  refine startV (own := RX3) (by decide) rfl (Nat.le_of_ble_eq_true rfl) ?_
  intro p e s m args below meth c A Q ls hC ret hl hw
  have hx := hC.1.1
  have hb := hC.1.2.1
  have hown := hC.1.2.2.2.1
  have hts := hC.1.2.2.2.2
  have hl : lv_has ls 3 [(0, .ref (h 0)), (1, .int v1)] := hl
  refine lv_aload_n hx hb dX3_drift_0 rfl (lv_at hl 0 rfl) ?_
  refine gX3_this_cell hC hw dX3_drift_1 ?_
  refine lv_iload_n hx hb dX3_drift_4 rfl (lv_at hl 1 rfl) ?_
  obtain ⟨b1, hf⟩ := dk_c hf
  refine aX3_m_cell hC hw b1 dX3_drift_5 ?_
  refine lv_istore_n (lv' := [(2, .int (m_cell v1.toNatClampNeg)), (0, .ref (h 0)), (1, .int v1)]) hx hb dX3_drift_6 rfl hl (by decide) rfl (fun ls hl => ?_)
  refine lv_iload_n hx hb dX3_drift_7 rfl (lv_at hl 0 rfl) ?_
  refine lv_if_lt (tgt := 46) hx hb dX3_drift_8 rfl (fun c7 => ?_) (fun c7 => ?_)
  · have hf := dk_t c7 hf
    obtain rfl := Option.some.inj hf
    exact ret _ _ _ _ dX3_drift_46 hw
  · have hf := dk_f c7 hf
    refine lv_iload_n hx hb dX3_drift_11 rfl (lv_at hl 0 rfl) ?_
    refine lv_bipush (v := 9) hx hb dX3_drift_12 rfl ?_
    refine lv_irem hx hb dX3_drift_14 (by decide) ?_
    refine lv_if_le (tgt := 46) hx hb dX3_drift_15 rfl (fun c6 => ?_) (fun c6 => ?_)
    · have hf := dk_t c6 hf
      obtain rfl := Option.some.inj hf
      exact ret _ _ _ _ dX3_drift_46 hw
    · have hf := dk_f c6 hf
      refine lv_iload_n hx hb dX3_drift_18 rfl (lv_at hl 0 rfl) ?_
      refine lv_iconst (v := 1) hx hb dX3_drift_19 rfl ?_
      refine lv_isub hx hb dX3_drift_20 ?_
      refine callSI (rest := []) 0 0 hC hw (st1 _) (metX3_isPocket rfl) mi_X3_isPocket q600 (rm_ok (by decide) (by decide)) rfl hl.1 rfl (Nat.le_of_ble_eq_true rfl) dX3_drift_21 ⟨Nat.zero_le _, Nat.zero_le _⟩ (st2 _) (fun H locs hw => ?_)
      refine lv_if_ne (tgt := 46) hx hb dX3_drift_24 rfl (fun c5 => ?_) (fun c5 => ?_)
      · have hf := dk_f c5 hf
        obtain rfl := Option.some.inj hf
        exact ret _ _ _ _ dX3_drift_46 hw
      · have hf := dk_t c5 hf
        refine lv_aload_n hx hb dX3_drift_27 rfl (lv_at hl 1 rfl) ?_
        refine lv_iload_n hx hb dX3_drift_28 rfl (lv_at hl 0 rfl) ?_
        refine lv_iconst (v := 1) hx hb dX3_drift_29 rfl ?_
        refine lv_isub hx hb dX3_drift_30 ?_
        obtain ⟨z2, hz2, hf⟩ := dk_b hf
        refine callVI (rest := []) 0 _ 3 hC hw (sm1 _) (metX3_ballOn hz2) mi_X3_ballOn q603 (rm_ok (by decide) (by decide)) rfl rfl rfl hl.1 rfl (Nat.le_of_ble_eq_true rfl) dX3_drift_31 ⟨Nat.zero_le _, Nat.zero_le _⟩ (sm2 _ _) (fun H locs hw => ?_)
        refine lv_if_ge (tgt := 46) hx hb dX3_drift_34 rfl (fun c4 => ?_) (fun c4 => ?_)
        · have hf := dk_t c4 hf
          obtain rfl := Option.some.inj hf
          exact ret _ _ _ _ dX3_drift_46 hw
        · have hf := dk_f c4 hf
          refine lv_aload_n hx hb dX3_drift_37 rfl (lv_at hl 1 rfl) ?_
          refine gX3_this_cell hC hw dX3_drift_38 ?_
          refine lv_iload_n hx hb dX3_drift_41 rfl (lv_at hl 2 rfl) ?_
          refine lv_iload_n hx hb dX3_drift_42 rfl (lv_at hl 0 rfl) ?_
          refine lv_iconst (v := 1) hx hb dX3_drift_43 rfl ?_
          refine lv_isub hx hb dX3_drift_44 ?_
          obtain ⟨b3, hf⟩ := dk_c hf
          refine sX3_m_cell hC hw b3 dX3_drift_45 (fun H locs hw => ?_)
          obtain rfl := Option.some.inj hf
          exact ret _ _ _ _ dX3_drift_46 hw
set_option maxHeartbeats 4000000 in
set_option maxRecDepth 100000 in
theorem metX3_nap  {res : (Nat → Int32) × (Nat → Int32)} (hf : fX3_nap m_cell m_were = some res) : CtV l yX3_nap cX3_nap 3 2 D E sz [.ref (h 0)] (WX3 h E m_cell m_points m_fouls m_evening m_sightStep m_sightCell m_sights m_pad m_padMany m_act m_which m_whither m_hard m_acts m_moving m_goes m_left m_touches m_cushions m_cushionsThen m_touchedFirst m_stepsThen m_downNow m_touchedMany m_cushionMany m_were m_had m_badAct m_badWhy m_foulAct m_met m_far m_fit m_now m_fitMany m_byCell m_wins m_chance m_kept m_isKept m_keptAt m_isWriting) (WX3 h E res.1 m_points m_fouls m_evening m_sightStep m_sightCell m_sights m_pad m_padMany m_act m_which m_whither m_hard m_acts m_moving m_goes m_left m_touches m_cushions m_cushionsThen m_touchedFirst m_stepsThen m_downNow m_touchedMany m_cushionMany res.2 m_had m_badAct m_badWhy m_foulAct m_met m_far m_fit m_now m_fitMany m_byCell m_wins m_chance m_kept m_isKept m_keptAt m_isWriting) := by
  refine startV (own := RX3) (by decide) rfl (Nat.le_of_ble_eq_true rfl) ?_
  intro p e s m args below meth c A Q ls hC ret hl hw
  have hx := hC.1.1
  have hb := hC.1.2.1
  have hown := hC.1.2.2.2.1
  have hts := hC.1.2.2.2.2
  have hl : lv_has ls 3 [(0, .ref (h 0))] := hl
  have L38 : ∀ (k30c : Int32 → (Nat → Int32) → (Nat → Int32) → Option ((Nat → Int32) × (Nat → Int32))) (hk30 : ∀ (v1 : Int32) (m_cell : Nat → Int32) (m_were : Nat → Int32) (H : Heap) (locs : List Loc) (ls : Array Slot), Wo D A s.heap H locs (WX3 h E m_cell m_points m_fouls m_evening m_sightStep m_sightCell m_sights m_pad m_padMany m_act m_which m_whither m_hard m_acts m_moving m_goes m_left m_touches m_cushions m_cushionsThen m_touchedFirst m_stepsThen m_downNow m_touchedMany m_cushionMany m_were m_had m_badAct m_badWhy m_foulAct m_met m_far m_fit m_now m_fitMany m_byCell m_wins m_chance m_kept m_isKept m_keptAt m_isWriting) → lv_has ls 3 [(0, .ref (h 0)), (1, .int v1)] → k30c v1 m_cell m_were = some res → W p l e (rmN 2) s m args below meth c H locs 0 0 Q (F0 m 30 ls [])) (n : Nat), ∀ (v1 : Int32) (v2 : Int32) (m_cell : Nat → Int32) (m_were : Nat → Int32) (H : Heap) (locs : List Loc) (ls : Array Slot), Wo D A s.heap H locs (WX3 h E m_cell m_points m_fouls m_evening m_sightStep m_sightCell m_sights m_pad m_padMany m_act m_which m_whither m_hard m_acts m_moving m_goes m_left m_touches m_cushions m_cushionsThen m_touchedFirst m_stepsThen m_downNow m_touchedMany m_cushionMany m_were m_had m_badAct m_badWhy m_foulAct m_met m_far m_fit m_now m_fitMany m_byCell m_wins m_chance m_kept m_isKept m_keptAt m_isWriting) → lv_has ls 3 [(0, .ref (h 0)), (1, .int v1), (2, .int v2)] → fX3_nap_L38  k30c n v1 v2 m_cell m_were = some res → W p l e (rmN 2) s m args below meth c H locs 0 0 Q (F0 m 38 ls []) := by
    intro k30c hk30 n
    induction n with
    | zero =>
      intro v1 v2 m_cell m_were H locs ls hw hl hf
      exact dk_n hf
    | succ n ih =>
      intro v1 v2 m_cell m_were H locs ls hw hl hf
      refine lv_iload_n hx hb dX3_nap_38 rfl (lv_at hl 2 rfl) ?_
      refine lv_iconst (v := 3) hx hb dX3_nap_39 rfl ?_
      refine lv_icmp_ge (tgt := 64) hx hb dX3_nap_40 rfl (fun c4 => ?_) (fun c4 => ?_)
      · have hf := dk_t c4 hf
        refine lv_iinc (v := (v1 + 1)) (lv' := [(1, .int (v1 + 1)), (0, .ref (h 0)), (2, .int v2)]) hx hb dX3_nap_64 hl (k := 1) rfl rfl (by decide) rfl (fun ls hl => ?_)
        refine lv_goto (tgt := 30) hx hb dX3_nap_67 rfl ?_
        exact hk30 (v1 + 1) m_cell m_were _ _ _ hw (lv_sub hl [1, 0] rfl) hf
      · have hf := dk_f c4 hf
        refine lv_aload_n hx hb dX3_nap_43 rfl (lv_at hl 0 rfl) ?_
        refine gX3_this_were hC hw dX3_nap_44 ?_
        refine lv_iload_n hx hb dX3_nap_47 rfl (lv_at hl 2 rfl) ?_
        obtain ⟨b1, hf⟩ := dk_c hf
        refine aX3_m_were hC hw b1 dX3_nap_48 ?_
        refine lv_iload_n hx hb dX3_nap_49 rfl (lv_at hl 1 rfl) ?_
        refine lv_icmp_ne (tgt := 58) hx hb dX3_nap_50 rfl (fun c3 => ?_) (fun c3 => ?_)
        · have hf := dk_f c3 hf
          refine lv_iinc (v := (v2 + 1)) (lv' := [(2, .int (v2 + 1)), (0, .ref (h 0)), (1, .int v1)]) hx hb dX3_nap_58 hl (k := 2) rfl rfl (by decide) rfl (fun ls hl => ?_)
          refine lv_goto (tgt := 38) hx hb dX3_nap_61 rfl ?_
          exact ih v1 (v2 + 1) m_cell m_were _ _ _ hw (lv_sub hl [1, 2, 0] rfl) hf
        · have hf := dk_t c3 hf
          refine lv_aload_n hx hb dX3_nap_53 rfl (lv_at hl 0 rfl) ?_
          refine lv_iload_n hx hb dX3_nap_54 rfl (lv_at hl 2 rfl) ?_
          obtain ⟨z2, hz2, hf⟩ := dk_b hf
          refine callVV (rest := []) 0 _ 3 hC hw (sm1 _) (metX3_drift hz2) mi_X3_drift q714 (rm_ok (by decide) (by decide)) rfl rfl rfl hl.1 rfl (Nat.le_of_ble_eq_true rfl) dX3_nap_55 ⟨Nat.zero_le _, Nat.zero_le _⟩ (sm2 _ _) (fun H locs hw => ?_)
          refine lv_iinc (v := (v2 + 1)) (lv' := [(2, .int (v2 + 1)), (0, .ref (h 0)), (1, .int v1)]) hx hb dX3_nap_58 hl (k := 2) rfl rfl (by decide) rfl (fun ls hl => ?_)
          refine lv_goto (tgt := 38) hx hb dX3_nap_61 rfl ?_
          exact ih v1 (v2 + 1) z2 m_were _ _ _ hw (lv_sub hl [1, 2, 0] rfl) hf
  have L30 : ∀ (n : Nat), ∀ (v1 : Int32) (m_cell : Nat → Int32) (m_were : Nat → Int32) (H : Heap) (locs : List Loc) (ls : Array Slot), Wo D A s.heap H locs (WX3 h E m_cell m_points m_fouls m_evening m_sightStep m_sightCell m_sights m_pad m_padMany m_act m_which m_whither m_hard m_acts m_moving m_goes m_left m_touches m_cushions m_cushionsThen m_touchedFirst m_stepsThen m_downNow m_touchedMany m_cushionMany m_were m_had m_badAct m_badWhy m_foulAct m_met m_far m_fit m_now m_fitMany m_byCell m_wins m_chance m_kept m_isKept m_keptAt m_isWriting) → lv_has ls 3 [(0, .ref (h 0)), (1, .int v1)] → fX3_nap_L30   n v1 m_cell m_were = some res → W p l e (rmN 2) s m args below meth c H locs 0 0 Q (F0 m 30 ls []) := by
    intro  n
    induction n with
    | zero =>
      intro v1 m_cell m_were H locs ls hw hl hf
      exact dk_n hf
    | succ n ih =>
      intro v1 m_cell m_were H locs ls hw hl hf
      refine lv_iload_n hx hb dX3_nap_30 rfl (lv_at hl 1 rfl) ?_
      refine lv_bipush (v := 9) hx hb dX3_nap_31 rfl ?_
      refine lv_icmp_ge (tgt := 70) hx hb dX3_nap_33 rfl (fun c5 => ?_) (fun c5 => ?_)
      · have hf := dk_t c5 hf
        obtain rfl := Option.some.inj hf
        exact ret _ _ _ _ dX3_nap_70 hw
      · have hf := dk_f c5 hf
        refine lv_iconst (v := 0) hx hb dX3_nap_36 rfl ?_
        refine lv_istore_n (lv' := [(2, .int 0), (0, .ref (h 0)), (1, .int v1)]) hx hb dX3_nap_37 rfl hl (by decide) rfl (fun ls hl => ?_)
        exact L38 (fun y0 y1 y2 => fX3_nap_L30  n y0 y1 y2) ih FU v1 0 m_cell m_were _ _ _ hw (lv_sub hl [1, 2, 0] rfl) hf
  have L2 : ∀ (n : Nat), ∀ (v1 : Int32) (m_cell : Nat → Int32) (m_were : Nat → Int32) (H : Heap) (locs : List Loc) (ls : Array Slot), Wo D A s.heap H locs (WX3 h E m_cell m_points m_fouls m_evening m_sightStep m_sightCell m_sights m_pad m_padMany m_act m_which m_whither m_hard m_acts m_moving m_goes m_left m_touches m_cushions m_cushionsThen m_touchedFirst m_stepsThen m_downNow m_touchedMany m_cushionMany m_were m_had m_badAct m_badWhy m_foulAct m_met m_far m_fit m_now m_fitMany m_byCell m_wins m_chance m_kept m_isKept m_keptAt m_isWriting) → lv_has ls 3 [(0, .ref (h 0)), (1, .int v1)] → fX3_nap_L2   n v1 m_cell m_were = some res → W p l e (rmN 2) s m args below meth c H locs 0 0 Q (F0 m 2 ls []) := by
    intro  n
    induction n with
    | zero =>
      intro v1 m_cell m_were H locs ls hw hl hf
      exact dk_n hf
    | succ n ih =>
      intro v1 m_cell m_were H locs ls hw hl hf
      refine lv_iload_n hx hb dX3_nap_2 rfl (lv_at hl 1 rfl) ?_
      refine lv_iconst (v := 3) hx hb dX3_nap_3 rfl ?_
      refine lv_icmp_ge (tgt := 28) hx hb dX3_nap_4 rfl (fun c8 => ?_) (fun c8 => ?_)
      · have hf := dk_t c8 hf
        refine lv_iconst (v := 0) hx hb dX3_nap_28 rfl ?_
        refine lv_istore_n (lv' := [(1, .int 0), (0, .ref (h 0))]) hx hb dX3_nap_29 rfl hl (by decide) rfl (fun ls hl => ?_)
        exact L30 FU 0 m_cell m_were _ _ _ hw (lv_sub hl [1, 0] rfl) hf
      · have hf := dk_f c8 hf
        refine lv_aload_n hx hb dX3_nap_7 rfl (lv_at hl 0 rfl) ?_
        refine gX3_this_were hC hw dX3_nap_8 ?_
        refine lv_iload_n hx hb dX3_nap_11 rfl (lv_at hl 1 rfl) ?_
        refine lv_aload_n hx hb dX3_nap_12 rfl (lv_at hl 0 rfl) ?_
        refine gX3_this_cell hC hw dX3_nap_13 ?_
        refine lv_iload_n hx hb dX3_nap_16 rfl (lv_at hl 1 rfl) ?_
        obtain ⟨b6, hf⟩ := dk_c hf
        refine aX3_m_cell hC hw b6 dX3_nap_17 ?_
        refine callSI (rest := [.int v1, .ref (h 9)]) 0 0 hC hw (st1 _) (metX3_columnOf rfl) mi_X3_columnOf q711 (rm_ok (by decide) (by decide)) rfl hl.1 rfl (Nat.le_of_ble_eq_true rfl) dX3_nap_18 ⟨Nat.zero_le _, Nat.zero_le _⟩ (st2 _) (fun H locs hw => ?_)
        obtain ⟨b7, hf⟩ := dk_c hf
        refine sX3_m_were hC hw b7 dX3_nap_21 (fun H locs hw => ?_)
        refine lv_iinc (v := (v1 + 1)) (lv' := [(1, .int (v1 + 1)), (0, .ref (h 0))]) hx hb dX3_nap_22 hl (k := 1) rfl rfl (by decide) rfl (fun ls hl => ?_)
        refine lv_goto (tgt := 2) hx hb dX3_nap_25 rfl ?_
        exact ih (v1 + 1) m_cell (upd m_were v1.toNatClampNeg (fX3_columnOf (m_cell v1.toNatClampNeg))) _ _ _ hw (lv_sub hl [1, 0] rfl) hf
  refine lv_iconst (v := 0) hx hb dX3_nap_0 rfl ?_
  refine lv_istore_n (lv' := [(1, .int 0), (0, .ref (h 0))]) hx hb dX3_nap_1 rfl hl (by decide) rfl (fun ls hl => ?_)
  exact L2 FU 0 m_cell m_were _ _ _ hw (lv_sub hl [1, 0] rfl) hf
set_option maxHeartbeats 4000000 in
set_option maxRecDepth 100000 in
theorem metX3_touch {v1 : Int32} {v2 : Int32} {res : Int32 × Int32 × Int32 × Int32 × Int32} (hf : fX3_touch v1 v2 m_moving m_left m_touches m_cushions m_cushionsThen m_touchedFirst m_stepsThen = some res) : CtV l yX3_touch cX3_touch 3 0 D E sz [.ref (h 0), .int v1, .int v2] (WX3 h E m_cell m_points m_fouls m_evening m_sightStep m_sightCell m_sights m_pad m_padMany m_act m_which m_whither m_hard m_acts m_moving m_goes m_left m_touches m_cushions m_cushionsThen m_touchedFirst m_stepsThen m_downNow m_touchedMany m_cushionMany m_were m_had m_badAct m_badWhy m_foulAct m_met m_far m_fit m_now m_fitMany m_byCell m_wins m_chance m_kept m_isKept m_keptAt m_isWriting) (WX3 h E m_cell m_points m_fouls m_evening m_sightStep m_sightCell m_sights m_pad m_padMany m_act m_which m_whither m_hard m_acts res.1 m_goes m_left res.2.1 m_cushions res.2.2.1 res.2.2.2.1 res.2.2.2.2 m_downNow m_touchedMany m_cushionMany m_were m_had m_badAct m_badWhy m_foulAct m_met m_far m_fit m_now m_fitMany m_byCell m_wins m_chance m_kept m_isKept m_keptAt m_isWriting) := by
  refine startV (own := RX3) (by decide) rfl (Nat.le_of_ble_eq_true rfl) ?_
  intro p e s m args below meth c A Q ls hC ret hl hw
  have hx := hC.1.1
  have hb := hC.1.2.1
  have hown := hC.1.2.2.2.1
  have hts := hC.1.2.2.2.2
  have hl : lv_has ls 3 [(0, .ref (h 0)), (1, .int v1), (2, .int v2)] := hl
  refine lv_aload_n hx hb dX3_touch_0 rfl (lv_at hl 0 rfl) ?_
  refine lv_dup hx hb dX3_touch_1 rfl ?_
  refine gX3_this_touches hC hw dX3_touch_2 ?_
  refine lv_iconst (v := 1) hx hb dX3_touch_5 rfl ?_
  refine lv_iadd hx hb dX3_touch_6 ?_
  refine pX3_this_touches hC hw dX3_touch_7 (fun H locs hw => ?_)
  refine lv_aload_n hx hb dX3_touch_10 rfl (lv_at hl 0 rfl) ?_
  refine gX3_this_touchedFirst hC hw dX3_touch_11 ?_
  refine lv_if_ge (tgt := 40) hx hb dX3_touch_14 rfl (fun c1 => ?_) (fun c1 => ?_)
  · have hf := dk_t c1 hf
    refine lv_aload_n hx hb dX3_touch_40 rfl (lv_at hl 0 rfl) ?_
    refine lv_iload_n hx hb dX3_touch_41 rfl (lv_at hl 1 rfl) ?_
    refine pX3_this_moving hC hw dX3_touch_42 (fun H locs hw => ?_)
    obtain rfl := Option.some.inj hf
    exact ret _ _ _ _ dX3_touch_45 hw
  · have hf := dk_f c1 hf
    refine lv_aload_n hx hb dX3_touch_17 rfl (lv_at hl 0 rfl) ?_
    refine lv_iload_n hx hb dX3_touch_18 rfl (lv_at hl 1 rfl) ?_
    refine pX3_this_touchedFirst hC hw dX3_touch_19 (fun H locs hw => ?_)
    refine lv_aload_n hx hb dX3_touch_22 rfl (lv_at hl 0 rfl) ?_
    refine lv_aload_n hx hb dX3_touch_23 rfl (lv_at hl 0 rfl) ?_
    refine gX3_this_cushions hC hw dX3_touch_24 ?_
    refine pX3_this_cushionsThen hC hw dX3_touch_27 (fun H locs hw => ?_)
    refine lv_aload_n hx hb dX3_touch_30 rfl (lv_at hl 0 rfl) ?_
    refine lv_iload_n hx hb dX3_touch_31 rfl (lv_at hl 2 rfl) ?_
    refine lv_aload_n hx hb dX3_touch_32 rfl (lv_at hl 0 rfl) ?_
    refine gX3_this_left hC hw dX3_touch_33 ?_
    refine lv_isub hx hb dX3_touch_36 ?_
    refine pX3_this_stepsThen hC hw dX3_touch_37 (fun H locs hw => ?_)
    refine lv_aload_n hx hb dX3_touch_40 rfl (lv_at hl 0 rfl) ?_
    refine lv_iload_n hx hb dX3_touch_41 rfl (lv_at hl 1 rfl) ?_
    refine pX3_this_moving hC hw dX3_touch_42 (fun H locs hw => ?_)
    obtain rfl := Option.some.inj hf
    exact ret _ _ _ _ dX3_touch_45 hw
set_option maxHeartbeats 4000000 in
set_option maxRecDepth 100000 in
theorem metX3_step {v1 : Int32} {res : (Nat → Int32) × Int32 × Int32 × Int32 × Int32 × Int32 × Int32 × Int32 × Int32 × Int32} (hf : fX3_step v1 m_cell m_moving m_goes m_left m_touches m_cushions m_cushionsThen m_touchedFirst m_stepsThen m_downNow = some res) : CtV l yX3_step cX3_step 5 2 D E sz [.ref (h 0), .int v1] (WX3 h E m_cell m_points m_fouls m_evening m_sightStep m_sightCell m_sights m_pad m_padMany m_act m_which m_whither m_hard m_acts m_moving m_goes m_left m_touches m_cushions m_cushionsThen m_touchedFirst m_stepsThen m_downNow m_touchedMany m_cushionMany m_were m_had m_badAct m_badWhy m_foulAct m_met m_far m_fit m_now m_fitMany m_byCell m_wins m_chance m_kept m_isKept m_keptAt m_isWriting) (WX3 h E res.1 m_points m_fouls m_evening m_sightStep m_sightCell m_sights m_pad m_padMany m_act m_which m_whither m_hard m_acts res.2.1 res.2.2.1 res.2.2.2.1 res.2.2.2.2.1 res.2.2.2.2.2.1 res.2.2.2.2.2.2.1 res.2.2.2.2.2.2.2.1 res.2.2.2.2.2.2.2.2.1 res.2.2.2.2.2.2.2.2.2 m_touchedMany m_cushionMany m_were m_had m_badAct m_badWhy m_foulAct m_met m_far m_fit m_now m_fitMany m_byCell m_wins m_chance m_kept m_isKept m_keptAt m_isWriting) := by
  refine startV (own := RX3) (by decide) rfl (Nat.le_of_ble_eq_true rfl) ?_
  intro p e s m args below meth c A Q ls hC ret hl hw
  have hx := hC.1.1
  have hb := hC.1.2.1
  have hown := hC.1.2.2.2.1
  have hts := hC.1.2.2.2.2
  have hl : lv_has ls 5 [(0, .ref (h 0)), (1, .int v1)] := hl
  have L35 : ∀ (v2 : Int32) (k1 : Int32) (k2 : Int32) (m_cell : Nat → Int32) (m_moving : Int32) (m_goes : Int32) (m_left : Int32) (m_touches : Int32) (m_cushions : Int32) (m_cushionsThen : Int32) (m_touchedFirst : Int32) (m_stepsThen : Int32) (m_downNow : Int32) (H : Heap) (locs : List Loc) (ls : Array Slot), Wo D A s.heap H locs (WX3 h E m_cell m_points m_fouls m_evening m_sightStep m_sightCell m_sights m_pad m_padMany m_act m_which m_whither m_hard m_acts m_moving m_goes m_left m_touches m_cushions m_cushionsThen m_touchedFirst m_stepsThen m_downNow m_touchedMany m_cushionMany m_were m_had m_badAct m_badWhy m_foulAct m_met m_far m_fit m_now m_fitMany m_byCell m_wins m_chance m_kept m_isKept m_keptAt m_isWriting) → lv_has ls 5 [(0, .ref (h 0)), (1, .int v1), (2, .int v2)] → fX3_step_L35 v1  v2 k1 k2 m_cell m_moving m_goes m_left m_touches m_cushions m_cushionsThen m_touchedFirst m_stepsThen m_downNow = some res → W p l e (rmN 2) s m args below meth c H locs 0 0 Q (F0 m 35 ls [.int k2, .int k1, .ref (h 0)]) := by
    intro  v2 k1 k2 m_cell m_moving m_goes m_left m_touches m_cushions m_cushionsThen m_touchedFirst m_stepsThen m_downNow H locs ls hw hl hf
    refine lv_iadd hx hb dX3_step_35 ?_
    refine pX3_this_cushions hC hw dX3_step_36 (fun H locs hw => ?_)
    refine lv_aload_n hx hb dX3_step_39 rfl (lv_at hl 0 rfl) ?_
    refine lv_iload_n hx hb dX3_step_40 rfl (lv_at hl 2 rfl) ?_
    refine pX3_this_goes hC hw dX3_step_41 (fun H locs hw => ?_)
    refine lv_aload_n hx hb dX3_step_44 rfl (lv_at hl 0 rfl) ?_
    refine lv_dup hx hb dX3_step_45 rfl ?_
    refine gX3_this_left hC hw dX3_step_46 ?_
    refine lv_iconst (v := 1) hx hb dX3_step_49 rfl ?_
    refine lv_isub hx hb dX3_step_50 ?_
    refine pX3_this_left hC hw dX3_step_51 (fun H locs hw => ?_)
    refine lv_aload_n hx hb dX3_step_54 rfl (lv_at hl 0 rfl) ?_
    refine gX3_this_cell hC hw dX3_step_55 ?_
    refine lv_aload_n hx hb dX3_step_58 rfl (lv_at hl 0 rfl) ?_
    refine gX3_this_moving hC hw dX3_step_59 ?_
    obtain ⟨b2, hf⟩ := dk_c hf
    refine aX3_m_cell hC hw b2 dX3_step_62 ?_
    refine lv_aload_n hx hb dX3_step_63 rfl (lv_at hl 0 rfl) ?_
    refine gX3_this_goes hC hw dX3_step_64 ?_
    refine callSI (rest := []) 0 0 hC hw (st1 _) (metX3_ahead rfl) mi_X3_ahead q700 (rm_ok (by decide) (by decide)) rfl hl.1 rfl (Nat.le_of_ble_eq_true rfl) dX3_step_67 ⟨Nat.zero_le _, Nat.zero_le _⟩ (st2 _) (fun H locs hw => ?_)
    refine lv_istore_n (lv' := [(3, .int (fX3_ahead (m_cell m_moving.toNatClampNeg) v2)), (0, .ref (h 0)), (1, .int v1), (2, .int v2)]) hx hb dX3_step_70 rfl hl (by decide) rfl (fun ls hl => ?_)
    refine lv_aload_n hx hb dX3_step_71 rfl (lv_at hl 1 rfl) ?_
    refine lv_iload_n hx hb dX3_step_72 rfl (lv_at hl 0 rfl) ?_
    obtain ⟨z3, hz3, hf⟩ := dk_b hf
    refine callVI (rest := []) 0 _ 3 hC hw (sm1 _) (metX3_ballOn hz3) mi_X3_ballOn q603 (rm_ok (by decide) (by decide)) rfl rfl rfl hl.1 rfl (Nat.le_of_ble_eq_true rfl) dX3_step_73 ⟨Nat.zero_le _, Nat.zero_le _⟩ (sm2 _ _) (fun H locs hw => ?_)
    refine lv_istore (lv' := [(4, .int z3), (3, .int (fX3_ahead (m_cell m_moving.toNatClampNeg) v2)), (0, .ref (h 0)), (1, .int v1), (2, .int v2)]) hx hb dX3_step_76 hl (by decide) rfl (fun ls hl => ?_)
    refine lv_iload hx hb dX3_step_78 (lv_at hl 0 rfl) ?_
    refine lv_if_lt (tgt := 91) hx hb dX3_step_80 rfl (fun c8 => ?_) (fun c8 => ?_)
    · have hf := dk_t c8 hf
      refine lv_aload_n hx hb dX3_step_91 rfl (lv_at hl 2 rfl) ?_
      refine gX3_this_cell hC hw dX3_step_92 ?_
      refine lv_aload_n hx hb dX3_step_95 rfl (lv_at hl 2 rfl) ?_
      refine gX3_this_moving hC hw dX3_step_96 ?_
      refine lv_iload_n hx hb dX3_step_99 rfl (lv_at hl 1 rfl) ?_
      obtain ⟨b4, hf⟩ := dk_c hf
      refine sX3_m_cell hC hw b4 dX3_step_100 (fun H locs hw => ?_)
      refine lv_iload_n hx hb dX3_step_101 rfl (lv_at hl 1 rfl) ?_
      refine callSI (rest := []) 0 0 hC hw (st1 _) (metX3_isPocket rfl) mi_X3_isPocket q600 (rm_ok (by decide) (by decide)) rfl hl.1 rfl (Nat.le_of_ble_eq_true rfl) dX3_step_102 ⟨Nat.zero_le _, Nat.zero_le _⟩ (st2 _) (fun H locs hw => ?_)
      refine lv_if_eq (tgt := 127) hx hb dX3_step_105 rfl (fun c6 => ?_) (fun c6 => ?_)
      · have hf := dk_t c6 hf
        obtain rfl := Option.some.inj hf
        exact ret _ _ _ _ dX3_step_127 hw
      · have hf := dk_f c6 hf
        refine lv_aload_n hx hb dX3_step_108 rfl (lv_at hl 2 rfl) ?_
        refine gX3_this_cell hC hw dX3_step_109 ?_
        refine lv_aload_n hx hb dX3_step_112 rfl (lv_at hl 2 rfl) ?_
        refine gX3_this_moving hC hw dX3_step_113 ?_
        refine lv_bipush (v := (-6)) hx hb dX3_step_116 rfl ?_
        obtain ⟨b5, hf⟩ := dk_c hf
        refine sX3_m_cell hC hw b5 dX3_step_118 (fun H locs hw => ?_)
        refine lv_aload_n hx hb dX3_step_119 rfl (lv_at hl 2 rfl) ?_
        refine lv_aload_n hx hb dX3_step_120 rfl (lv_at hl 2 rfl) ?_
        refine gX3_this_moving hC hw dX3_step_121 ?_
        refine pX3_this_downNow hC hw dX3_step_124 (fun H locs hw => ?_)
        obtain rfl := Option.some.inj hf
        exact ret _ _ _ _ dX3_step_127 hw
    · have hf := dk_f c8 hf
      refine lv_aload_n hx hb dX3_step_83 rfl (lv_at hl 2 rfl) ?_
      refine lv_iload hx hb dX3_step_84 (lv_at hl 0 rfl) ?_
      refine lv_iload_n hx hb dX3_step_86 rfl (lv_at hl 3 rfl) ?_
      obtain ⟨z7, hz7, hf⟩ := dk_b hf
      refine callVV (rest := []) 0 _ 3 hC hw (sm1 _) (metX3_touch hz7) mi_X3_touch q703 (rm_ok (by decide) (by decide)) rfl rfl rfl hl.1 rfl (Nat.le_of_ble_eq_true rfl) dX3_step_87 ⟨Nat.zero_le _, Nat.zero_le _⟩ (sm2 _ _) (fun H locs hw => ?_)
      obtain rfl := Option.some.inj hf
      exact ret _ _ _ _ dX3_step_90 hw
  refine lv_aload_n hx hb dX3_step_0 rfl (lv_at hl 0 rfl) ?_
  refine gX3_this_cell hC hw dX3_step_1 ?_
  refine lv_aload_n hx hb dX3_step_4 rfl (lv_at hl 0 rfl) ?_
  refine gX3_this_moving hC hw dX3_step_5 ?_
  obtain ⟨b1, hf⟩ := dk_c hf
  refine aX3_m_cell hC hw b1 dX3_step_8 ?_
  refine lv_aload_n hx hb dX3_step_9 rfl (lv_at hl 0 rfl) ?_
  refine gX3_this_goes hC hw dX3_step_10 ?_
  refine callSI (rest := []) 0 0 hC hw (st1 _) (metX3_turned rfl) mi_X3_turned q689 (rm_ok (by decide) (by decide)) rfl hl.1 rfl (Nat.le_of_ble_eq_true rfl) dX3_step_13 ⟨Nat.zero_le _, Nat.zero_le _⟩ (st2 _) (fun H locs hw => ?_)
  refine lv_istore_n (lv' := [(2, .int (fX3_turned (m_cell m_moving.toNatClampNeg) m_goes)), (0, .ref (h 0)), (1, .int v1)]) hx hb dX3_step_16 rfl hl (by decide) rfl (fun ls hl => ?_)
  refine lv_aload_n hx hb dX3_step_17 rfl (lv_at hl 1 rfl) ?_
  refine lv_dup hx hb dX3_step_18 rfl ?_
  refine gX3_this_cushions hC hw dX3_step_19 ?_
  refine lv_iload_n hx hb dX3_step_22 rfl (lv_at hl 0 rfl) ?_
  refine lv_aload_n hx hb dX3_step_23 rfl (lv_at hl 1 rfl) ?_
  refine gX3_this_goes hC hw dX3_step_24 ?_
  refine lv_icmp_ne (tgt := 34) hx hb dX3_step_27 rfl (fun c9 => ?_) (fun c9 => ?_)
  · have hf := dk_f c9 hf
    refine lv_iconst (v := 1) hx hb dX3_step_34 rfl ?_
    exact L35 (fX3_turned (m_cell m_moving.toNatClampNeg) m_goes) m_cushions 1 m_cell m_moving m_goes m_left m_touches m_cushions m_cushionsThen m_touchedFirst m_stepsThen m_downNow _ _ _ hw (lv_sub hl [1, 2, 0] rfl) hf
  · have hf := dk_t c9 hf
    refine lv_iconst (v := 0) hx hb dX3_step_30 rfl ?_
    refine lv_goto (tgt := 35) hx hb dX3_step_31 rfl ?_
    exact L35 (fX3_turned (m_cell m_moving.toNatClampNeg) m_goes) m_cushions 0 m_cell m_moving m_goes m_left m_touches m_cushions m_cushionsThen m_touchedFirst m_stepsThen m_downNow _ _ _ hw (lv_sub hl [1, 2, 0] rfl) hf
set_option maxHeartbeats 4000000 in
set_option maxRecDepth 100000 in
theorem metX3_send {v1 : Int32} {v2 : Int32} {v3 : Int32} {res : (Nat → Int32) × Int32 × Int32 × Int32 × Int32 × Int32 × Int32 × Int32 × Int32 × Int32} (hf : fX3_send v1 v2 v3 m_cell m_moving m_goes m_left m_touches m_cushions m_cushionsThen m_touchedFirst m_stepsThen m_downNow = some res) : CtV l yX3_send cX3_send 4 3 D E sz [.ref (h 0), .int v1, .int v2, .int v3] (WX3 h E m_cell m_points m_fouls m_evening m_sightStep m_sightCell m_sights m_pad m_padMany m_act m_which m_whither m_hard m_acts m_moving m_goes m_left m_touches m_cushions m_cushionsThen m_touchedFirst m_stepsThen m_downNow m_touchedMany m_cushionMany m_were m_had m_badAct m_badWhy m_foulAct m_met m_far m_fit m_now m_fitMany m_byCell m_wins m_chance m_kept m_isKept m_keptAt m_isWriting) (WX3 h E res.1 m_points m_fouls m_evening m_sightStep m_sightCell m_sights m_pad m_padMany m_act m_which m_whither m_hard m_acts res.2.1 res.2.2.1 res.2.2.2.1 res.2.2.2.2.1 res.2.2.2.2.2.1 res.2.2.2.2.2.2.1 res.2.2.2.2.2.2.2.1 res.2.2.2.2.2.2.2.2.1 res.2.2.2.2.2.2.2.2.2 m_touchedMany m_cushionMany m_were m_had m_badAct m_badWhy m_foulAct m_met m_far m_fit m_now m_fitMany m_byCell m_wins m_chance m_kept m_isKept m_keptAt m_isWriting) := by
  refine startV (own := RX3) (by decide) rfl (Nat.le_of_ble_eq_true rfl) ?_
  intro p e s m args below meth c A Q ls hC ret hl hw
  have hx := hC.1.1
  have hb := hC.1.2.1
  have hown := hC.1.2.2.2.1
  have hts := hC.1.2.2.2.2
  have hl : lv_has ls 4 [(0, .ref (h 0)), (1, .int v1), (2, .int v2), (3, .int v3)] := hl
  have L49 : ∀ (n : Nat), ∀ (m_cell : Nat → Int32) (m_moving : Int32) (m_goes : Int32) (m_left : Int32) (m_touches : Int32) (m_cushions : Int32) (m_cushionsThen : Int32) (m_touchedFirst : Int32) (m_stepsThen : Int32) (m_downNow : Int32) (H : Heap) (locs : List Loc) (ls : Array Slot), Wo D A s.heap H locs (WX3 h E m_cell m_points m_fouls m_evening m_sightStep m_sightCell m_sights m_pad m_padMany m_act m_which m_whither m_hard m_acts m_moving m_goes m_left m_touches m_cushions m_cushionsThen m_touchedFirst m_stepsThen m_downNow m_touchedMany m_cushionMany m_were m_had m_badAct m_badWhy m_foulAct m_met m_far m_fit m_now m_fitMany m_byCell m_wins m_chance m_kept m_isKept m_keptAt m_isWriting) → lv_has ls 4 [(0, .ref (h 0)), (3, .int v3)] → fX3_send_L49 v1 v2 v3  n m_cell m_moving m_goes m_left m_touches m_cushions m_cushionsThen m_touchedFirst m_stepsThen m_downNow = some res → W p l e (rmN 3) s m args below meth c H locs 0 0 Q (F0 m 49 ls []) := by
    intro  n
    induction n with
    | zero =>
      intro m_cell m_moving m_goes m_left m_touches m_cushions m_cushionsThen m_touchedFirst m_stepsThen m_downNow H locs ls hw hl hf
      exact dk_n hf
    | succ n ih =>
      intro m_cell m_moving m_goes m_left m_touches m_cushions m_cushionsThen m_touchedFirst m_stepsThen m_downNow H locs ls hw hl hf
      refine lv_aload_n hx hb dX3_send_49 rfl (lv_at hl 0 rfl) ?_
      refine gX3_this_left hC hw dX3_send_50 ?_
      refine lv_if_le (tgt := 71) hx hb dX3_send_53 rfl (fun c3 => ?_) (fun c3 => ?_)
      · have hf := dk_t c3 hf
        obtain rfl := Option.some.inj hf
        exact ret _ _ _ _ dX3_send_71 hw
      · have hf := dk_f c3 hf
        refine lv_aload_n hx hb dX3_send_56 rfl (lv_at hl 0 rfl) ?_
        refine gX3_this_downNow hC hw dX3_send_57 ?_
        refine lv_if_ge (tgt := 71) hx hb dX3_send_60 rfl (fun c2 => ?_) (fun c2 => ?_)
        · have hf := dk_t c2 hf
          obtain rfl := Option.some.inj hf
          exact ret _ _ _ _ dX3_send_71 hw
        · have hf := dk_f c2 hf
          refine lv_aload_n hx hb dX3_send_63 rfl (lv_at hl 0 rfl) ?_
          refine lv_iload_n hx hb dX3_send_64 rfl (lv_at hl 1 rfl) ?_
          obtain ⟨z1, hz1, hf⟩ := dk_b hf
          refine callVV (rest := []) 0 _ 3 hC hw (sm1 _) (metX3_step hz1) mi_X3_step q685 (rm_ok (by decide) (by decide)) rfl rfl rfl hl.1 rfl (Nat.le_of_ble_eq_true rfl) dX3_send_65 ⟨Nat.zero_le _, Nat.zero_le _⟩ (sm2 _ _) (fun H locs hw => ?_)
          refine lv_goto (tgt := 49) hx hb dX3_send_68 rfl ?_
          exact ih z1.1 z1.2.1 z1.2.2.1 z1.2.2.2.1 z1.2.2.2.2.1 z1.2.2.2.2.2.1 z1.2.2.2.2.2.2.1 z1.2.2.2.2.2.2.2.1 z1.2.2.2.2.2.2.2.2.1 z1.2.2.2.2.2.2.2.2.2 _ _ _ hw (lv_sub hl [0, 1] rfl) hf
  refine lv_aload_n hx hb dX3_send_0 rfl (lv_at hl 0 rfl) ?_
  refine lv_iload_n hx hb dX3_send_1 rfl (lv_at hl 1 rfl) ?_
  refine pX3_this_moving hC hw dX3_send_2 (fun H locs hw => ?_)
  refine lv_aload_n hx hb dX3_send_5 rfl (lv_at hl 0 rfl) ?_
  refine lv_iload_n hx hb dX3_send_6 rfl (lv_at hl 2 rfl) ?_
  refine pX3_this_goes hC hw dX3_send_7 (fun H locs hw => ?_)
  refine lv_aload_n hx hb dX3_send_10 rfl (lv_at hl 0 rfl) ?_
  refine lv_iload_n hx hb dX3_send_11 rfl (lv_at hl 3 rfl) ?_
  refine pX3_this_left hC hw dX3_send_12 (fun H locs hw => ?_)
  refine lv_aload_n hx hb dX3_send_15 rfl (lv_at hl 0 rfl) ?_
  refine lv_iconst (v := 0) hx hb dX3_send_16 rfl ?_
  refine pX3_this_touches hC hw dX3_send_17 (fun H locs hw => ?_)
  refine lv_aload_n hx hb dX3_send_20 rfl (lv_at hl 0 rfl) ?_
  refine lv_iconst (v := 0) hx hb dX3_send_21 rfl ?_
  refine pX3_this_cushions hC hw dX3_send_22 (fun H locs hw => ?_)
  refine lv_aload_n hx hb dX3_send_25 rfl (lv_at hl 0 rfl) ?_
  refine lv_bipush (v := (-6)) hx hb dX3_send_26 rfl ?_
  refine pX3_this_cushionsThen hC hw dX3_send_28 (fun H locs hw => ?_)
  refine lv_aload_n hx hb dX3_send_31 rfl (lv_at hl 0 rfl) ?_
  refine lv_bipush (v := (-6)) hx hb dX3_send_32 rfl ?_
  refine pX3_this_touchedFirst hC hw dX3_send_34 (fun H locs hw => ?_)
  refine lv_aload_n hx hb dX3_send_37 rfl (lv_at hl 0 rfl) ?_
  refine lv_bipush (v := (-6)) hx hb dX3_send_38 rfl ?_
  refine pX3_this_stepsThen hC hw dX3_send_40 (fun H locs hw => ?_)
  refine lv_aload_n hx hb dX3_send_43 rfl (lv_at hl 0 rfl) ?_
  refine lv_bipush (v := (-6)) hx hb dX3_send_44 rfl ?_
  refine pX3_this_downNow hC hw dX3_send_46 (fun H locs hw => ?_)
  exact L49 FU m_cell v1 v2 v3 0 0 (-6) (-6) (-6) (-6) _ _ _ hw (lv_sub hl [0, 3] rfl) hf
set_option maxHeartbeats 4000000 in
set_option maxRecDepth 100000 in
theorem metX3_stroke {v1 : Int32} {v2 : Int32} {v3 : Int32} {res : (Nat → Int32) × Int32 × Int32 × Int32 × Int32 × Int32 × Int32 × Int32 × Int32 × Int32 × Int32 × Int32 × Int32 × Int32} (hf : fX3_stroke v1 v2 v3 m_cell m_points m_fouls m_moving m_goes m_left m_touches m_cushions m_cushionsThen m_touchedFirst m_stepsThen m_downNow m_touchedMany m_cushionMany = some res) : CtV l yX3_stroke cX3_stroke 4 4 D E sz [.ref (h 0), .int v1, .int v2, .int v3] (WX3 h E m_cell m_points m_fouls m_evening m_sightStep m_sightCell m_sights m_pad m_padMany m_act m_which m_whither m_hard m_acts m_moving m_goes m_left m_touches m_cushions m_cushionsThen m_touchedFirst m_stepsThen m_downNow m_touchedMany m_cushionMany m_were m_had m_badAct m_badWhy m_foulAct m_met m_far m_fit m_now m_fitMany m_byCell m_wins m_chance m_kept m_isKept m_keptAt m_isWriting) (WX3 h E res.1 res.2.1 res.2.2.1 m_evening m_sightStep m_sightCell m_sights m_pad m_padMany m_act m_which m_whither m_hard m_acts res.2.2.2.1 res.2.2.2.2.1 res.2.2.2.2.2.1 res.2.2.2.2.2.2.1 res.2.2.2.2.2.2.2.1 res.2.2.2.2.2.2.2.2.1 res.2.2.2.2.2.2.2.2.2.1 res.2.2.2.2.2.2.2.2.2.2.1 res.2.2.2.2.2.2.2.2.2.2.2.1 res.2.2.2.2.2.2.2.2.2.2.2.2.1 res.2.2.2.2.2.2.2.2.2.2.2.2.2 m_were m_had m_badAct m_badWhy m_foulAct m_met m_far m_fit m_now m_fitMany m_byCell m_wins m_chance m_kept m_isKept m_keptAt m_isWriting) := by
  refine startV (own := RX3) (by decide) rfl (Nat.le_of_ble_eq_true rfl) ?_
  intro p e s m args below meth c A Q ls hC ret hl hw
  have hx := hC.1.1
  have hb := hC.1.2.1
  have hown := hC.1.2.2.2.1
  have hts := hC.1.2.2.2.2
  have hl : lv_has ls 4 [(0, .ref (h 0)), (1, .int v1), (2, .int v2), (3, .int v3)] := hl
  have L104 : ∀ (k1 : Int32) (k2 : Int32) (m_cell : Nat → Int32) (m_points : Int32) (m_fouls : Int32) (m_moving : Int32) (m_goes : Int32) (m_left : Int32) (m_touches : Int32) (m_cushions : Int32) (m_cushionsThen : Int32) (m_touchedFirst : Int32) (m_stepsThen : Int32) (m_downNow : Int32) (m_touchedMany : Int32) (m_cushionMany : Int32) (H : Heap) (locs : List Loc) (ls : Array Slot), Wo D A s.heap H locs (WX3 h E m_cell m_points m_fouls m_evening m_sightStep m_sightCell m_sights m_pad m_padMany m_act m_which m_whither m_hard m_acts m_moving m_goes m_left m_touches m_cushions m_cushionsThen m_touchedFirst m_stepsThen m_downNow m_touchedMany m_cushionMany m_were m_had m_badAct m_badWhy m_foulAct m_met m_far m_fit m_now m_fitMany m_byCell m_wins m_chance m_kept m_isKept m_keptAt m_isWriting) → lv_has ls 4 [(0, .ref (h 0))] → fX3_stroke_L104 v1 v2 v3  k1 k2 m_cell m_points m_fouls m_moving m_goes m_left m_touches m_cushions m_cushionsThen m_touchedFirst m_stepsThen m_downNow m_touchedMany m_cushionMany = some res → W p l e (rmN 4) s m args below meth c H locs 0 0 Q (F0 m 104 ls [.int k2, .int k1, .ref (h 0)]) := by
    intro  k1 k2 m_cell m_points m_fouls m_moving m_goes m_left m_touches m_cushions m_cushionsThen m_touchedFirst m_stepsThen m_downNow m_touchedMany m_cushionMany H locs ls hw hl hf
    refine lv_iadd hx hb dX3_stroke_104 ?_
    refine pX3_this_fouls hC hw dX3_stroke_105 (fun H locs hw => ?_)
    refine lv_aload_n hx hb dX3_stroke_108 rfl (lv_at hl 0 rfl) ?_
    refine lv_dup hx hb dX3_stroke_109 rfl ?_
    refine gX3_this_touchedMany hC hw dX3_stroke_110 ?_
    refine lv_aload_n hx hb dX3_stroke_113 rfl (lv_at hl 0 rfl) ?_
    refine gX3_this_touches hC hw dX3_stroke_114 ?_
    refine lv_iadd hx hb dX3_stroke_117 ?_
    refine pX3_this_touchedMany hC hw dX3_stroke_118 (fun H locs hw => ?_)
    refine lv_aload_n hx hb dX3_stroke_121 rfl (lv_at hl 0 rfl) ?_
    refine lv_dup hx hb dX3_stroke_122 rfl ?_
    refine gX3_this_cushionMany hC hw dX3_stroke_123 ?_
    refine lv_aload_n hx hb dX3_stroke_126 rfl (lv_at hl 0 rfl) ?_
    refine gX3_this_cushions hC hw dX3_stroke_127 ?_
    refine lv_iadd hx hb dX3_stroke_130 ?_
    refine pX3_this_cushionMany hC hw dX3_stroke_131 (fun H locs hw => ?_)
    obtain rfl := Option.some.inj hf
    exact ret _ _ _ _ dX3_stroke_134 hw
  have L76 : ∀ (k1 : Int32) (k2 : Int32) (m_cell : Nat → Int32) (m_points : Int32) (m_fouls : Int32) (m_moving : Int32) (m_goes : Int32) (m_left : Int32) (m_touches : Int32) (m_cushions : Int32) (m_cushionsThen : Int32) (m_touchedFirst : Int32) (m_stepsThen : Int32) (m_downNow : Int32) (m_touchedMany : Int32) (m_cushionMany : Int32) (H : Heap) (locs : List Loc) (ls : Array Slot), Wo D A s.heap H locs (WX3 h E m_cell m_points m_fouls m_evening m_sightStep m_sightCell m_sights m_pad m_padMany m_act m_which m_whither m_hard m_acts m_moving m_goes m_left m_touches m_cushions m_cushionsThen m_touchedFirst m_stepsThen m_downNow m_touchedMany m_cushionMany m_were m_had m_badAct m_badWhy m_foulAct m_met m_far m_fit m_now m_fitMany m_byCell m_wins m_chance m_kept m_isKept m_keptAt m_isWriting) → lv_has ls 4 [(0, .ref (h 0))] → fX3_stroke_L76 v1 v2 v3  k1 k2 m_cell m_points m_fouls m_moving m_goes m_left m_touches m_cushions m_cushionsThen m_touchedFirst m_stepsThen m_downNow m_touchedMany m_cushionMany = some res → W p l e (rmN 4) s m args below meth c H locs 0 0 Q (F0 m 76 ls [.int k2, .int k1, .ref (h 0)]) := by
    intro  k1 k2 m_cell m_points m_fouls m_moving m_goes m_left m_touches m_cushions m_cushionsThen m_touchedFirst m_stepsThen m_downNow m_touchedMany m_cushionMany H locs ls hw hl hf
    refine lv_iadd hx hb dX3_stroke_76 ?_
    refine pX3_this_fouls hC hw dX3_stroke_77 (fun H locs hw => ?_)
    refine lv_aload_n hx hb dX3_stroke_80 rfl (lv_at hl 0 rfl) ?_
    refine lv_dup hx hb dX3_stroke_81 rfl ?_
    refine gX3_this_fouls hC hw dX3_stroke_82 ?_
    refine lv_aload_n hx hb dX3_stroke_85 rfl (lv_at hl 0 rfl) ?_
    refine gX3_this_touches hC hw dX3_stroke_86 ?_
    refine lv_if_le (tgt := 103) hx hb dX3_stroke_89 rfl (fun c3 => ?_) (fun c3 => ?_)
    · have hf := dk_t c3 hf
      refine lv_iconst (v := 0) hx hb dX3_stroke_103 rfl ?_
      exact L104 (k1 + k2) 0 m_cell m_points (k1 + k2) m_moving m_goes m_left m_touches m_cushions m_cushionsThen m_touchedFirst m_stepsThen m_downNow m_touchedMany m_cushionMany _ _ _ hw (lv_sub hl [0] rfl) hf
    · have hf := dk_f c3 hf
      refine lv_aload_n hx hb dX3_stroke_92 rfl (lv_at hl 0 rfl) ?_
      refine gX3_this_cushionsThen hC hw dX3_stroke_93 ?_
      refine lv_if_ne (tgt := 103) hx hb dX3_stroke_96 rfl (fun c2 => ?_) (fun c2 => ?_)
      · have hf := dk_f c2 hf
        refine lv_iconst (v := 0) hx hb dX3_stroke_103 rfl ?_
        exact L104 (k1 + k2) 0 m_cell m_points (k1 + k2) m_moving m_goes m_left m_touches m_cushions m_cushionsThen m_touchedFirst m_stepsThen m_downNow m_touchedMany m_cushionMany _ _ _ hw (lv_sub hl [0] rfl) hf
      · have hf := dk_t c2 hf
        refine lv_iconst (v := 1) hx hb dX3_stroke_99 rfl ?_
        refine lv_goto (tgt := 104) hx hb dX3_stroke_100 rfl ?_
        exact L104 (k1 + k2) 1 m_cell m_points (k1 + k2) m_moving m_goes m_left m_touches m_cushions m_cushionsThen m_touchedFirst m_stepsThen m_downNow m_touchedMany m_cushionMany _ _ _ hw (lv_sub hl [0] rfl) hf
  have L54 : ∀ (k1 : Int32) (k2 : Int32) (m_cell : Nat → Int32) (m_points : Int32) (m_fouls : Int32) (m_moving : Int32) (m_goes : Int32) (m_left : Int32) (m_touches : Int32) (m_cushions : Int32) (m_cushionsThen : Int32) (m_touchedFirst : Int32) (m_stepsThen : Int32) (m_downNow : Int32) (m_touchedMany : Int32) (m_cushionMany : Int32) (H : Heap) (locs : List Loc) (ls : Array Slot), Wo D A s.heap H locs (WX3 h E m_cell m_points m_fouls m_evening m_sightStep m_sightCell m_sights m_pad m_padMany m_act m_which m_whither m_hard m_acts m_moving m_goes m_left m_touches m_cushions m_cushionsThen m_touchedFirst m_stepsThen m_downNow m_touchedMany m_cushionMany m_were m_had m_badAct m_badWhy m_foulAct m_met m_far m_fit m_now m_fitMany m_byCell m_wins m_chance m_kept m_isKept m_keptAt m_isWriting) → lv_has ls 4 [(0, .ref (h 0)), (1, .int v1)] → fX3_stroke_L54 v1 v2 v3  k1 k2 m_cell m_points m_fouls m_moving m_goes m_left m_touches m_cushions m_cushionsThen m_touchedFirst m_stepsThen m_downNow m_touchedMany m_cushionMany = some res → W p l e (rmN 4) s m args below meth c H locs 0 0 Q (F0 m 54 ls [.int k2, .int k1, .ref (h 0)]) := by
    intro  k1 k2 m_cell m_points m_fouls m_moving m_goes m_left m_touches m_cushions m_cushionsThen m_touchedFirst m_stepsThen m_downNow m_touchedMany m_cushionMany H locs ls hw hl hf
    refine lv_iadd hx hb dX3_stroke_54 ?_
    refine pX3_this_points hC hw dX3_stroke_55 (fun H locs hw => ?_)
    refine lv_aload_n hx hb dX3_stroke_58 rfl (lv_at hl 0 rfl) ?_
    refine lv_dup hx hb dX3_stroke_59 rfl ?_
    refine gX3_this_fouls hC hw dX3_stroke_60 ?_
    refine lv_aload_n hx hb dX3_stroke_63 rfl (lv_at hl 0 rfl) ?_
    refine gX3_this_downNow hC hw dX3_stroke_64 ?_
    refine lv_iload_n hx hb dX3_stroke_67 rfl (lv_at hl 1 rfl) ?_
    refine lv_icmp_ne (tgt := 75) hx hb dX3_stroke_68 rfl (fun c4 => ?_) (fun c4 => ?_)
    · have hf := dk_f c4 hf
      refine lv_iconst (v := 0) hx hb dX3_stroke_75 rfl ?_
      exact L76 m_fouls 0 m_cell (k1 + k2) m_fouls m_moving m_goes m_left m_touches m_cushions m_cushionsThen m_touchedFirst m_stepsThen m_downNow m_touchedMany m_cushionMany _ _ _ hw (lv_sub hl [0] rfl) hf
    · have hf := dk_t c4 hf
      refine lv_iconst (v := 1) hx hb dX3_stroke_71 rfl ?_
      refine lv_goto (tgt := 76) hx hb dX3_stroke_72 rfl ?_
      exact L76 m_fouls 1 m_cell (k1 + k2) m_fouls m_moving m_goes m_left m_touches m_cushions m_cushionsThen m_touchedFirst m_stepsThen m_downNow m_touchedMany m_cushionMany _ _ _ hw (lv_sub hl [0] rfl) hf
  have L25 : ∀ (k1 : Int32) (k2 : Int32) (m_cell : Nat → Int32) (m_points : Int32) (m_fouls : Int32) (m_moving : Int32) (m_goes : Int32) (m_left : Int32) (m_touches : Int32) (m_cushions : Int32) (m_cushionsThen : Int32) (m_touchedFirst : Int32) (m_stepsThen : Int32) (m_downNow : Int32) (m_touchedMany : Int32) (m_cushionMany : Int32) (H : Heap) (locs : List Loc) (ls : Array Slot), Wo D A s.heap H locs (WX3 h E m_cell m_points m_fouls m_evening m_sightStep m_sightCell m_sights m_pad m_padMany m_act m_which m_whither m_hard m_acts m_moving m_goes m_left m_touches m_cushions m_cushionsThen m_touchedFirst m_stepsThen m_downNow m_touchedMany m_cushionMany m_were m_had m_badAct m_badWhy m_foulAct m_met m_far m_fit m_now m_fitMany m_byCell m_wins m_chance m_kept m_isKept m_keptAt m_isWriting) → lv_has ls 4 [(0, .ref (h 0)), (1, .int v1)] → fX3_stroke_L25 v1 v2 v3  k1 k2 m_cell m_points m_fouls m_moving m_goes m_left m_touches m_cushions m_cushionsThen m_touchedFirst m_stepsThen m_downNow m_touchedMany m_cushionMany = some res → W p l e (rmN 4) s m args below meth c H locs 0 0 Q (F0 m 25 ls [.int k2, .int k1, .ref (h 0)]) := by
    intro  k1 k2 m_cell m_points m_fouls m_moving m_goes m_left m_touches m_cushions m_cushionsThen m_touchedFirst m_stepsThen m_downNow m_touchedMany m_cushionMany H locs ls hw hl hf
    refine lv_iadd hx hb dX3_stroke_25 ?_
    refine pX3_this_points hC hw dX3_stroke_26 (fun H locs hw => ?_)
    refine lv_aload_n hx hb dX3_stroke_29 rfl (lv_at hl 0 rfl) ?_
    refine lv_dup hx hb dX3_stroke_30 rfl ?_
    refine gX3_this_points hC hw dX3_stroke_31 ?_
    refine lv_aload_n hx hb dX3_stroke_34 rfl (lv_at hl 0 rfl) ?_
    refine gX3_this_downNow hC hw dX3_stroke_35 ?_
    refine lv_if_lt (tgt := 53) hx hb dX3_stroke_38 rfl (fun c6 => ?_) (fun c6 => ?_)
    · have hf := dk_t c6 hf
      refine lv_iconst (v := 0) hx hb dX3_stroke_53 rfl ?_
      exact L54 (k1 + k2) 0 m_cell (k1 + k2) m_fouls m_moving m_goes m_left m_touches m_cushions m_cushionsThen m_touchedFirst m_stepsThen m_downNow m_touchedMany m_cushionMany _ _ _ hw (lv_sub hl [0, 1] rfl) hf
    · have hf := dk_f c6 hf
      refine lv_aload_n hx hb dX3_stroke_41 rfl (lv_at hl 0 rfl) ?_
      refine gX3_this_downNow hC hw dX3_stroke_42 ?_
      refine lv_iload_n hx hb dX3_stroke_45 rfl (lv_at hl 1 rfl) ?_
      refine lv_icmp_eq (tgt := 53) hx hb dX3_stroke_46 rfl (fun c5 => ?_) (fun c5 => ?_)
      · have hf := dk_t c5 hf
        refine lv_iconst (v := 0) hx hb dX3_stroke_53 rfl ?_
        exact L54 (k1 + k2) 0 m_cell (k1 + k2) m_fouls m_moving m_goes m_left m_touches m_cushions m_cushionsThen m_touchedFirst m_stepsThen m_downNow m_touchedMany m_cushionMany _ _ _ hw (lv_sub hl [0, 1] rfl) hf
      · have hf := dk_f c5 hf
        refine lv_iconst (v := 3) hx hb dX3_stroke_49 rfl ?_
        refine lv_goto (tgt := 54) hx hb dX3_stroke_50 rfl ?_
        exact L54 (k1 + k2) 3 m_cell (k1 + k2) m_fouls m_moving m_goes m_left m_touches m_cushions m_cushionsThen m_touchedFirst m_stepsThen m_downNow m_touchedMany m_cushionMany _ _ _ hw (lv_sub hl [0, 1] rfl) hf
  refine lv_aload_n hx hb dX3_stroke_0 rfl (lv_at hl 0 rfl) ?_
  refine lv_iload_n hx hb dX3_stroke_1 rfl (lv_at hl 1 rfl) ?_
  refine lv_iload_n hx hb dX3_stroke_2 rfl (lv_at hl 2 rfl) ?_
  refine lv_iload_n hx hb dX3_stroke_3 rfl (lv_at hl 3 rfl) ?_
  obtain ⟨z1, hz1, hf⟩ := dk_b hf
  refine callVV (rest := []) 0 _ 3 hC hw (sm1 _) (metX3_send hz1) mi_X3_send q681 (rm_ok (by decide) (by decide)) rfl rfl rfl hl.1 rfl (Nat.le_of_ble_eq_true rfl) dX3_stroke_4 ⟨Nat.zero_le _, Nat.zero_le _⟩ (sm2 _ _) (fun H locs hw => ?_)
  refine lv_aload_n hx hb dX3_stroke_7 rfl (lv_at hl 0 rfl) ?_
  refine lv_dup hx hb dX3_stroke_8 rfl ?_
  refine gX3_this_points hC hw dX3_stroke_9 ?_
  refine lv_aload_n hx hb dX3_stroke_12 rfl (lv_at hl 0 rfl) ?_
  refine gX3_this_touches hC hw dX3_stroke_13 ?_
  refine lv_iconst (v := 1) hx hb dX3_stroke_16 rfl ?_
  refine lv_icmp_le (tgt := 24) hx hb dX3_stroke_17 rfl (fun c7 => ?_) (fun c7 => ?_)
  · have hf := dk_t c7 hf
    refine lv_iconst (v := 0) hx hb dX3_stroke_24 rfl ?_
    exact L25 m_points 0 z1.1 m_points m_fouls z1.2.1 z1.2.2.1 z1.2.2.2.1 z1.2.2.2.2.1 z1.2.2.2.2.2.1 z1.2.2.2.2.2.2.1 z1.2.2.2.2.2.2.2.1 z1.2.2.2.2.2.2.2.2.1 z1.2.2.2.2.2.2.2.2.2 m_touchedMany m_cushionMany _ _ _ hw (lv_sub hl [0, 1] rfl) hf
  · have hf := dk_f c7 hf
    refine lv_iconst (v := 2) hx hb dX3_stroke_20 rfl ?_
    refine lv_goto (tgt := 25) hx hb dX3_stroke_21 rfl ?_
    exact L25 m_points 2 z1.1 m_points m_fouls z1.2.1 z1.2.2.1 z1.2.2.2.1 z1.2.2.2.2.1 z1.2.2.2.2.2.1 z1.2.2.2.2.2.2.1 z1.2.2.2.2.2.2.2.1 z1.2.2.2.2.2.2.2.2.1 z1.2.2.2.2.2.2.2.2.2 m_touchedMany m_cushionMany _ _ _ hw (lv_sub hl [0, 1] rfl) hf
set_option maxHeartbeats 4000000 in
set_option maxRecDepth 100000 in
theorem metX3_happen {v1 : Int32} {v2 : Int32} {v3 : Int32} {v4 : Int32} {res : (Nat → Int32) × Int32 × Int32 × Int32 × Int32 × Int32 × Int32 × Int32 × Int32 × Int32 × Int32 × Int32 × Int32 × Int32 × Int32 × (Nat → Int32)} (hf : fX3_happen v1 v2 v3 v4 m_cell m_points m_fouls m_evening m_moving m_goes m_left m_touches m_cushions m_cushionsThen m_touchedFirst m_stepsThen m_downNow m_touchedMany m_cushionMany m_were = some res) : CtV l yX3_happen cX3_happen 5 5 D E sz [.ref (h 0), .int v1, .int v2, .int v3, .int v4] (WX3 h E m_cell m_points m_fouls m_evening m_sightStep m_sightCell m_sights m_pad m_padMany m_act m_which m_whither m_hard m_acts m_moving m_goes m_left m_touches m_cushions m_cushionsThen m_touchedFirst m_stepsThen m_downNow m_touchedMany m_cushionMany m_were m_had m_badAct m_badWhy m_foulAct m_met m_far m_fit m_now m_fitMany m_byCell m_wins m_chance m_kept m_isKept m_keptAt m_isWriting) (WX3 h E res.1 res.2.1 res.2.2.1 res.2.2.2.1 m_sightStep m_sightCell m_sights m_pad m_padMany m_act m_which m_whither m_hard m_acts res.2.2.2.2.1 res.2.2.2.2.2.1 res.2.2.2.2.2.2.1 res.2.2.2.2.2.2.2.1 res.2.2.2.2.2.2.2.2.1 res.2.2.2.2.2.2.2.2.2.1 res.2.2.2.2.2.2.2.2.2.2.1 res.2.2.2.2.2.2.2.2.2.2.2.1 res.2.2.2.2.2.2.2.2.2.2.2.2.1 res.2.2.2.2.2.2.2.2.2.2.2.2.2.1 res.2.2.2.2.2.2.2.2.2.2.2.2.2.2.1 res.2.2.2.2.2.2.2.2.2.2.2.2.2.2.2 m_had m_badAct m_badWhy m_foulAct m_met m_far m_fit m_now m_fitMany m_byCell m_wins m_chance m_kept m_isKept m_keptAt m_isWriting) := by
  refine startV (own := RX3) (by decide) rfl (Nat.le_of_ble_eq_true rfl) ?_
  intro p e s m args below meth c A Q ls hC ret hl hw
  have hx := hC.1.1
  have hb := hC.1.2.1
  have hown := hC.1.2.2.2.1
  have hts := hC.1.2.2.2.2
  have hl : lv_has ls 5 [(0, .ref (h 0)), (1, .int v1), (2, .int v2), (3, .int v3), (4, .int v4)] := hl
  refine lv_iload_n hx hb dX3_happen_0 rfl (lv_at hl 1 rfl) ?_
  by_cases c1 : v1 = 0
  · have hf := dk_t c1 hf
    refine lv_tableIn (tgt := 28) hx hb dX3_happen_1 (by rw [c1] <;> decide) (by rw [c1] <;> decide) (by rw [c1] <;> rfl) rfl ?_
    refine lv_aload_n hx hb dX3_happen_28 rfl (lv_at hl 0 rfl) ?_
    refine lv_iload_n hx hb dX3_happen_29 rfl (lv_at hl 2 rfl) ?_
    refine lv_iload_n hx hb dX3_happen_30 rfl (lv_at hl 3 rfl) ?_
    refine lv_iload hx hb dX3_happen_31 (lv_at hl 4 rfl) ?_
    obtain ⟨z2, hz2, hf⟩ := dk_b hf
    refine callVV (rest := []) 0 _ 3 hC hw (sm1 _) (metX3_stroke hz2) mi_X3_stroke q677 (rm_ok (by decide) (by decide)) rfl rfl rfl hl.1 rfl (Nat.le_of_ble_eq_true rfl) dX3_happen_33 ⟨Nat.zero_le _, Nat.zero_le _⟩ (sm2 _ _) (fun H locs hw => ?_)
    refine lv_goto (tgt := 69) hx hb dX3_happen_36 rfl ?_
    obtain rfl := Option.some.inj hf
    exact ret _ _ _ _ dX3_happen_69 hw
  · have hf := dk_f c1 hf
    by_cases c3 : v1 = 1
    · have hf := dk_t c3 hf
      refine lv_tableIn (tgt := 39) hx hb dX3_happen_1 (by rw [c3] <;> decide) (by rw [c3] <;> decide) (by rw [c3] <;> rfl) rfl ?_
      refine lv_aload_n hx hb dX3_happen_39 rfl (lv_at hl 0 rfl) ?_
      refine gX3_this_cell hC hw dX3_happen_40 ?_
      refine lv_iload_n hx hb dX3_happen_43 rfl (lv_at hl 2 rfl) ?_
      refine lv_iload_n hx hb dX3_happen_44 rfl (lv_at hl 2 rfl) ?_
      refine callSI (rest := [.int v2, .ref (h 1)]) 0 0 hC hw (st1 _) (metX3_home rfl) mi_X3_home q452 (rm_ok (by decide) (by decide)) rfl hl.1 rfl (Nat.le_of_ble_eq_true rfl) dX3_happen_45 ⟨Nat.zero_le _, Nat.zero_le _⟩ (st2 _) (fun H locs hw => ?_)
      obtain ⟨b4, hf⟩ := dk_c hf
      refine sX3_m_cell hC hw b4 dX3_happen_48 (fun H locs hw => ?_)
      refine lv_goto (tgt := 69) hx hb dX3_happen_49 rfl ?_
      obtain rfl := Option.some.inj hf
      exact ret _ _ _ _ dX3_happen_69 hw
    · have hf := dk_f c3 hf
      by_cases c5 : v1 = 2
      · have hf := dk_t c5 hf
        refine lv_tableIn (tgt := 52) hx hb dX3_happen_1 (by rw [c5] <;> decide) (by rw [c5] <;> decide) (by rw [c5] <;> rfl) rfl ?_
        refine lv_aload_n hx hb dX3_happen_52 rfl (lv_at hl 0 rfl) ?_
        obtain ⟨z6, hz6, hf⟩ := dk_b hf
        refine callVV (rest := []) 0 _ 3 hC hw (sm1 _) (metX3_nap hz6) mi_X3_nap q707 (rm_ok (by decide) (by decide)) rfl rfl rfl hl.1 rfl (Nat.le_of_ble_eq_true rfl) dX3_happen_53 ⟨Nat.zero_le _, Nat.zero_le _⟩ (sm2 _ _) (fun H locs hw => ?_)
        refine lv_goto (tgt := 69) hx hb dX3_happen_56 rfl ?_
        obtain rfl := Option.some.inj hf
        exact ret _ _ _ _ dX3_happen_69 hw
      · have hf := dk_f c5 hf
        refine lv_tableOut (tgt := 59) hx hb dX3_happen_1 (by have e0 : v1.toInt ≠ 0 := fun h => c1 (Int32.toInt_inj.mp (h.trans (by decide))); have e1 : v1.toInt ≠ 1 := fun h => c3 (Int32.toInt_inj.mp (h.trans (by decide))); have e2 : v1.toInt ≠ 2 := fun h => c5 (Int32.toInt_inj.mp (h.trans (by decide))); omega) rfl ?_
        refine lv_aload_n hx hb dX3_happen_59 rfl (lv_at hl 0 rfl) ?_
        refine lv_dup hx hb dX3_happen_60 rfl ?_
        refine gX3_this_evening hC hw dX3_happen_61 ?_
        refine lv_iconst (v := 1) hx hb dX3_happen_64 rfl ?_
        refine lv_iadd hx hb dX3_happen_65 ?_
        refine pX3_this_evening hC hw dX3_happen_66 (fun H locs hw => ?_)
        obtain rfl := Option.some.inj hf
        exact ret _ _ _ _ dX3_happen_69 hw
set_option maxHeartbeats 4000000 in
set_option maxRecDepth 100000 in
theorem metX3_goCrises  {res : (Nat → Int32) × Int32 × Int32 × Int32 × Int32 × Int32 × Int32 × Int32 × Int32 × Int32 × Int32 × Int32 × Int32 × Int32 × Int32 × (Nat → Int32) × Int32 × Int32 × Int32} (hf : fX3_goCrises m_cell m_points m_fouls m_evening m_act m_which m_whither m_hard m_acts m_moving m_goes m_left m_touches m_cushions m_cushionsThen m_touchedFirst m_stepsThen m_downNow m_touchedMany m_cushionMany m_were m_badAct m_badWhy m_foulAct = some res) : CtV l yX3_goCrises cX3_goCrises 4 6 D E sz [.ref (h 0)] (WX3 h E m_cell m_points m_fouls m_evening m_sightStep m_sightCell m_sights m_pad m_padMany m_act m_which m_whither m_hard m_acts m_moving m_goes m_left m_touches m_cushions m_cushionsThen m_touchedFirst m_stepsThen m_downNow m_touchedMany m_cushionMany m_were m_had m_badAct m_badWhy m_foulAct m_met m_far m_fit m_now m_fitMany m_byCell m_wins m_chance m_kept m_isKept m_keptAt m_isWriting) (WX3 h E res.1 res.2.1 res.2.2.1 res.2.2.2.1 m_sightStep m_sightCell m_sights m_pad m_padMany m_act m_which m_whither m_hard m_acts res.2.2.2.2.1 res.2.2.2.2.2.1 res.2.2.2.2.2.2.1 res.2.2.2.2.2.2.2.1 res.2.2.2.2.2.2.2.2.1 res.2.2.2.2.2.2.2.2.2.1 res.2.2.2.2.2.2.2.2.2.2.1 res.2.2.2.2.2.2.2.2.2.2.2.1 res.2.2.2.2.2.2.2.2.2.2.2.2.1 res.2.2.2.2.2.2.2.2.2.2.2.2.2.1 res.2.2.2.2.2.2.2.2.2.2.2.2.2.2.1 res.2.2.2.2.2.2.2.2.2.2.2.2.2.2.2.1 m_had res.2.2.2.2.2.2.2.2.2.2.2.2.2.2.2.2.1 res.2.2.2.2.2.2.2.2.2.2.2.2.2.2.2.2.2.1 res.2.2.2.2.2.2.2.2.2.2.2.2.2.2.2.2.2.2 m_met m_far m_fit m_now m_fitMany m_byCell m_wins m_chance m_kept m_isKept m_keptAt m_isWriting) := by
  refine startV (own := RX3) (by decide) rfl (Nat.le_of_ble_eq_true rfl) ?_
  intro p e s m args below meth c A Q ls hC ret hl hw
  have hx := hC.1.1
  have hb := hC.1.2.1
  have hown := hC.1.2.2.2.1
  have hts := hC.1.2.2.2.2
  have hl : lv_has ls 4 [(0, .ref (h 0))] := hl
  have L127 : ∀ (k30c : Int32 → (Nat → Int32) → Int32 → Int32 → Int32 → Int32 → Int32 → Int32 → Int32 → Int32 → Int32 → Int32 → Int32 → Int32 → Int32 → Int32 → (Nat → Int32) → Int32 → Int32 → Int32 → Option ((Nat → Int32) × Int32 × Int32 × Int32 × Int32 × Int32 × Int32 × Int32 × Int32 × Int32 × Int32 × Int32 × Int32 × Int32 × Int32 × (Nat → Int32) × Int32 × Int32 × Int32)) (hk30 : ∀ (v1 : Int32) (m_cell : Nat → Int32) (m_points : Int32) (m_fouls : Int32) (m_evening : Int32) (m_moving : Int32) (m_goes : Int32) (m_left : Int32) (m_touches : Int32) (m_cushions : Int32) (m_cushionsThen : Int32) (m_touchedFirst : Int32) (m_stepsThen : Int32) (m_downNow : Int32) (m_touchedMany : Int32) (m_cushionMany : Int32) (m_were : Nat → Int32) (m_badAct : Int32) (m_badWhy : Int32) (m_foulAct : Int32) (H : Heap) (locs : List Loc) (ls : Array Slot), Wo D A s.heap H locs (WX3 h E m_cell m_points m_fouls m_evening m_sightStep m_sightCell m_sights m_pad m_padMany m_act m_which m_whither m_hard m_acts m_moving m_goes m_left m_touches m_cushions m_cushionsThen m_touchedFirst m_stepsThen m_downNow m_touchedMany m_cushionMany m_were m_had m_badAct m_badWhy m_foulAct m_met m_far m_fit m_now m_fitMany m_byCell m_wins m_chance m_kept m_isKept m_keptAt m_isWriting) → lv_has ls 4 [(0, .ref (h 0)), (1, .int v1)] → k30c v1 m_cell m_points m_fouls m_evening m_moving m_goes m_left m_touches m_cushions m_cushionsThen m_touchedFirst m_stepsThen m_downNow m_touchedMany m_cushionMany m_were m_badAct m_badWhy m_foulAct = some res → W p l e (rmN 6) s m args below meth c H locs 0 0 Q (F0 m 30 ls [])) (v1 : Int32) (v3 : Int32) (m_cell : Nat → Int32) (m_points : Int32) (m_fouls : Int32) (m_evening : Int32) (m_moving : Int32) (m_goes : Int32) (m_left : Int32) (m_touches : Int32) (m_cushions : Int32) (m_cushionsThen : Int32) (m_touchedFirst : Int32) (m_stepsThen : Int32) (m_downNow : Int32) (m_touchedMany : Int32) (m_cushionMany : Int32) (m_were : Nat → Int32) (m_badAct : Int32) (m_badWhy : Int32) (m_foulAct : Int32) (H : Heap) (locs : List Loc) (ls : Array Slot), Wo D A s.heap H locs (WX3 h E m_cell m_points m_fouls m_evening m_sightStep m_sightCell m_sights m_pad m_padMany m_act m_which m_whither m_hard m_acts m_moving m_goes m_left m_touches m_cushions m_cushionsThen m_touchedFirst m_stepsThen m_downNow m_touchedMany m_cushionMany m_were m_had m_badAct m_badWhy m_foulAct m_met m_far m_fit m_now m_fitMany m_byCell m_wins m_chance m_kept m_isKept m_keptAt m_isWriting) → lv_has ls 4 [(0, .ref (h 0)), (1, .int v1), (3, .int v3)] → fX3_goCrises_L127 m_act m_which m_whither m_hard m_acts k30c v1 v3 m_cell m_points m_fouls m_evening m_moving m_goes m_left m_touches m_cushions m_cushionsThen m_touchedFirst m_stepsThen m_downNow m_touchedMany m_cushionMany m_were m_badAct m_badWhy m_foulAct = some res → W p l e (rmN 6) s m args below meth c H locs 0 0 Q (F0 m 127 ls []) := by
    intro k30c hk30 v1 v3 m_cell m_points m_fouls m_evening m_moving m_goes m_left m_touches m_cushions m_cushionsThen m_touchedFirst m_stepsThen m_downNow m_touchedMany m_cushionMany m_were m_badAct m_badWhy m_foulAct H locs ls hw hl hf
    refine lv_aload_n hx hb dX3_goCrises_127 rfl (lv_at hl 0 rfl) ?_
    refine lv_aload_n hx hb dX3_goCrises_128 rfl (lv_at hl 0 rfl) ?_
    refine gX3_this_fouls hC hw dX3_goCrises_129 ?_
    refine lv_iload_n hx hb dX3_goCrises_132 rfl (lv_at hl 2 rfl) ?_
    refine lv_icmp_le (tgt := 147) hx hb dX3_goCrises_133 rfl (fun c5 => ?_) (fun c5 => ?_)
    · have hf := dk_t c5 hf
      refine lv_aload_n hx hb dX3_goCrises_147 rfl (lv_at hl 0 rfl) ?_
      refine gX3_this_foulAct hC hw dX3_goCrises_148 ?_
      refine pX3_this_foulAct hC hw dX3_goCrises_151 (fun H locs hw => ?_)
      refine lv_iinc (v := (v1 + 1)) (lv' := [(1, .int (v1 + 1)), (0, .ref (h 0)), (3, .int v3)]) hx hb dX3_goCrises_154 hl (k := 1) rfl rfl (by decide) rfl (fun ls hl => ?_)
      refine lv_goto (tgt := 30) hx hb dX3_goCrises_157 rfl ?_
      exact hk30 (v1 + 1) m_cell m_points m_fouls m_evening m_moving m_goes m_left m_touches m_cushions m_cushionsThen m_touchedFirst m_stepsThen m_downNow m_touchedMany m_cushionMany m_were m_badAct m_badWhy m_foulAct _ _ _ hw (lv_sub hl [1, 0] rfl) hf
    · have hf := dk_f c5 hf
      refine lv_aload_n hx hb dX3_goCrises_136 rfl (lv_at hl 0 rfl) ?_
      refine gX3_this_foulAct hC hw dX3_goCrises_137 ?_
      refine lv_if_ge (tgt := 147) hx hb dX3_goCrises_140 rfl (fun c4 => ?_) (fun c4 => ?_)
      · have hf := dk_t c4 hf
        refine lv_aload_n hx hb dX3_goCrises_147 rfl (lv_at hl 0 rfl) ?_
        refine gX3_this_foulAct hC hw dX3_goCrises_148 ?_
        refine pX3_this_foulAct hC hw dX3_goCrises_151 (fun H locs hw => ?_)
        refine lv_iinc (v := (v1 + 1)) (lv' := [(1, .int (v1 + 1)), (0, .ref (h 0)), (3, .int v3)]) hx hb dX3_goCrises_154 hl (k := 1) rfl rfl (by decide) rfl (fun ls hl => ?_)
        refine lv_goto (tgt := 30) hx hb dX3_goCrises_157 rfl ?_
        exact hk30 (v1 + 1) m_cell m_points m_fouls m_evening m_moving m_goes m_left m_touches m_cushions m_cushionsThen m_touchedFirst m_stepsThen m_downNow m_touchedMany m_cushionMany m_were m_badAct m_badWhy m_foulAct _ _ _ hw (lv_sub hl [1, 0] rfl) hf
      · have hf := dk_f c4 hf
        refine lv_iload_n hx hb dX3_goCrises_143 rfl (lv_at hl 1 rfl) ?_
        refine lv_goto (tgt := 151) hx hb dX3_goCrises_144 rfl ?_
        refine pX3_this_foulAct hC hw dX3_goCrises_151 (fun H locs hw => ?_)
        refine lv_iinc (v := (v1 + 1)) (lv' := [(1, .int (v1 + 1)), (0, .ref (h 0)), (3, .int v3)]) hx hb dX3_goCrises_154 hl (k := 1) rfl rfl (by decide) rfl (fun ls hl => ?_)
        refine lv_goto (tgt := 30) hx hb dX3_goCrises_157 rfl ?_
        exact hk30 (v1 + 1) m_cell m_points m_fouls m_evening m_moving m_goes m_left m_touches m_cushions m_cushionsThen m_touchedFirst m_stepsThen m_downNow m_touchedMany m_cushionMany m_were m_badAct m_badWhy v1 _ _ _ hw (lv_sub hl [1, 0] rfl) hf
  have L92 : ∀ (k30c : Int32 → (Nat → Int32) → Int32 → Int32 → Int32 → Int32 → Int32 → Int32 → Int32 → Int32 → Int32 → Int32 → Int32 → Int32 → Int32 → Int32 → (Nat → Int32) → Int32 → Int32 → Int32 → Option ((Nat → Int32) × Int32 × Int32 × Int32 × Int32 × Int32 × Int32 × Int32 × Int32 × Int32 × Int32 × Int32 × Int32 × Int32 × Int32 × (Nat → Int32) × Int32 × Int32 × Int32)) (hk30 : ∀ (v1 : Int32) (m_cell : Nat → Int32) (m_points : Int32) (m_fouls : Int32) (m_evening : Int32) (m_moving : Int32) (m_goes : Int32) (m_left : Int32) (m_touches : Int32) (m_cushions : Int32) (m_cushionsThen : Int32) (m_touchedFirst : Int32) (m_stepsThen : Int32) (m_downNow : Int32) (m_touchedMany : Int32) (m_cushionMany : Int32) (m_were : Nat → Int32) (m_badAct : Int32) (m_badWhy : Int32) (m_foulAct : Int32) (H : Heap) (locs : List Loc) (ls : Array Slot), Wo D A s.heap H locs (WX3 h E m_cell m_points m_fouls m_evening m_sightStep m_sightCell m_sights m_pad m_padMany m_act m_which m_whither m_hard m_acts m_moving m_goes m_left m_touches m_cushions m_cushionsThen m_touchedFirst m_stepsThen m_downNow m_touchedMany m_cushionMany m_were m_had m_badAct m_badWhy m_foulAct m_met m_far m_fit m_now m_fitMany m_byCell m_wins m_chance m_kept m_isKept m_keptAt m_isWriting) → lv_has ls 4 [(0, .ref (h 0)), (1, .int v1)] → k30c v1 m_cell m_points m_fouls m_evening m_moving m_goes m_left m_touches m_cushions m_cushionsThen m_touchedFirst m_stepsThen m_downNow m_touchedMany m_cushionMany m_were m_badAct m_badWhy m_foulAct = some res → W p l e (rmN 6) s m args below meth c H locs 0 0 Q (F0 m 30 ls [])) (v1 : Int32) (v2 : Int32) (v3 : Int32) (k1 : Int32) (m_cell : Nat → Int32) (m_points : Int32) (m_fouls : Int32) (m_evening : Int32) (m_moving : Int32) (m_goes : Int32) (m_left : Int32) (m_touches : Int32) (m_cushions : Int32) (m_cushionsThen : Int32) (m_touchedFirst : Int32) (m_stepsThen : Int32) (m_downNow : Int32) (m_touchedMany : Int32) (m_cushionMany : Int32) (m_were : Nat → Int32) (m_badAct : Int32) (m_badWhy : Int32) (m_foulAct : Int32) (H : Heap) (locs : List Loc) (ls : Array Slot), Wo D A s.heap H locs (WX3 h E m_cell m_points m_fouls m_evening m_sightStep m_sightCell m_sights m_pad m_padMany m_act m_which m_whither m_hard m_acts m_moving m_goes m_left m_touches m_cushions m_cushionsThen m_touchedFirst m_stepsThen m_downNow m_touchedMany m_cushionMany m_were m_had m_badAct m_badWhy m_foulAct m_met m_far m_fit m_now m_fitMany m_byCell m_wins m_chance m_kept m_isKept m_keptAt m_isWriting) → lv_has ls 4 [(0, .ref (h 0)), (1, .int v1), (2, .int v2), (3, .int v3)] → fX3_goCrises_L92 m_act m_which m_whither m_hard m_acts k30c v1 v2 v3 k1 m_cell m_points m_fouls m_evening m_moving m_goes m_left m_touches m_cushions m_cushionsThen m_touchedFirst m_stepsThen m_downNow m_touchedMany m_cushionMany m_were m_badAct m_badWhy m_foulAct = some res → W p l e (rmN 6) s m args below meth c H locs 0 0 Q (F0 m 92 ls [.int k1, .ref (h 0)]) := by
    intro k30c hk30 v1 v2 v3 k1 m_cell m_points m_fouls m_evening m_moving m_goes m_left m_touches m_cushions m_cushionsThen m_touchedFirst m_stepsThen m_downNow m_touchedMany m_cushionMany m_were m_badAct m_badWhy m_foulAct H locs ls hw hl hf
    refine pX3_this_badWhy hC hw dX3_goCrises_92 (fun H locs hw => ?_)
    refine lv_iload_n hx hb dX3_goCrises_95 rfl (lv_at hl 2 rfl) ?_
    refine lv_if_ne (tgt := 127) hx hb dX3_goCrises_96 rfl (fun c11 => ?_) (fun c11 => ?_)
    · have hf := dk_f c11 hf
      exact L127 k30c hk30 v1 v3 m_cell m_points m_fouls m_evening m_moving m_goes m_left m_touches m_cushions m_cushionsThen m_touchedFirst m_stepsThen m_downNow m_touchedMany m_cushionMany m_were m_badAct k1 m_foulAct _ _ _ hw (lv_sub hl [0, 1, 3] rfl) hf
    · have hf := dk_t c11 hf
      refine lv_aload_n hx hb dX3_goCrises_99 rfl (lv_at hl 0 rfl) ?_
      refine lv_aload_n hx hb dX3_goCrises_100 rfl (lv_at hl 0 rfl) ?_
      refine gX3_this_act hC hw dX3_goCrises_101 ?_
      refine lv_iload_n hx hb dX3_goCrises_104 rfl (lv_at hl 1 rfl) ?_
      obtain ⟨b6, hf⟩ := dk_c hf
      refine aX3_m_act hC hw b6 dX3_goCrises_105 ?_
      refine lv_aload_n hx hb dX3_goCrises_106 rfl (lv_at hl 0 rfl) ?_
      refine gX3_this_which hC hw dX3_goCrises_107 ?_
      refine lv_iload_n hx hb dX3_goCrises_110 rfl (lv_at hl 1 rfl) ?_
      obtain ⟨b7, hf⟩ := dk_c hf
      refine aX3_m_which hC hw b7 dX3_goCrises_111 ?_
      refine lv_aload_n hx hb dX3_goCrises_112 rfl (lv_at hl 0 rfl) ?_
      refine gX3_this_whither hC hw dX3_goCrises_113 ?_
      refine lv_iload_n hx hb dX3_goCrises_116 rfl (lv_at hl 1 rfl) ?_
      obtain ⟨b8, hf⟩ := dk_c hf
      refine aX3_m_whither hC hw b8 dX3_goCrises_117 ?_
      refine lv_aload_n hx hb dX3_goCrises_118 rfl (lv_at hl 0 rfl) ?_
      refine gX3_this_hard hC hw dX3_goCrises_119 ?_
      refine lv_iload_n hx hb dX3_goCrises_122 rfl (lv_at hl 1 rfl) ?_
      obtain ⟨b9, hf⟩ := dk_c hf
      refine aX3_m_hard hC hw b9 dX3_goCrises_123 ?_
      obtain ⟨z10, hz10, hf⟩ := dk_b hf
      refine callVV (rest := []) 0 _ 3 hC hw (sm1 _) (metX3_happen hz10) mi_X3_happen q673 (rm_ok (by decide) (by decide)) rfl rfl rfl hl.1 rfl (Nat.le_of_ble_eq_true rfl) dX3_goCrises_124 ⟨Nat.zero_le _, Nat.zero_le _⟩ (sm2 _ _) (fun H locs hw => ?_)
      exact L127 k30c hk30 v1 v3 z10.1 z10.2.1 z10.2.2.1 z10.2.2.2.1 z10.2.2.2.2.1 z10.2.2.2.2.2.1 z10.2.2.2.2.2.2.1 z10.2.2.2.2.2.2.2.1 z10.2.2.2.2.2.2.2.2.1 z10.2.2.2.2.2.2.2.2.2.1 z10.2.2.2.2.2.2.2.2.2.2.1 z10.2.2.2.2.2.2.2.2.2.2.2.1 z10.2.2.2.2.2.2.2.2.2.2.2.2.1 z10.2.2.2.2.2.2.2.2.2.2.2.2.2.1 z10.2.2.2.2.2.2.2.2.2.2.2.2.2.2.1 z10.2.2.2.2.2.2.2.2.2.2.2.2.2.2.2 m_badAct k1 m_foulAct _ _ _ hw (lv_sub hl [0, 1, 3] rfl) hf
  have L78 : ∀ (k30c : Int32 → (Nat → Int32) → Int32 → Int32 → Int32 → Int32 → Int32 → Int32 → Int32 → Int32 → Int32 → Int32 → Int32 → Int32 → Int32 → Int32 → (Nat → Int32) → Int32 → Int32 → Int32 → Option ((Nat → Int32) × Int32 × Int32 × Int32 × Int32 × Int32 × Int32 × Int32 × Int32 × Int32 × Int32 × Int32 × Int32 × Int32 × Int32 × (Nat → Int32) × Int32 × Int32 × Int32)) (hk30 : ∀ (v1 : Int32) (m_cell : Nat → Int32) (m_points : Int32) (m_fouls : Int32) (m_evening : Int32) (m_moving : Int32) (m_goes : Int32) (m_left : Int32) (m_touches : Int32) (m_cushions : Int32) (m_cushionsThen : Int32) (m_touchedFirst : Int32) (m_stepsThen : Int32) (m_downNow : Int32) (m_touchedMany : Int32) (m_cushionMany : Int32) (m_were : Nat → Int32) (m_badAct : Int32) (m_badWhy : Int32) (m_foulAct : Int32) (H : Heap) (locs : List Loc) (ls : Array Slot), Wo D A s.heap H locs (WX3 h E m_cell m_points m_fouls m_evening m_sightStep m_sightCell m_sights m_pad m_padMany m_act m_which m_whither m_hard m_acts m_moving m_goes m_left m_touches m_cushions m_cushionsThen m_touchedFirst m_stepsThen m_downNow m_touchedMany m_cushionMany m_were m_had m_badAct m_badWhy m_foulAct m_met m_far m_fit m_now m_fitMany m_byCell m_wins m_chance m_kept m_isKept m_keptAt m_isWriting) → lv_has ls 4 [(0, .ref (h 0)), (1, .int v1)] → k30c v1 m_cell m_points m_fouls m_evening m_moving m_goes m_left m_touches m_cushions m_cushionsThen m_touchedFirst m_stepsThen m_downNow m_touchedMany m_cushionMany m_were m_badAct m_badWhy m_foulAct = some res → W p l e (rmN 6) s m args below meth c H locs 0 0 Q (F0 m 30 ls [])) (v1 : Int32) (v2 : Int32) (v3 : Int32) (k1 : Int32) (m_cell : Nat → Int32) (m_points : Int32) (m_fouls : Int32) (m_evening : Int32) (m_moving : Int32) (m_goes : Int32) (m_left : Int32) (m_touches : Int32) (m_cushions : Int32) (m_cushionsThen : Int32) (m_touchedFirst : Int32) (m_stepsThen : Int32) (m_downNow : Int32) (m_touchedMany : Int32) (m_cushionMany : Int32) (m_were : Nat → Int32) (m_badAct : Int32) (m_badWhy : Int32) (m_foulAct : Int32) (H : Heap) (locs : List Loc) (ls : Array Slot), Wo D A s.heap H locs (WX3 h E m_cell m_points m_fouls m_evening m_sightStep m_sightCell m_sights m_pad m_padMany m_act m_which m_whither m_hard m_acts m_moving m_goes m_left m_touches m_cushions m_cushionsThen m_touchedFirst m_stepsThen m_downNow m_touchedMany m_cushionMany m_were m_had m_badAct m_badWhy m_foulAct m_met m_far m_fit m_now m_fitMany m_byCell m_wins m_chance m_kept m_isKept m_keptAt m_isWriting) → lv_has ls 4 [(0, .ref (h 0)), (1, .int v1), (2, .int v2), (3, .int v3)] → fX3_goCrises_L78 m_act m_which m_whither m_hard m_acts k30c v1 v2 v3 k1 m_cell m_points m_fouls m_evening m_moving m_goes m_left m_touches m_cushions m_cushionsThen m_touchedFirst m_stepsThen m_downNow m_touchedMany m_cushionMany m_were m_badAct m_badWhy m_foulAct = some res → W p l e (rmN 6) s m args below meth c H locs 0 0 Q (F0 m 78 ls [.int k1, .ref (h 0)]) := by
    intro k30c hk30 v1 v2 v3 k1 m_cell m_points m_fouls m_evening m_moving m_goes m_left m_touches m_cushions m_cushionsThen m_touchedFirst m_stepsThen m_downNow m_touchedMany m_cushionMany m_were m_badAct m_badWhy m_foulAct H locs ls hw hl hf
    refine pX3_this_badAct hC hw dX3_goCrises_78 (fun H locs hw => ?_)
    refine lv_aload_n hx hb dX3_goCrises_81 rfl (lv_at hl 0 rfl) ?_
    refine lv_iload_n hx hb dX3_goCrises_82 rfl (lv_at hl 2 rfl) ?_
    refine lv_if_le (tgt := 90) hx hb dX3_goCrises_83 rfl (fun c12 => ?_) (fun c12 => ?_)
    · have hf := dk_t c12 hf
      refine lv_bipush (v := (-6)) hx hb dX3_goCrises_90 rfl ?_
      exact L92 k30c hk30 v1 v2 v3 (-6) m_cell m_points m_fouls m_evening m_moving m_goes m_left m_touches m_cushions m_cushionsThen m_touchedFirst m_stepsThen m_downNow m_touchedMany m_cushionMany m_were k1 m_badWhy m_foulAct _ _ _ hw (lv_sub hl [0, 1, 2, 3] rfl) hf
    · have hf := dk_f c12 hf
      refine lv_iload_n hx hb dX3_goCrises_86 rfl (lv_at hl 2 rfl) ?_
      refine lv_goto (tgt := 92) hx hb dX3_goCrises_87 rfl ?_
      exact L92 k30c hk30 v1 v2 v3 v2 m_cell m_points m_fouls m_evening m_moving m_goes m_left m_touches m_cushions m_cushionsThen m_touchedFirst m_stepsThen m_downNow m_touchedMany m_cushionMany m_were k1 m_badWhy m_foulAct _ _ _ hw (lv_sub hl [0, 1, 2, 3] rfl) hf
  have L30 : ∀ (n : Nat), ∀ (v1 : Int32) (m_cell : Nat → Int32) (m_points : Int32) (m_fouls : Int32) (m_evening : Int32) (m_moving : Int32) (m_goes : Int32) (m_left : Int32) (m_touches : Int32) (m_cushions : Int32) (m_cushionsThen : Int32) (m_touchedFirst : Int32) (m_stepsThen : Int32) (m_downNow : Int32) (m_touchedMany : Int32) (m_cushionMany : Int32) (m_were : Nat → Int32) (m_badAct : Int32) (m_badWhy : Int32) (m_foulAct : Int32) (H : Heap) (locs : List Loc) (ls : Array Slot), Wo D A s.heap H locs (WX3 h E m_cell m_points m_fouls m_evening m_sightStep m_sightCell m_sights m_pad m_padMany m_act m_which m_whither m_hard m_acts m_moving m_goes m_left m_touches m_cushions m_cushionsThen m_touchedFirst m_stepsThen m_downNow m_touchedMany m_cushionMany m_were m_had m_badAct m_badWhy m_foulAct m_met m_far m_fit m_now m_fitMany m_byCell m_wins m_chance m_kept m_isKept m_keptAt m_isWriting) → lv_has ls 4 [(0, .ref (h 0)), (1, .int v1)] → fX3_goCrises_L30 m_act m_which m_whither m_hard m_acts  n v1 m_cell m_points m_fouls m_evening m_moving m_goes m_left m_touches m_cushions m_cushionsThen m_touchedFirst m_stepsThen m_downNow m_touchedMany m_cushionMany m_were m_badAct m_badWhy m_foulAct = some res → W p l e (rmN 6) s m args below meth c H locs 0 0 Q (F0 m 30 ls []) := by
    intro  n
    induction n with
    | zero =>
      intro v1 m_cell m_points m_fouls m_evening m_moving m_goes m_left m_touches m_cushions m_cushionsThen m_touchedFirst m_stepsThen m_downNow m_touchedMany m_cushionMany m_were m_badAct m_badWhy m_foulAct H locs ls hw hl hf
      exact dk_n hf
    | succ n ih =>
      intro v1 m_cell m_points m_fouls m_evening m_moving m_goes m_left m_touches m_cushions m_cushionsThen m_touchedFirst m_stepsThen m_downNow m_touchedMany m_cushionMany m_were m_badAct m_badWhy m_foulAct H locs ls hw hl hf
      refine lv_iload_n hx hb dX3_goCrises_30 rfl (lv_at hl 1 rfl) ?_
      refine lv_aload_n hx hb dX3_goCrises_31 rfl (lv_at hl 0 rfl) ?_
      refine gX3_this_acts hC hw dX3_goCrises_32 ?_
      refine lv_icmp_ge (tgt := 160) hx hb dX3_goCrises_35 rfl (fun c15 => ?_) (fun c15 => ?_)
      · have hf := dk_t c15 hf
        obtain rfl := Option.some.inj hf
        exact ret _ _ _ _ dX3_goCrises_160 hw
      · have hf := dk_f c15 hf
        refine lv_aload_n hx hb dX3_goCrises_38 rfl (lv_at hl 0 rfl) ?_
        refine gX3_this_badAct hC hw dX3_goCrises_39 ?_
        refine lv_if_ge (tgt := 160) hx hb dX3_goCrises_42 rfl (fun c14 => ?_) (fun c14 => ?_)
        · have hf := dk_t c14 hf
          obtain rfl := Option.some.inj hf
          exact ret _ _ _ _ dX3_goCrises_160 hw
        · have hf := dk_f c14 hf
          refine lv_aload_n hx hb dX3_goCrises_45 rfl (lv_at hl 0 rfl) ?_
          refine lv_aload_n hx hb dX3_goCrises_46 rfl (lv_at hl 0 rfl) ?_
          refine gX3_this_act hC hw dX3_goCrises_47 ?_
          refine lv_iload_n hx hb dX3_goCrises_50 rfl (lv_at hl 1 rfl) ?_
          obtain ⟨b1, hf⟩ := dk_c hf
          refine aX3_m_act hC hw b1 dX3_goCrises_51 ?_
          refine lv_aload_n hx hb dX3_goCrises_52 rfl (lv_at hl 0 rfl) ?_
          refine gX3_this_which hC hw dX3_goCrises_53 ?_
          refine lv_iload_n hx hb dX3_goCrises_56 rfl (lv_at hl 1 rfl) ?_
          obtain ⟨b2, hf⟩ := dk_c hf
          refine aX3_m_which hC hw b2 dX3_goCrises_57 ?_
          obtain ⟨z3, hz3, hf⟩ := dk_b hf
          refine callVI (rest := []) 0 _ 3 hC hw (sm1 _) (metX3_whyNot hz3) mi_X3_whyNot q669 (rm_ok (by decide) (by decide)) rfl rfl rfl hl.1 rfl (Nat.le_of_ble_eq_true rfl) dX3_goCrises_58 ⟨Nat.zero_le _, Nat.zero_le _⟩ (sm2 _ _) (fun H locs hw => ?_)
          refine lv_istore_n (lv' := [(2, .int z3), (0, .ref (h 0)), (1, .int v1)]) hx hb dX3_goCrises_61 rfl hl (by decide) rfl (fun ls hl => ?_)
          refine lv_aload_n hx hb dX3_goCrises_62 rfl (lv_at hl 1 rfl) ?_
          refine gX3_this_fouls hC hw dX3_goCrises_63 ?_
          refine lv_istore_n (lv' := [(3, .int m_fouls), (2, .int z3), (0, .ref (h 0)), (1, .int v1)]) hx hb dX3_goCrises_66 rfl hl (by decide) rfl (fun ls hl => ?_)
          refine lv_aload_n hx hb dX3_goCrises_67 rfl (lv_at hl 2 rfl) ?_
          refine lv_iload_n hx hb dX3_goCrises_68 rfl (lv_at hl 1 rfl) ?_
          refine lv_if_le (tgt := 76) hx hb dX3_goCrises_69 rfl (fun c13 => ?_) (fun c13 => ?_)
          · have hf := dk_t c13 hf
            refine lv_bipush (v := (-6)) hx hb dX3_goCrises_76 rfl ?_
            exact L78 (fun y0 y1 y2 y3 y4 y5 y6 y7 y8 y9 y10 y11 y12 y13 y14 y15 y16 y17 y18 y19 => fX3_goCrises_L30 m_act m_which m_whither m_hard m_acts n y0 y1 y2 y3 y4 y5 y6 y7 y8 y9 y10 y11 y12 y13 y14 y15 y16 y17 y18 y19) ih v1 z3 m_fouls (-6) m_cell m_points m_fouls m_evening m_moving m_goes m_left m_touches m_cushions m_cushionsThen m_touchedFirst m_stepsThen m_downNow m_touchedMany m_cushionMany m_were m_badAct m_badWhy m_foulAct _ _ _ hw (lv_sub hl [2, 3, 1, 0] rfl) hf
          · have hf := dk_f c13 hf
            refine lv_iload_n hx hb dX3_goCrises_72 rfl (lv_at hl 3 rfl) ?_
            refine lv_goto (tgt := 78) hx hb dX3_goCrises_73 rfl ?_
            exact L78 (fun y0 y1 y2 y3 y4 y5 y6 y7 y8 y9 y10 y11 y12 y13 y14 y15 y16 y17 y18 y19 => fX3_goCrises_L30 m_act m_which m_whither m_hard m_acts n y0 y1 y2 y3 y4 y5 y6 y7 y8 y9 y10 y11 y12 y13 y14 y15 y16 y17 y18 y19) ih v1 z3 m_fouls v1 m_cell m_points m_fouls m_evening m_moving m_goes m_left m_touches m_cushions m_cushionsThen m_touchedFirst m_stepsThen m_downNow m_touchedMany m_cushionMany m_were m_badAct m_badWhy m_foulAct _ _ _ hw (lv_sub hl [2, 3, 1, 0] rfl) hf
  refine lv_aload_n hx hb dX3_goCrises_0 rfl (lv_at hl 0 rfl) ?_
  refine lv_bipush (v := (-6)) hx hb dX3_goCrises_1 rfl ?_
  refine pX3_this_badAct hC hw dX3_goCrises_3 (fun H locs hw => ?_)
  refine lv_aload_n hx hb dX3_goCrises_6 rfl (lv_at hl 0 rfl) ?_
  refine lv_bipush (v := (-6)) hx hb dX3_goCrises_7 rfl ?_
  refine pX3_this_badWhy hC hw dX3_goCrises_9 (fun H locs hw => ?_)
  refine lv_aload_n hx hb dX3_goCrises_12 rfl (lv_at hl 0 rfl) ?_
  refine lv_bipush (v := (-6)) hx hb dX3_goCrises_13 rfl ?_
  refine pX3_this_foulAct hC hw dX3_goCrises_15 (fun H locs hw => ?_)
  refine lv_aload_n hx hb dX3_goCrises_18 rfl (lv_at hl 0 rfl) ?_
  refine lv_iconst (v := 0) hx hb dX3_goCrises_19 rfl ?_
  refine pX3_this_touchedMany hC hw dX3_goCrises_20 (fun H locs hw => ?_)
  refine lv_aload_n hx hb dX3_goCrises_23 rfl (lv_at hl 0 rfl) ?_
  refine lv_iconst (v := 0) hx hb dX3_goCrises_24 rfl ?_
  refine pX3_this_cushionMany hC hw dX3_goCrises_25 (fun H locs hw => ?_)
  refine lv_iconst (v := 0) hx hb dX3_goCrises_28 rfl ?_
  refine lv_istore_n (lv' := [(1, .int 0), (0, .ref (h 0))]) hx hb dX3_goCrises_29 rfl hl (by decide) rfl (fun ls hl => ?_)
  exact L30 FU 0 m_cell m_points m_fouls m_evening m_moving m_goes m_left m_touches m_cushions m_cushionsThen m_touchedFirst m_stepsThen m_downNow 0 0 m_were (-6) (-6) (-6) _ _ _ hw (lv_sub hl [1, 0] rfl) hf
set_option maxHeartbeats 4000000 in
set_option maxRecDepth 100000 in
theorem metX3_refusal  {res : Int32 × (Nat → Int32) × Int32 × Int32 × Int32 × (Nat → Int32) × (Nat → Int32) × (Nat → Int32) × (Nat → Int32) × Int32 × Int32 × Int32 × Int32 × Int32 × Int32 × Int32 × Int32 × Int32 × Int32 × Int32 × Int32 × (Nat → Int32) × (Nat → Int32) × Int32 × Int32 × Int32} (hf : fX3_refusal m_cell m_points m_fouls m_evening m_pad m_padMany m_act m_which m_whither m_hard m_acts m_moving m_goes m_left m_touches m_cushions m_cushionsThen m_touchedFirst m_stepsThen m_downNow m_touchedMany m_cushionMany m_were m_had m_badAct m_badWhy m_foulAct = some res) : CtI l yX3_refusal cX3_refusal 1 .int 7 D E sz [.ref (h 0)] (WX3 h E m_cell m_points m_fouls m_evening m_sightStep m_sightCell m_sights m_pad m_padMany m_act m_which m_whither m_hard m_acts m_moving m_goes m_left m_touches m_cushions m_cushionsThen m_touchedFirst m_stepsThen m_downNow m_touchedMany m_cushionMany m_were m_had m_badAct m_badWhy m_foulAct m_met m_far m_fit m_now m_fitMany m_byCell m_wins m_chance m_kept m_isKept m_keptAt m_isWriting) (WX3 h E res.2.1 res.2.2.1 res.2.2.2.1 res.2.2.2.2.1 m_sightStep m_sightCell m_sights m_pad m_padMany res.2.2.2.2.2.1 res.2.2.2.2.2.2.1 res.2.2.2.2.2.2.2.1 res.2.2.2.2.2.2.2.2.1 res.2.2.2.2.2.2.2.2.2.1 res.2.2.2.2.2.2.2.2.2.2.1 res.2.2.2.2.2.2.2.2.2.2.2.1 res.2.2.2.2.2.2.2.2.2.2.2.2.1 res.2.2.2.2.2.2.2.2.2.2.2.2.2.1 res.2.2.2.2.2.2.2.2.2.2.2.2.2.2.1 res.2.2.2.2.2.2.2.2.2.2.2.2.2.2.2.1 res.2.2.2.2.2.2.2.2.2.2.2.2.2.2.2.2.1 res.2.2.2.2.2.2.2.2.2.2.2.2.2.2.2.2.2.1 res.2.2.2.2.2.2.2.2.2.2.2.2.2.2.2.2.2.2.1 res.2.2.2.2.2.2.2.2.2.2.2.2.2.2.2.2.2.2.2.1 res.2.2.2.2.2.2.2.2.2.2.2.2.2.2.2.2.2.2.2.2.1 res.2.2.2.2.2.2.2.2.2.2.2.2.2.2.2.2.2.2.2.2.2.1 res.2.2.2.2.2.2.2.2.2.2.2.2.2.2.2.2.2.2.2.2.2.2.1 res.2.2.2.2.2.2.2.2.2.2.2.2.2.2.2.2.2.2.2.2.2.2.2.1 res.2.2.2.2.2.2.2.2.2.2.2.2.2.2.2.2.2.2.2.2.2.2.2.2.1 res.2.2.2.2.2.2.2.2.2.2.2.2.2.2.2.2.2.2.2.2.2.2.2.2.2 m_met m_far m_fit m_now m_fitMany m_byCell m_wins m_chance m_kept m_isKept m_keptAt m_isWriting) res.1 := by
  refine startI (own := RX3) (by decide) rfl (Nat.le_of_ble_eq_true rfl) ?_
  intro p e s m args below meth c A Q ls hC ret hl hw
  have hx := hC.1.1
  have hb := hC.1.2.1
  have hown := hC.1.2.2.2.1
  have hts := hC.1.2.2.2.2
  have hl : lv_has ls 1 [(0, .ref (h 0))] := hl
  refine lv_aload_n hx hb dX3_refusal_0 rfl (lv_at hl 0 rfl) ?_
  obtain ⟨z1, hz1, hf⟩ := dk_b hf
  refine callVV (rest := []) 0 _ 3 hC hw (sm1 _) (metX3_keepNow hz1) mi_X3_keepNow q660 (rm_ok (by decide) (by decide)) rfl rfl rfl hl.1 rfl (Nat.le_of_ble_eq_true rfl) dX3_refusal_1 ⟨Nat.zero_le _, Nat.zero_le _⟩ (sm2 _ _) (fun H locs hw => ?_)
  refine lv_aload_n hx hb dX3_refusal_4 rfl (lv_at hl 0 rfl) ?_
  obtain ⟨z2, hz2, hf⟩ := dk_b hf
  refine callVI (rest := []) 0 _ 3 hC hw (sm1 _) (metX3_fault hz2) mi_X3_fault q664 (rm_ok (by decide) (by decide)) rfl rfl rfl hl.1 rfl (Nat.le_of_ble_eq_true rfl) dX3_refusal_5 ⟨Nat.zero_le _, Nat.zero_le _⟩ (sm2 _ _) (fun H locs hw => ?_)
  refine lv_if_lt (tgt := 14) hx hb dX3_refusal_8 rfl (fun c5 => ?_) (fun c5 => ?_)
  · have hf := dk_t c5 hf
    refine lv_aload_n hx hb dX3_refusal_14 rfl (lv_at hl 0 rfl) ?_
    obtain ⟨z3, hz3, hf⟩ := dk_b hf
    refine callVV (rest := []) 0 _ 3 hC hw (sm1 _) (metX3_goCrises hz3) mi_X3_goCrises q665 (rm_ok (by decide) (by decide)) rfl rfl rfl hl.1 rfl (Nat.le_of_ble_eq_true rfl) dX3_refusal_15 ⟨Nat.zero_le _, Nat.zero_le _⟩ (sm2 _ _) (fun H locs hw => ?_)
    refine lv_aload_n hx hb dX3_refusal_18 rfl (lv_at hl 0 rfl) ?_
    refine gX3_this_badAct hC hw dX3_refusal_19 ?_
    refine lv_if_lt (tgt := 30) hx hb dX3_refusal_22 rfl (fun c4 => ?_) (fun c4 => ?_)
    · have hf := dk_t c4 hf
      refine lv_bipush (v := (-6)) hx hb dX3_refusal_30 rfl ?_
      obtain rfl := Option.some.inj hf
      exact ret _ _ _ _ _ dX3_refusal_32 rfl rfl hw
    · have hf := dk_f c4 hf
      refine lv_bipush (v := (-3)) hx hb dX3_refusal_25 rfl ?_
      refine lv_goto (tgt := 32) hx hb dX3_refusal_27 rfl ?_
      obtain rfl := Option.some.inj hf
      exact ret _ _ _ _ _ dX3_refusal_32 rfl rfl hw
  · have hf := dk_f c5 hf
    refine lv_bipush (v := (-5)) hx hb dX3_refusal_11 rfl ?_
    obtain rfl := Option.some.inj hf
    exact ret _ _ _ _ _ dX3_refusal_13 rfl rfl hw
set_option maxHeartbeats 4000000 in
set_option maxRecDepth 100000 in
theorem metX3_back {v1 : Int32} {res : Int32 × (Nat → Int32) × Int32 × Int32 × Int32} (hf : fX3_back v1 m_cell m_points m_fouls m_evening m_had = some res) : CtI l yX3_back cX3_back 3 .int 0 D E sz [.ref (h 0), .int v1] (WX3 h E m_cell m_points m_fouls m_evening m_sightStep m_sightCell m_sights m_pad m_padMany m_act m_which m_whither m_hard m_acts m_moving m_goes m_left m_touches m_cushions m_cushionsThen m_touchedFirst m_stepsThen m_downNow m_touchedMany m_cushionMany m_were m_had m_badAct m_badWhy m_foulAct m_met m_far m_fit m_now m_fitMany m_byCell m_wins m_chance m_kept m_isKept m_keptAt m_isWriting) (WX3 h E res.2.1 res.2.2.1 res.2.2.2.1 res.2.2.2.2 m_sightStep m_sightCell m_sights m_pad m_padMany m_act m_which m_whither m_hard m_acts m_moving m_goes m_left m_touches m_cushions m_cushionsThen m_touchedFirst m_stepsThen m_downNow m_touchedMany m_cushionMany m_were m_had m_badAct m_badWhy m_foulAct m_met m_far m_fit m_now m_fitMany m_byCell m_wins m_chance m_kept m_isKept m_keptAt m_isWriting) res.1 := by
  refine startI (own := RX3) (by decide) rfl (Nat.le_of_ble_eq_true rfl) ?_
  intro p e s m args below meth c A Q ls hC ret hl hw
  have hx := hC.1.1
  have hb := hC.1.2.1
  have hown := hC.1.2.2.2.1
  have hts := hC.1.2.2.2.2
  have hl : lv_has ls 3 [(0, .ref (h 0)), (1, .int v1)] := hl
  have L2 : ∀ (n : Nat), ∀ (v2 : Int32) (m_cell : Nat → Int32) (m_points : Int32) (m_fouls : Int32) (m_evening : Int32) (H : Heap) (locs : List Loc) (ls : Array Slot), Wo D A s.heap H locs (WX3 h E m_cell m_points m_fouls m_evening m_sightStep m_sightCell m_sights m_pad m_padMany m_act m_which m_whither m_hard m_acts m_moving m_goes m_left m_touches m_cushions m_cushionsThen m_touchedFirst m_stepsThen m_downNow m_touchedMany m_cushionMany m_were m_had m_badAct m_badWhy m_foulAct m_met m_far m_fit m_now m_fitMany m_byCell m_wins m_chance m_kept m_isKept m_keptAt m_isWriting) → lv_has ls 3 [(0, .ref (h 0)), (1, .int v1), (2, .int v2)] → fX3_back_L2 v1 m_had  n v2 m_cell m_points m_fouls m_evening = some res → W p l e (rmN 0) s m args below meth c H locs 0 0 Q (F0 m 2 ls []) := by
    intro  n
    induction n with
    | zero =>
      intro v2 m_cell m_points m_fouls m_evening H locs ls hw hl hf
      exact dk_n hf
    | succ n ih =>
      intro v2 m_cell m_points m_fouls m_evening H locs ls hw hl hf
      refine lv_iload_n hx hb dX3_back_2 rfl (lv_at hl 2 rfl) ?_
      refine lv_iconst (v := 3) hx hb dX3_back_3 rfl ?_
      refine lv_icmp_ge (tgt := 25) hx hb dX3_back_4 rfl (fun c6 => ?_) (fun c6 => ?_)
      · have hf := dk_t c6 hf
        refine lv_aload_n hx hb dX3_back_25 rfl (lv_at hl 0 rfl) ?_
        refine lv_aload_n hx hb dX3_back_26 rfl (lv_at hl 0 rfl) ?_
        refine gX3_this_had hC hw dX3_back_27 ?_
        refine lv_iconst (v := 3) hx hb dX3_back_30 rfl ?_
        obtain ⟨b1, hf⟩ := dk_c hf
        refine aX3_m_had hC hw b1 dX3_back_31 ?_
        refine pX3_this_points hC hw dX3_back_32 (fun H locs hw => ?_)
        refine lv_aload_n hx hb dX3_back_35 rfl (lv_at hl 0 rfl) ?_
        refine lv_aload_n hx hb dX3_back_36 rfl (lv_at hl 0 rfl) ?_
        refine gX3_this_had hC hw dX3_back_37 ?_
        refine lv_iconst (v := 4) hx hb dX3_back_40 rfl ?_
        obtain ⟨b2, hf⟩ := dk_c hf
        refine aX3_m_had hC hw b2 dX3_back_41 ?_
        refine pX3_this_fouls hC hw dX3_back_42 (fun H locs hw => ?_)
        refine lv_aload_n hx hb dX3_back_45 rfl (lv_at hl 0 rfl) ?_
        refine lv_aload_n hx hb dX3_back_46 rfl (lv_at hl 0 rfl) ?_
        refine gX3_this_had hC hw dX3_back_47 ?_
        refine lv_iconst (v := 5) hx hb dX3_back_50 rfl ?_
        obtain ⟨b3, hf⟩ := dk_c hf
        refine aX3_m_had hC hw b3 dX3_back_51 ?_
        refine pX3_this_evening hC hw dX3_back_52 (fun H locs hw => ?_)
        refine lv_iload_n hx hb dX3_back_55 rfl (lv_at hl 1 rfl) ?_
        obtain rfl := Option.some.inj hf
        exact ret _ _ _ _ _ dX3_back_56 rfl rfl hw
      · have hf := dk_f c6 hf
        refine lv_aload_n hx hb dX3_back_7 rfl (lv_at hl 0 rfl) ?_
        refine gX3_this_cell hC hw dX3_back_8 ?_
        refine lv_iload_n hx hb dX3_back_11 rfl (lv_at hl 2 rfl) ?_
        refine lv_aload_n hx hb dX3_back_12 rfl (lv_at hl 0 rfl) ?_
        refine gX3_this_had hC hw dX3_back_13 ?_
        refine lv_iload_n hx hb dX3_back_16 rfl (lv_at hl 2 rfl) ?_
        obtain ⟨b4, hf⟩ := dk_c hf
        refine aX3_m_had hC hw b4 dX3_back_17 ?_
        obtain ⟨b5, hf⟩ := dk_c hf
        refine sX3_m_cell hC hw b5 dX3_back_18 (fun H locs hw => ?_)
        refine lv_iinc (v := (v2 + 1)) (lv' := [(2, .int (v2 + 1)), (0, .ref (h 0)), (1, .int v1)]) hx hb dX3_back_19 hl (k := 2) rfl rfl (by decide) rfl (fun ls hl => ?_)
        refine lv_goto (tgt := 2) hx hb dX3_back_22 rfl ?_
        exact ih (v2 + 1) (upd m_cell v2.toNatClampNeg (m_had v2.toNatClampNeg)) m_points m_fouls m_evening _ _ _ hw (lv_sub hl [1, 2, 0] rfl) hf
  refine lv_iconst (v := 0) hx hb dX3_back_0 rfl ?_
  refine lv_istore_n (lv' := [(2, .int 0), (0, .ref (h 0)), (1, .int v1)]) hx hb dX3_back_1 rfl hl (by decide) rfl (fun ls hl => ?_)
  exact L2 FU 0 m_cell m_points m_fouls m_evening _ _ _ hw (lv_sub hl [1, 2, 0] rfl) hf
set_option maxHeartbeats 4000000 in
set_option maxRecDepth 100000 in
theorem metX3_judge {v1 : Int32} {res : Int32 × (Nat → Int32) × Int32 × Int32 × Int32 × (Nat → Int32) × (Nat → Int32) × (Nat → Int32) × (Nat → Int32) × Int32 × Int32 × Int32 × Int32 × Int32 × Int32 × Int32 × Int32 × Int32 × Int32 × Int32 × Int32 × (Nat → Int32) × (Nat → Int32) × Int32 × Int32 × Int32} (hf : fX3_judge v1 m_cell m_points m_fouls m_evening m_pad m_padMany m_act m_which m_whither m_hard m_acts m_moving m_goes m_left m_touches m_cushions m_cushionsThen m_touchedFirst m_stepsThen m_downNow m_touchedMany m_cushionMany m_were m_had m_badAct m_badWhy m_foulAct = some res) : CtI l yX3_judge cX3_judge 3 .int 8 D E sz [.ref (h 0), .int v1] (WX3 h E m_cell m_points m_fouls m_evening m_sightStep m_sightCell m_sights m_pad m_padMany m_act m_which m_whither m_hard m_acts m_moving m_goes m_left m_touches m_cushions m_cushionsThen m_touchedFirst m_stepsThen m_downNow m_touchedMany m_cushionMany m_were m_had m_badAct m_badWhy m_foulAct m_met m_far m_fit m_now m_fitMany m_byCell m_wins m_chance m_kept m_isKept m_keptAt m_isWriting) (WX3 h E res.2.1 res.2.2.1 res.2.2.2.1 res.2.2.2.2.1 m_sightStep m_sightCell m_sights m_pad m_padMany res.2.2.2.2.2.1 res.2.2.2.2.2.2.1 res.2.2.2.2.2.2.2.1 res.2.2.2.2.2.2.2.2.1 res.2.2.2.2.2.2.2.2.2.1 res.2.2.2.2.2.2.2.2.2.2.1 res.2.2.2.2.2.2.2.2.2.2.2.1 res.2.2.2.2.2.2.2.2.2.2.2.2.1 res.2.2.2.2.2.2.2.2.2.2.2.2.2.1 res.2.2.2.2.2.2.2.2.2.2.2.2.2.2.1 res.2.2.2.2.2.2.2.2.2.2.2.2.2.2.2.1 res.2.2.2.2.2.2.2.2.2.2.2.2.2.2.2.2.1 res.2.2.2.2.2.2.2.2.2.2.2.2.2.2.2.2.2.1 res.2.2.2.2.2.2.2.2.2.2.2.2.2.2.2.2.2.2.1 res.2.2.2.2.2.2.2.2.2.2.2.2.2.2.2.2.2.2.2.1 res.2.2.2.2.2.2.2.2.2.2.2.2.2.2.2.2.2.2.2.2.1 res.2.2.2.2.2.2.2.2.2.2.2.2.2.2.2.2.2.2.2.2.2.1 res.2.2.2.2.2.2.2.2.2.2.2.2.2.2.2.2.2.2.2.2.2.2.1 res.2.2.2.2.2.2.2.2.2.2.2.2.2.2.2.2.2.2.2.2.2.2.2.1 res.2.2.2.2.2.2.2.2.2.2.2.2.2.2.2.2.2.2.2.2.2.2.2.2.1 res.2.2.2.2.2.2.2.2.2.2.2.2.2.2.2.2.2.2.2.2.2.2.2.2.2 m_met m_far m_fit m_now m_fitMany m_byCell m_wins m_chance m_kept m_isKept m_keptAt m_isWriting) res.1 := by
  refine startI (own := RX3) (by decide) rfl (Nat.le_of_ble_eq_true rfl) ?_
  intro p e s m args below meth c A Q ls hC ret hl hw
  have hx := hC.1.1
  have hb := hC.1.2.1
  have hown := hC.1.2.2.2.1
  have hts := hC.1.2.2.2.2
  have hl : lv_has ls 3 [(0, .ref (h 0)), (1, .int v1)] := hl
  have L43 : ∀ (m_cell : Nat → Int32) (m_points : Int32) (m_fouls : Int32) (m_evening : Int32) (m_act : Nat → Int32) (m_which : Nat → Int32) (m_whither : Nat → Int32) (m_hard : Nat → Int32) (m_acts : Int32) (m_moving : Int32) (m_goes : Int32) (m_left : Int32) (m_touches : Int32) (m_cushions : Int32) (m_cushionsThen : Int32) (m_touchedFirst : Int32) (m_stepsThen : Int32) (m_downNow : Int32) (m_touchedMany : Int32) (m_cushionMany : Int32) (m_were : Nat → Int32) (m_had : Nat → Int32) (m_badAct : Int32) (m_badWhy : Int32) (m_foulAct : Int32) (H : Heap) (locs : List Loc) (ls : Array Slot), Wo D A s.heap H locs (WX3 h E m_cell m_points m_fouls m_evening m_sightStep m_sightCell m_sights m_pad m_padMany m_act m_which m_whither m_hard m_acts m_moving m_goes m_left m_touches m_cushions m_cushionsThen m_touchedFirst m_stepsThen m_downNow m_touchedMany m_cushionMany m_were m_had m_badAct m_badWhy m_foulAct m_met m_far m_fit m_now m_fitMany m_byCell m_wins m_chance m_kept m_isKept m_keptAt m_isWriting) → lv_has ls 3 [(0, .ref (h 0)), (1, .int v1)] → fX3_judge_L43 v1 m_pad m_padMany  m_cell m_points m_fouls m_evening m_act m_which m_whither m_hard m_acts m_moving m_goes m_left m_touches m_cushions m_cushionsThen m_touchedFirst m_stepsThen m_downNow m_touchedMany m_cushionMany m_were m_had m_badAct m_badWhy m_foulAct = some res → W p l e (rmN 8) s m args below meth c H locs 0 0 Q (F0 m 43 ls []) := by
    intro  m_cell m_points m_fouls m_evening m_act m_which m_whither m_hard m_acts m_moving m_goes m_left m_touches m_cushions m_cushionsThen m_touchedFirst m_stepsThen m_downNow m_touchedMany m_cushionMany m_were m_had m_badAct m_badWhy m_foulAct H locs ls hw hl hf
    refine lv_iload_n hx hb dX3_judge_43 rfl (lv_at hl 1 rfl) ?_
    refine lv_if_ne (tgt := 54) hx hb dX3_judge_44 rfl (fun c4 => ?_) (fun c4 => ?_)
    · have hf := dk_f c4 hf
      refine lv_iload_n hx hb dX3_judge_54 rfl (lv_at hl 1 rfl) ?_
      refine lv_iconst (v := 1) hx hb dX3_judge_55 rfl ?_
      refine lv_icmp_ne (tgt := 66) hx hb dX3_judge_56 rfl (fun c3 => ?_) (fun c3 => ?_)
      · have hf := dk_f c3 hf
        refine lv_aload_n hx hb dX3_judge_66 rfl (lv_at hl 0 rfl) ?_
        refine gX3_this_touchedMany hC hw dX3_judge_67 ?_
        obtain rfl := Option.some.inj hf
        exact ret _ _ _ _ _ dX3_judge_70 rfl rfl hw
      · have hf := dk_t c3 hf
        refine lv_aload_n hx hb dX3_judge_59 rfl (lv_at hl 0 rfl) ?_
        refine gX3_this_badWhy hC hw dX3_judge_60 ?_
        refine lv_goto (tgt := 70) hx hb dX3_judge_63 rfl ?_
        obtain rfl := Option.some.inj hf
        exact ret _ _ _ _ _ dX3_judge_70 rfl rfl hw
    · have hf := dk_t c4 hf
      refine lv_aload_n hx hb dX3_judge_47 rfl (lv_at hl 0 rfl) ?_
      refine gX3_this_badAct hC hw dX3_judge_48 ?_
      refine lv_goto (tgt := 70) hx hb dX3_judge_51 rfl ?_
      obtain rfl := Option.some.inj hf
      exact ret _ _ _ _ _ dX3_judge_70 rfl rfl hw
  refine lv_iload_n hx hb dX3_judge_0 rfl (lv_at hl 1 rfl) ?_
  refine lv_i2l (v := (v1.toInt64)) hx hb dX3_judge_1 rfl ?_
  refine lv_lconst (v := 0) hx hb dX3_judge_2 rfl ?_
  refine W.ldc2 (v := 2) hx hb hown (hts _ q589) rfl dX3_judge_3 ?_
  refine callSI (rest := []) 0 0 hC hw (st1 _) (metX3_in rfl) mi_X3_in q590 (rm_ok (by decide) (by decide)) rfl hl.1 rfl (Nat.le_of_ble_eq_true rfl) dX3_judge_6 ⟨Nat.zero_le _, Nat.zero_le _⟩ (st2 _) (fun H locs hw => ?_)
  refine lv_if_ne (tgt := 15) hx hb dX3_judge_9 rfl (fun c8 => ?_) (fun c8 => ?_)
  · have hf := dk_f c8 hf
    refine lv_aload_n hx hb dX3_judge_15 rfl (lv_at hl 0 rfl) ?_
    refine lv_aload_n hx hb dX3_judge_16 rfl (lv_at hl 0 rfl) ?_
    obtain ⟨z1, hz1, hf⟩ := dk_b hf
    refine callVI (rest := [.ref (h 0)]) 0 _ 3 hC hw (sm1 _) (metX3_refusal hz1) mi_X3_refusal q656 (rm_ok (by decide) (by decide)) rfl rfl rfl hl.1 rfl (Nat.le_of_ble_eq_true rfl) dX3_judge_17 ⟨Nat.zero_le _, Nat.zero_le _⟩ (sm2 _ _) (fun H locs hw => ?_)
    obtain ⟨z2, hz2, hf⟩ := dk_b hf
    refine callVI (rest := []) 0 _ 3 hC hw (sm1 _) (metX3_back hz2) mi_X3_back q718 (rm_ok (by decide) (by decide)) rfl rfl rfl hl.1 rfl (Nat.le_of_ble_eq_true rfl) dX3_judge_20 ⟨Nat.zero_le _, Nat.zero_le _⟩ (sm2 _ _) (fun H locs hw => ?_)
    refine lv_istore_n (lv' := [(2, .int z2.1), (0, .ref (h 0)), (1, .int v1)]) hx hb dX3_judge_23 rfl hl (by decide) rfl (fun ls hl => ?_)
    refine lv_iload_n hx hb dX3_judge_24 rfl (lv_at hl 0 rfl) ?_
    refine lv_bipush (v := (-5)) hx hb dX3_judge_25 rfl ?_
    refine lv_icmp_eq (tgt := 41) hx hb dX3_judge_27 rfl (fun c7 => ?_) (fun c7 => ?_)
    · have hf := dk_t c7 hf
      refine lv_iload_n hx hb dX3_judge_41 rfl (lv_at hl 0 rfl) ?_
      obtain rfl := Option.some.inj hf
      exact ret _ _ _ _ _ dX3_judge_42 rfl rfl hw
    · have hf := dk_f c7 hf
      refine lv_iload_n hx hb dX3_judge_30 rfl (lv_at hl 2 rfl) ?_
      refine lv_iconst (v := 1) hx hb dX3_judge_31 rfl ?_
      refine lv_icmp_le (tgt := 43) hx hb dX3_judge_32 rfl (fun c6 => ?_) (fun c6 => ?_)
      · have hf := dk_t c6 hf
        exact L43 z2.2.1 z2.2.2.1 z2.2.2.2.1 z2.2.2.2.2 z1.2.2.2.2.2.1 z1.2.2.2.2.2.2.1 z1.2.2.2.2.2.2.2.1 z1.2.2.2.2.2.2.2.2.1 z1.2.2.2.2.2.2.2.2.2.1 z1.2.2.2.2.2.2.2.2.2.2.1 z1.2.2.2.2.2.2.2.2.2.2.2.1 z1.2.2.2.2.2.2.2.2.2.2.2.2.1 z1.2.2.2.2.2.2.2.2.2.2.2.2.2.1 z1.2.2.2.2.2.2.2.2.2.2.2.2.2.2.1 z1.2.2.2.2.2.2.2.2.2.2.2.2.2.2.2.1 z1.2.2.2.2.2.2.2.2.2.2.2.2.2.2.2.2.1 z1.2.2.2.2.2.2.2.2.2.2.2.2.2.2.2.2.2.1 z1.2.2.2.2.2.2.2.2.2.2.2.2.2.2.2.2.2.2.1 z1.2.2.2.2.2.2.2.2.2.2.2.2.2.2.2.2.2.2.2.1 z1.2.2.2.2.2.2.2.2.2.2.2.2.2.2.2.2.2.2.2.2.1 z1.2.2.2.2.2.2.2.2.2.2.2.2.2.2.2.2.2.2.2.2.2.1 z1.2.2.2.2.2.2.2.2.2.2.2.2.2.2.2.2.2.2.2.2.2.2.1 z1.2.2.2.2.2.2.2.2.2.2.2.2.2.2.2.2.2.2.2.2.2.2.2.1 z1.2.2.2.2.2.2.2.2.2.2.2.2.2.2.2.2.2.2.2.2.2.2.2.2.1 z1.2.2.2.2.2.2.2.2.2.2.2.2.2.2.2.2.2.2.2.2.2.2.2.2.2 _ _ _ hw (lv_sub hl [1, 2] rfl) hf
      · have hf := dk_f c6 hf
        refine lv_iload_n hx hb dX3_judge_35 rfl (lv_at hl 0 rfl) ?_
        refine lv_bipush (v := (-3)) hx hb dX3_judge_36 rfl ?_
        refine lv_icmp_ne (tgt := 43) hx hb dX3_judge_38 rfl (fun c5 => ?_) (fun c5 => ?_)
        · have hf := dk_f c5 hf
          exact L43 z2.2.1 z2.2.2.1 z2.2.2.2.1 z2.2.2.2.2 z1.2.2.2.2.2.1 z1.2.2.2.2.2.2.1 z1.2.2.2.2.2.2.2.1 z1.2.2.2.2.2.2.2.2.1 z1.2.2.2.2.2.2.2.2.2.1 z1.2.2.2.2.2.2.2.2.2.2.1 z1.2.2.2.2.2.2.2.2.2.2.2.1 z1.2.2.2.2.2.2.2.2.2.2.2.2.1 z1.2.2.2.2.2.2.2.2.2.2.2.2.2.1 z1.2.2.2.2.2.2.2.2.2.2.2.2.2.2.1 z1.2.2.2.2.2.2.2.2.2.2.2.2.2.2.2.1 z1.2.2.2.2.2.2.2.2.2.2.2.2.2.2.2.2.1 z1.2.2.2.2.2.2.2.2.2.2.2.2.2.2.2.2.2.1 z1.2.2.2.2.2.2.2.2.2.2.2.2.2.2.2.2.2.2.1 z1.2.2.2.2.2.2.2.2.2.2.2.2.2.2.2.2.2.2.2.1 z1.2.2.2.2.2.2.2.2.2.2.2.2.2.2.2.2.2.2.2.2.1 z1.2.2.2.2.2.2.2.2.2.2.2.2.2.2.2.2.2.2.2.2.2.1 z1.2.2.2.2.2.2.2.2.2.2.2.2.2.2.2.2.2.2.2.2.2.2.1 z1.2.2.2.2.2.2.2.2.2.2.2.2.2.2.2.2.2.2.2.2.2.2.2.1 z1.2.2.2.2.2.2.2.2.2.2.2.2.2.2.2.2.2.2.2.2.2.2.2.2.1 z1.2.2.2.2.2.2.2.2.2.2.2.2.2.2.2.2.2.2.2.2.2.2.2.2.2 _ _ _ hw (lv_sub hl [1, 2] rfl) hf
        · have hf := dk_t c5 hf
          refine lv_iload_n hx hb dX3_judge_41 rfl (lv_at hl 0 rfl) ?_
          obtain rfl := Option.some.inj hf
          exact ret _ _ _ _ _ dX3_judge_42 rfl rfl hw
  · have hf := dk_t c8 hf
    refine lv_bipush (v := (-2)) hx hb dX3_judge_12 rfl ?_
    obtain rfl := Option.some.inj hf
    exact ret _ _ _ _ _ dX3_judge_14 rfl rfl hw
set_option maxHeartbeats 4000000 in
set_option maxRecDepth 100000 in
theorem metX3_behind {v1 : Int32} {res : Int32 × (Nat → Int32) × Int32 × Int32 × Int32 × (Nat → Int32) × (Nat → Int32) × (Nat → Int32) × (Nat → Int32) × Int32 × Int32 × Int32 × Int32 × Int32 × Int32 × Int32 × Int32 × Int32 × Int32 × Int32 × Int32 × (Nat → Int32) × (Nat → Int32) × Int32 × Int32 × Int32} (hf : fX3_behind v1 m_cell m_points m_fouls m_evening m_pad m_padMany m_act m_which m_whither m_hard m_acts m_moving m_goes m_left m_touches m_cushions m_cushionsThen m_touchedFirst m_stepsThen m_downNow m_touchedMany m_cushionMany m_were m_had m_badAct m_badWhy m_foulAct = some res) : CtI l yX3_behind cX3_behind 3 .int 8 D E sz [.ref (h 0), .int v1] (WX3 h E m_cell m_points m_fouls m_evening m_sightStep m_sightCell m_sights m_pad m_padMany m_act m_which m_whither m_hard m_acts m_moving m_goes m_left m_touches m_cushions m_cushionsThen m_touchedFirst m_stepsThen m_downNow m_touchedMany m_cushionMany m_were m_had m_badAct m_badWhy m_foulAct m_met m_far m_fit m_now m_fitMany m_byCell m_wins m_chance m_kept m_isKept m_keptAt m_isWriting) (WX3 h E res.2.1 res.2.2.1 res.2.2.2.1 res.2.2.2.2.1 m_sightStep m_sightCell m_sights m_pad m_padMany res.2.2.2.2.2.1 res.2.2.2.2.2.2.1 res.2.2.2.2.2.2.2.1 res.2.2.2.2.2.2.2.2.1 res.2.2.2.2.2.2.2.2.2.1 res.2.2.2.2.2.2.2.2.2.2.1 res.2.2.2.2.2.2.2.2.2.2.2.1 res.2.2.2.2.2.2.2.2.2.2.2.2.1 res.2.2.2.2.2.2.2.2.2.2.2.2.2.1 res.2.2.2.2.2.2.2.2.2.2.2.2.2.2.1 res.2.2.2.2.2.2.2.2.2.2.2.2.2.2.2.1 res.2.2.2.2.2.2.2.2.2.2.2.2.2.2.2.2.1 res.2.2.2.2.2.2.2.2.2.2.2.2.2.2.2.2.2.1 res.2.2.2.2.2.2.2.2.2.2.2.2.2.2.2.2.2.2.1 res.2.2.2.2.2.2.2.2.2.2.2.2.2.2.2.2.2.2.2.1 res.2.2.2.2.2.2.2.2.2.2.2.2.2.2.2.2.2.2.2.2.1 res.2.2.2.2.2.2.2.2.2.2.2.2.2.2.2.2.2.2.2.2.2.1 res.2.2.2.2.2.2.2.2.2.2.2.2.2.2.2.2.2.2.2.2.2.2.1 res.2.2.2.2.2.2.2.2.2.2.2.2.2.2.2.2.2.2.2.2.2.2.2.1 res.2.2.2.2.2.2.2.2.2.2.2.2.2.2.2.2.2.2.2.2.2.2.2.2.1 res.2.2.2.2.2.2.2.2.2.2.2.2.2.2.2.2.2.2.2.2.2.2.2.2.2 m_met m_far m_fit m_now m_fitMany m_byCell m_wins m_chance m_kept m_isKept m_keptAt m_isWriting) res.1 := by
  refine startI (own := RX3) (by decide) rfl (Nat.le_of_ble_eq_true rfl) ?_
  intro p e s m args below meth c A Q ls hC ret hl hw
  have hx := hC.1.1
  have hb := hC.1.2.1
  have hown := hC.1.2.2.2.1
  have hts := hC.1.2.2.2.2
  have hl : lv_has ls 3 [(0, .ref (h 0)), (1, .int v1)] := hl
  refine lv_iload_n hx hb dX3_behind_0 rfl (lv_at hl 1 rfl) ?_
  refine callSI (rest := []) 0 0 hC hw (st1 _) (metX3_isBall rfl) mi_X3_isBall q586 (rm_ok (by decide) (by decide)) rfl hl.1 rfl (Nat.le_of_ble_eq_true rfl) dX3_behind_1 ⟨Nat.zero_le _, Nat.zero_le _⟩ (st2 _) (fun H locs hw => ?_)
  refine lv_if_ne (tgt := 9) hx hb dX3_behind_4 rfl (fun c6 => ?_) (fun c6 => ?_)
  · have hf := dk_f c6 hf
    refine lv_aload_n hx hb dX3_behind_9 rfl (lv_at hl 0 rfl) ?_
    obtain ⟨z1, hz1, hf⟩ := dk_b hf
    refine callVI (rest := []) 0 _ 3 hC hw (sm1 _) (metX3_refusal hz1) mi_X3_refusal q656 (rm_ok (by decide) (by decide)) rfl rfl rfl hl.1 rfl (Nat.le_of_ble_eq_true rfl) dX3_behind_10 ⟨Nat.zero_le _, Nat.zero_le _⟩ (sm2 _ _) (fun H locs hw => ?_)
    refine lv_istore_n (lv' := [(2, .int z1.1), (0, .ref (h 0)), (1, .int v1)]) hx hb dX3_behind_13 rfl hl (by decide) rfl (fun ls hl => ?_)
    refine lv_aload_n hx hb dX3_behind_14 rfl (lv_at hl 1 rfl) ?_
    refine lv_iload_n hx hb dX3_behind_15 rfl (lv_at hl 0 rfl) ?_
    refine lv_bipush (v := (-6)) hx hb dX3_behind_16 rfl ?_
    refine lv_icmp_eq (tgt := 25) hx hb dX3_behind_18 rfl (fun c5 => ?_) (fun c5 => ?_)
    · have hf := dk_t c5 hf
      refine lv_aload_n hx hb dX3_behind_25 rfl (lv_at hl 1 rfl) ?_
      refine gX3_this_cell hC hw dX3_behind_26 ?_
      refine lv_iload_n hx hb dX3_behind_29 rfl (lv_at hl 2 rfl) ?_
      obtain ⟨b2, hf⟩ := dk_c hf
      refine aX3_m_cell hC hw b2 dX3_behind_30 ?_
      obtain ⟨z3, hz3, hf⟩ := dk_b hf
      refine callVI (rest := []) 0 _ 3 hC hw (sm1 _) (metX3_back hz3) mi_X3_back q718 (rm_ok (by decide) (by decide)) rfl rfl rfl hl.1 rfl (Nat.le_of_ble_eq_true rfl) dX3_behind_31 ⟨Nat.zero_le _, Nat.zero_le _⟩ (sm2 _ _) (fun H locs hw => ?_)
      obtain rfl := Option.some.inj hf
      exact ret _ _ _ _ _ dX3_behind_34 rfl rfl hw
    · have hf := dk_f c5 hf
      refine lv_iload_n hx hb dX3_behind_21 rfl (lv_at hl 0 rfl) ?_
      refine lv_goto (tgt := 31) hx hb dX3_behind_22 rfl ?_
      obtain ⟨z4, hz4, hf⟩ := dk_b hf
      refine callVI (rest := []) 0 _ 3 hC hw (sm1 _) (metX3_back hz4) mi_X3_back q718 (rm_ok (by decide) (by decide)) rfl rfl rfl hl.1 rfl (Nat.le_of_ble_eq_true rfl) dX3_behind_31 ⟨Nat.zero_le _, Nat.zero_le _⟩ (sm2 _ _) (fun H locs hw => ?_)
      obtain rfl := Option.some.inj hf
      exact ret _ _ _ _ _ dX3_behind_34 rfl rfl hw
  · have hf := dk_t c6 hf
    refine lv_iconst (v := (-1)) hx hb dX3_behind_7 rfl ?_
    obtain rfl := Option.some.inj hf
    exact ret _ _ _ _ _ dX3_behind_8 rfl rfl hw
set_option maxHeartbeats 4000000 in
set_option maxRecDepth 100000 in
theorem metX3_downMany  {res : Int32} (hf : fX3_downMany m_cell = some res) : CtI l yX3_downMany cX3_downMany 3 .int 0 D E sz [.ref (h 0)] (WX3 h E m_cell m_points m_fouls m_evening m_sightStep m_sightCell m_sights m_pad m_padMany m_act m_which m_whither m_hard m_acts m_moving m_goes m_left m_touches m_cushions m_cushionsThen m_touchedFirst m_stepsThen m_downNow m_touchedMany m_cushionMany m_were m_had m_badAct m_badWhy m_foulAct m_met m_far m_fit m_now m_fitMany m_byCell m_wins m_chance m_kept m_isKept m_keptAt m_isWriting) (WX3 h E m_cell m_points m_fouls m_evening m_sightStep m_sightCell m_sights m_pad m_padMany m_act m_which m_whither m_hard m_acts m_moving m_goes m_left m_touches m_cushions m_cushionsThen m_touchedFirst m_stepsThen m_downNow m_touchedMany m_cushionMany m_were m_had m_badAct m_badWhy m_foulAct m_met m_far m_fit m_now m_fitMany m_byCell m_wins m_chance m_kept m_isKept m_keptAt m_isWriting) res := by
  refine startI (own := RX3) (by decide) rfl (Nat.le_of_ble_eq_true rfl) ?_
  intro p e s m args below meth c A Q ls hC ret hl hw
  have hx := hC.1.1
  have hb := hC.1.2.1
  have hown := hC.1.2.2.2.1
  have hts := hC.1.2.2.2.2
  have hl : lv_has ls 3 [(0, .ref (h 0))] := hl
  have L4 : ∀ (n : Nat), ∀ (v1 : Int32) (v2 : Int32) (H : Heap) (locs : List Loc) (ls : Array Slot), Wo D A s.heap H locs (WX3 h E m_cell m_points m_fouls m_evening m_sightStep m_sightCell m_sights m_pad m_padMany m_act m_which m_whither m_hard m_acts m_moving m_goes m_left m_touches m_cushions m_cushionsThen m_touchedFirst m_stepsThen m_downNow m_touchedMany m_cushionMany m_were m_had m_badAct m_badWhy m_foulAct m_met m_far m_fit m_now m_fitMany m_byCell m_wins m_chance m_kept m_isKept m_keptAt m_isWriting) → lv_has ls 3 [(0, .ref (h 0)), (1, .int v1), (2, .int v2)] → fX3_downMany_L4 m_cell  n v1 v2 = some res → W p l e (rmN 0) s m args below meth c H locs 0 0 Q (F0 m 4 ls []) := by
    intro  n
    induction n with
    | zero =>
      intro v1 v2 H locs ls hw hl hf
      exact dk_n hf
    | succ n ih =>
      intro v1 v2 H locs ls hw hl hf
      refine lv_iload_n hx hb dX3_downMany_4 rfl (lv_at hl 2 rfl) ?_
      refine lv_iconst (v := 3) hx hb dX3_downMany_5 rfl ?_
      refine lv_icmp_ge (tgt := 32) hx hb dX3_downMany_6 rfl (fun c3 => ?_) (fun c3 => ?_)
      · have hf := dk_t c3 hf
        refine lv_iload_n hx hb dX3_downMany_32 rfl (lv_at hl 1 rfl) ?_
        exact ret _ _ _ _ _ dX3_downMany_33 rfl (Option.some.inj hf) hw
      · have hf := dk_f c3 hf
        refine lv_iload_n hx hb dX3_downMany_9 rfl (lv_at hl 1 rfl) ?_
        refine lv_aload_n hx hb dX3_downMany_10 rfl (lv_at hl 0 rfl) ?_
        refine gX3_this_cell hC hw dX3_downMany_11 ?_
        refine lv_iload_n hx hb dX3_downMany_14 rfl (lv_at hl 2 rfl) ?_
        obtain ⟨b1, hf⟩ := dk_c hf
        refine aX3_m_cell hC hw b1 dX3_downMany_15 ?_
        refine lv_if_ge (tgt := 23) hx hb dX3_downMany_16 rfl (fun c2 => ?_) (fun c2 => ?_)
        · have hf := dk_t c2 hf
          refine lv_iconst (v := 0) hx hb dX3_downMany_23 rfl ?_
          refine lv_iadd hx hb dX3_downMany_24 ?_
          refine lv_istore_n (lv' := [(1, .int (v1 + 0)), (0, .ref (h 0)), (2, .int v2)]) hx hb dX3_downMany_25 rfl hl (by decide) rfl (fun ls hl => ?_)
          refine lv_iinc (v := (v2 + 1)) (lv' := [(2, .int (v2 + 1)), (1, .int (v1 + 0)), (0, .ref (h 0))]) hx hb dX3_downMany_26 hl (k := 2) rfl rfl (by decide) rfl (fun ls hl => ?_)
          refine lv_goto (tgt := 4) hx hb dX3_downMany_29 rfl ?_
          exact ih (v1 + 0) (v2 + 1) _ _ _ hw (lv_sub hl [2, 1, 0] rfl) hf
        · have hf := dk_f c2 hf
          refine lv_iconst (v := 1) hx hb dX3_downMany_19 rfl ?_
          refine lv_goto (tgt := 24) hx hb dX3_downMany_20 rfl ?_
          refine lv_iadd hx hb dX3_downMany_24 ?_
          refine lv_istore_n (lv' := [(1, .int (v1 + 1)), (0, .ref (h 0)), (2, .int v2)]) hx hb dX3_downMany_25 rfl hl (by decide) rfl (fun ls hl => ?_)
          refine lv_iinc (v := (v2 + 1)) (lv' := [(2, .int (v2 + 1)), (1, .int (v1 + 1)), (0, .ref (h 0))]) hx hb dX3_downMany_26 hl (k := 2) rfl rfl (by decide) rfl (fun ls hl => ?_)
          refine lv_goto (tgt := 4) hx hb dX3_downMany_29 rfl ?_
          exact ih (v1 + 1) (v2 + 1) _ _ _ hw (lv_sub hl [2, 1, 0] rfl) hf
  refine lv_iconst (v := 0) hx hb dX3_downMany_0 rfl ?_
  refine lv_istore_n (lv' := [(1, .int 0), (0, .ref (h 0))]) hx hb dX3_downMany_1 rfl hl (by decide) rfl (fun ls hl => ?_)
  refine lv_iconst (v := 0) hx hb dX3_downMany_2 rfl ?_
  refine lv_istore_n (lv' := [(2, .int 0), (1, .int 0), (0, .ref (h 0))]) hx hb dX3_downMany_3 rfl hl (by decide) rfl (fun ls hl => ?_)
  exact L4 FU 0 0 _ _ _ hw (lv_sub hl [2, 1, 0] rfl) hf
set_option maxHeartbeats 4000000 in
set_option maxRecDepth 100000 in
theorem metX3_table {v1 : Int32} {res : Int32 × (Nat → Int32) × Int32 × Int32 × Int32 × (Nat → Int32) × (Nat → Int32) × (Nat → Int32) × (Nat → Int32) × Int32 × Int32 × Int32 × Int32 × Int32 × Int32 × Int32 × Int32 × Int32 × Int32 × Int32 × Int32 × (Nat → Int32) × (Nat → Int32) × Int32 × Int32 × Int32} (hf : fX3_table v1 m_cell m_points m_fouls m_evening m_pad m_padMany m_act m_which m_whither m_hard m_acts m_moving m_goes m_left m_touches m_cushions m_cushionsThen m_touchedFirst m_stepsThen m_downNow m_touchedMany m_cushionMany m_were m_had m_badAct m_badWhy m_foulAct = some res) : CtI l yX3_table cX3_table 3 .int 8 D E sz [.ref (h 0), .int v1] (WX3 h E m_cell m_points m_fouls m_evening m_sightStep m_sightCell m_sights m_pad m_padMany m_act m_which m_whither m_hard m_acts m_moving m_goes m_left m_touches m_cushions m_cushionsThen m_touchedFirst m_stepsThen m_downNow m_touchedMany m_cushionMany m_were m_had m_badAct m_badWhy m_foulAct m_met m_far m_fit m_now m_fitMany m_byCell m_wins m_chance m_kept m_isKept m_keptAt m_isWriting) (WX3 h E res.2.1 res.2.2.1 res.2.2.2.1 res.2.2.2.2.1 m_sightStep m_sightCell m_sights m_pad m_padMany res.2.2.2.2.2.1 res.2.2.2.2.2.2.1 res.2.2.2.2.2.2.2.1 res.2.2.2.2.2.2.2.2.1 res.2.2.2.2.2.2.2.2.2.1 res.2.2.2.2.2.2.2.2.2.2.1 res.2.2.2.2.2.2.2.2.2.2.2.1 res.2.2.2.2.2.2.2.2.2.2.2.2.1 res.2.2.2.2.2.2.2.2.2.2.2.2.2.1 res.2.2.2.2.2.2.2.2.2.2.2.2.2.2.1 res.2.2.2.2.2.2.2.2.2.2.2.2.2.2.2.1 res.2.2.2.2.2.2.2.2.2.2.2.2.2.2.2.2.1 res.2.2.2.2.2.2.2.2.2.2.2.2.2.2.2.2.2.1 res.2.2.2.2.2.2.2.2.2.2.2.2.2.2.2.2.2.2.1 res.2.2.2.2.2.2.2.2.2.2.2.2.2.2.2.2.2.2.2.1 res.2.2.2.2.2.2.2.2.2.2.2.2.2.2.2.2.2.2.2.2.1 res.2.2.2.2.2.2.2.2.2.2.2.2.2.2.2.2.2.2.2.2.2.1 res.2.2.2.2.2.2.2.2.2.2.2.2.2.2.2.2.2.2.2.2.2.2.1 res.2.2.2.2.2.2.2.2.2.2.2.2.2.2.2.2.2.2.2.2.2.2.2.1 res.2.2.2.2.2.2.2.2.2.2.2.2.2.2.2.2.2.2.2.2.2.2.2.2.1 res.2.2.2.2.2.2.2.2.2.2.2.2.2.2.2.2.2.2.2.2.2.2.2.2.2 m_met m_far m_fit m_now m_fitMany m_byCell m_wins m_chance m_kept m_isKept m_keptAt m_isWriting) res.1 := by
  refine startI (own := RX3) (by decide) rfl (Nat.le_of_ble_eq_true rfl) ?_
  intro p e s m args below meth c A Q ls hC ret hl hw
  have hx := hC.1.1
  have hb := hC.1.2.1
  have hown := hC.1.2.2.2.1
  have hts := hC.1.2.2.2.2
  have hl : lv_has ls 3 [(0, .ref (h 0)), (1, .int v1)] := hl
  refine lv_iload_n hx hb dX3_table_0 rfl (lv_at hl 1 rfl) ?_
  refine lv_i2l (v := (v1.toInt64)) hx hb dX3_table_1 rfl ?_
  refine lv_lconst (v := 0) hx hb dX3_table_2 rfl ?_
  refine W.ldc2 (v := 3) hx hb hown (hts _ q730) rfl dX3_table_3 ?_
  refine callSI (rest := []) 0 0 hC hw (st1 _) (metX3_in rfl) mi_X3_in q590 (rm_ok (by decide) (by decide)) rfl hl.1 rfl (Nat.le_of_ble_eq_true rfl) dX3_table_6 ⟨Nat.zero_le _, Nat.zero_le _⟩ (st2 _) (fun H locs hw => ?_)
  refine lv_if_ne (tgt := 15) hx hb dX3_table_9 rfl (fun c12 => ?_) (fun c12 => ?_)
  · have hf := dk_f c12 hf
    refine lv_aload_n hx hb dX3_table_15 rfl (lv_at hl 0 rfl) ?_
    obtain ⟨z1, hz1, hf⟩ := dk_b hf
    refine callVI (rest := []) 0 _ 3 hC hw (sm1 _) (metX3_refusal hz1) mi_X3_refusal q656 (rm_ok (by decide) (by decide)) rfl rfl rfl hl.1 rfl (Nat.le_of_ble_eq_true rfl) dX3_table_16 ⟨Nat.zero_le _, Nat.zero_le _⟩ (sm2 _ _) (fun H locs hw => ?_)
    refine lv_istore_n (lv' := [(2, .int z1.1), (0, .ref (h 0)), (1, .int v1)]) hx hb dX3_table_19 rfl hl (by decide) rfl (fun ls hl => ?_)
    refine lv_aload_n hx hb dX3_table_20 rfl (lv_at hl 1 rfl) ?_
    refine lv_iload_n hx hb dX3_table_21 rfl (lv_at hl 0 rfl) ?_
    refine lv_bipush (v := (-6)) hx hb dX3_table_22 rfl ?_
    refine lv_icmp_eq (tgt := 31) hx hb dX3_table_24 rfl (fun c11 => ?_) (fun c11 => ?_)
    · have hf := dk_t c11 hf
      refine lv_iload_n hx hb dX3_table_31 rfl (lv_at hl 2 rfl) ?_
      refine lv_if_ne (tgt := 42) hx hb dX3_table_32 rfl (fun c9 => ?_) (fun c9 => ?_)
      · have hf := dk_f c9 hf
        refine lv_iload_n hx hb dX3_table_42 rfl (lv_at hl 2 rfl) ?_
        refine lv_iconst (v := 1) hx hb dX3_table_43 rfl ?_
        refine lv_icmp_ne (tgt := 54) hx hb dX3_table_44 rfl (fun c7 => ?_) (fun c7 => ?_)
        · have hf := dk_f c7 hf
          refine lv_iload_n hx hb dX3_table_54 rfl (lv_at hl 2 rfl) ?_
          refine lv_iconst (v := 2) hx hb dX3_table_55 rfl ?_
          refine lv_icmp_ne (tgt := 66) hx hb dX3_table_56 rfl (fun c5 => ?_) (fun c5 => ?_)
          · have hf := dk_f c5 hf
            refine lv_aload_n hx hb dX3_table_66 rfl (lv_at hl 1 rfl) ?_
            refine gX3_this_evening hC hw dX3_table_67 ?_
            obtain ⟨z2, hz2, hf⟩ := dk_b hf
            refine callVI (rest := []) 0 _ 3 hC hw (sm1 _) (metX3_back hz2) mi_X3_back q718 (rm_ok (by decide) (by decide)) rfl rfl rfl hl.1 rfl (Nat.le_of_ble_eq_true rfl) dX3_table_70 ⟨Nat.zero_le _, Nat.zero_le _⟩ (sm2 _ _) (fun H locs hw => ?_)
            obtain rfl := Option.some.inj hf
            exact ret _ _ _ _ _ dX3_table_73 rfl rfl hw
          · have hf := dk_t c5 hf
            refine lv_aload_n hx hb dX3_table_59 rfl (lv_at hl 1 rfl) ?_
            obtain ⟨z3, hz3, hf⟩ := dk_b hf
            refine callVI (rest := [.ref (h 0)]) 0 _ 3 hC hw (sm1 _) (metX3_downMany hz3) mi_X3_downMany q731 (rm_ok (by decide) (by decide)) rfl rfl rfl hl.1 rfl (Nat.le_of_ble_eq_true rfl) dX3_table_60 ⟨Nat.zero_le _, Nat.zero_le _⟩ (sm2 _ _) (fun H locs hw => ?_)
            refine lv_goto (tgt := 70) hx hb dX3_table_63 rfl ?_
            obtain ⟨z4, hz4, hf⟩ := dk_b hf
            refine callVI (rest := []) 0 _ 3 hC hw (sm1 _) (metX3_back hz4) mi_X3_back q718 (rm_ok (by decide) (by decide)) rfl rfl rfl hl.1 rfl (Nat.le_of_ble_eq_true rfl) dX3_table_70 ⟨Nat.zero_le _, Nat.zero_le _⟩ (sm2 _ _) (fun H locs hw => ?_)
            obtain rfl := Option.some.inj hf
            exact ret _ _ _ _ _ dX3_table_73 rfl rfl hw
        · have hf := dk_t c7 hf
          refine lv_aload_n hx hb dX3_table_47 rfl (lv_at hl 1 rfl) ?_
          refine gX3_this_fouls hC hw dX3_table_48 ?_
          refine lv_goto (tgt := 70) hx hb dX3_table_51 rfl ?_
          obtain ⟨z6, hz6, hf⟩ := dk_b hf
          refine callVI (rest := []) 0 _ 3 hC hw (sm1 _) (metX3_back hz6) mi_X3_back q718 (rm_ok (by decide) (by decide)) rfl rfl rfl hl.1 rfl (Nat.le_of_ble_eq_true rfl) dX3_table_70 ⟨Nat.zero_le _, Nat.zero_le _⟩ (sm2 _ _) (fun H locs hw => ?_)
          obtain rfl := Option.some.inj hf
          exact ret _ _ _ _ _ dX3_table_73 rfl rfl hw
      · have hf := dk_t c9 hf
        refine lv_aload_n hx hb dX3_table_35 rfl (lv_at hl 1 rfl) ?_
        refine gX3_this_points hC hw dX3_table_36 ?_
        refine lv_goto (tgt := 70) hx hb dX3_table_39 rfl ?_
        obtain ⟨z8, hz8, hf⟩ := dk_b hf
        refine callVI (rest := []) 0 _ 3 hC hw (sm1 _) (metX3_back hz8) mi_X3_back q718 (rm_ok (by decide) (by decide)) rfl rfl rfl hl.1 rfl (Nat.le_of_ble_eq_true rfl) dX3_table_70 ⟨Nat.zero_le _, Nat.zero_le _⟩ (sm2 _ _) (fun H locs hw => ?_)
        obtain rfl := Option.some.inj hf
        exact ret _ _ _ _ _ dX3_table_73 rfl rfl hw
    · have hf := dk_f c11 hf
      refine lv_iload_n hx hb dX3_table_27 rfl (lv_at hl 0 rfl) ?_
      refine lv_goto (tgt := 70) hx hb dX3_table_28 rfl ?_
      obtain ⟨z10, hz10, hf⟩ := dk_b hf
      refine callVI (rest := []) 0 _ 3 hC hw (sm1 _) (metX3_back hz10) mi_X3_back q718 (rm_ok (by decide) (by decide)) rfl rfl rfl hl.1 rfl (Nat.le_of_ble_eq_true rfl) dX3_table_70 ⟨Nat.zero_le _, Nat.zero_le _⟩ (sm2 _ _) (fun H locs hw => ?_)
      obtain rfl := Option.some.inj hf
      exact ret _ _ _ _ _ dX3_table_73 rfl rfl hw
  · have hf := dk_t c12 hf
    refine lv_bipush (v := (-2)) hx hb dX3_table_12 rfl ?_
    obtain rfl := Option.some.inj hf
    exact ret _ _ _ _ _ dX3_table_14 rfl rfl hw
set_option maxHeartbeats 4000000 in
set_option maxRecDepth 100000 in
theorem metX3_candour {v1 : Int32} {res : Int32 × (Nat → Int32) × Int32 × Int32 × Int32 × (Nat → Int32) × (Nat → Int32) × (Nat → Int32) × (Nat → Int32) × Int32 × Int32 × Int32 × Int32 × Int32 × Int32 × Int32 × Int32 × Int32 × Int32 × Int32 × Int32 × (Nat → Int32) × (Nat → Int32) × Int32 × Int32 × Int32} (hf : fX3_candour v1 m_cell m_points m_fouls m_evening m_pad m_padMany m_act m_which m_whither m_hard m_acts m_moving m_goes m_left m_touches m_cushions m_cushionsThen m_touchedFirst m_stepsThen m_downNow m_touchedMany m_cushionMany m_were m_had m_badAct m_badWhy m_foulAct = some res) : CtI l yX3_candour cX3_candour 3 .int 8 D E sz [.ref (h 0), .int v1] (WX3 h E m_cell m_points m_fouls m_evening m_sightStep m_sightCell m_sights m_pad m_padMany m_act m_which m_whither m_hard m_acts m_moving m_goes m_left m_touches m_cushions m_cushionsThen m_touchedFirst m_stepsThen m_downNow m_touchedMany m_cushionMany m_were m_had m_badAct m_badWhy m_foulAct m_met m_far m_fit m_now m_fitMany m_byCell m_wins m_chance m_kept m_isKept m_keptAt m_isWriting) (WX3 h E res.2.1 res.2.2.1 res.2.2.2.1 res.2.2.2.2.1 m_sightStep m_sightCell m_sights m_pad m_padMany res.2.2.2.2.2.1 res.2.2.2.2.2.2.1 res.2.2.2.2.2.2.2.1 res.2.2.2.2.2.2.2.2.1 res.2.2.2.2.2.2.2.2.2.1 res.2.2.2.2.2.2.2.2.2.2.1 res.2.2.2.2.2.2.2.2.2.2.2.1 res.2.2.2.2.2.2.2.2.2.2.2.2.1 res.2.2.2.2.2.2.2.2.2.2.2.2.2.1 res.2.2.2.2.2.2.2.2.2.2.2.2.2.2.1 res.2.2.2.2.2.2.2.2.2.2.2.2.2.2.2.1 res.2.2.2.2.2.2.2.2.2.2.2.2.2.2.2.2.1 res.2.2.2.2.2.2.2.2.2.2.2.2.2.2.2.2.2.1 res.2.2.2.2.2.2.2.2.2.2.2.2.2.2.2.2.2.2.1 res.2.2.2.2.2.2.2.2.2.2.2.2.2.2.2.2.2.2.2.1 res.2.2.2.2.2.2.2.2.2.2.2.2.2.2.2.2.2.2.2.2.1 res.2.2.2.2.2.2.2.2.2.2.2.2.2.2.2.2.2.2.2.2.2.1 res.2.2.2.2.2.2.2.2.2.2.2.2.2.2.2.2.2.2.2.2.2.2.1 res.2.2.2.2.2.2.2.2.2.2.2.2.2.2.2.2.2.2.2.2.2.2.2.1 res.2.2.2.2.2.2.2.2.2.2.2.2.2.2.2.2.2.2.2.2.2.2.2.2.1 res.2.2.2.2.2.2.2.2.2.2.2.2.2.2.2.2.2.2.2.2.2.2.2.2.2 m_met m_far m_fit m_now m_fitMany m_byCell m_wins m_chance m_kept m_isKept m_keptAt m_isWriting) res.1 := by
  refine startI (own := RX3) (by decide) rfl (Nat.le_of_ble_eq_true rfl) ?_
  intro p e s m args below meth c A Q ls hC ret hl hw
  have hx := hC.1.1
  have hb := hC.1.2.1
  have hown := hC.1.2.2.2.1
  have hts := hC.1.2.2.2.2
  have hl : lv_has ls 3 [(0, .ref (h 0)), (1, .int v1)] := hl
  refine lv_iload_n hx hb dX3_candour_0 rfl (lv_at hl 1 rfl) ?_
  refine lv_i2l (v := (v1.toInt64)) hx hb dX3_candour_1 rfl ?_
  refine lv_lconst (v := 0) hx hb dX3_candour_2 rfl ?_
  refine lv_lconst (v := 1) hx hb dX3_candour_3 rfl ?_
  refine callSI (rest := []) 0 0 hC hw (st1 _) (metX3_in rfl) mi_X3_in q590 (rm_ok (by decide) (by decide)) rfl hl.1 rfl (Nat.le_of_ble_eq_true rfl) dX3_candour_4 ⟨Nat.zero_le _, Nat.zero_le _⟩ (st2 _) (fun H locs hw => ?_)
  refine lv_if_ne (tgt := 13) hx hb dX3_candour_7 rfl (fun c5 => ?_) (fun c5 => ?_)
  · have hf := dk_f c5 hf
    refine lv_aload_n hx hb dX3_candour_13 rfl (lv_at hl 0 rfl) ?_
    refine lv_aload_n hx hb dX3_candour_14 rfl (lv_at hl 0 rfl) ?_
    obtain ⟨z1, hz1, hf⟩ := dk_b hf
    refine callVI (rest := [.ref (h 0)]) 0 _ 3 hC hw (sm1 _) (metX3_refusal hz1) mi_X3_refusal q656 (rm_ok (by decide) (by decide)) rfl rfl rfl hl.1 rfl (Nat.le_of_ble_eq_true rfl) dX3_candour_15 ⟨Nat.zero_le _, Nat.zero_le _⟩ (sm2 _ _) (fun H locs hw => ?_)
    obtain ⟨z2, hz2, hf⟩ := dk_b hf
    refine callVI (rest := []) 0 _ 3 hC hw (sm1 _) (metX3_back hz2) mi_X3_back q718 (rm_ok (by decide) (by decide)) rfl rfl rfl hl.1 rfl (Nat.le_of_ble_eq_true rfl) dX3_candour_18 ⟨Nat.zero_le _, Nat.zero_le _⟩ (sm2 _ _) (fun H locs hw => ?_)
    refine lv_istore_n (lv' := [(2, .int z2.1), (0, .ref (h 0)), (1, .int v1)]) hx hb dX3_candour_21 rfl hl (by decide) rfl (fun ls hl => ?_)
    refine lv_iload_n hx hb dX3_candour_22 rfl (lv_at hl 0 rfl) ?_
    refine lv_bipush (v := (-6)) hx hb dX3_candour_23 rfl ?_
    refine lv_icmp_eq (tgt := 32) hx hb dX3_candour_25 rfl (fun c4 => ?_) (fun c4 => ?_)
    · have hf := dk_t c4 hf
      refine lv_iload_n hx hb dX3_candour_32 rfl (lv_at hl 2 rfl) ?_
      refine lv_if_ne (tgt := 43) hx hb dX3_candour_33 rfl (fun c3 => ?_) (fun c3 => ?_)
      · have hf := dk_f c3 hf
        refine lv_aload_n hx hb dX3_candour_43 rfl (lv_at hl 1 rfl) ?_
        refine gX3_this_cushionMany hC hw dX3_candour_44 ?_
        obtain rfl := Option.some.inj hf
        exact ret _ _ _ _ _ dX3_candour_47 rfl rfl hw
      · have hf := dk_t c3 hf
        refine lv_aload_n hx hb dX3_candour_36 rfl (lv_at hl 1 rfl) ?_
        refine gX3_this_foulAct hC hw dX3_candour_37 ?_
        refine lv_goto (tgt := 47) hx hb dX3_candour_40 rfl ?_
        obtain rfl := Option.some.inj hf
        exact ret _ _ _ _ _ dX3_candour_47 rfl rfl hw
    · have hf := dk_f c4 hf
      refine lv_iload_n hx hb dX3_candour_28 rfl (lv_at hl 0 rfl) ?_
      refine lv_goto (tgt := 47) hx hb dX3_candour_29 rfl ?_
      obtain rfl := Option.some.inj hf
      exact ret _ _ _ _ _ dX3_candour_47 rfl rfl hw
  · have hf := dk_t c5 hf
    refine lv_bipush (v := (-2)) hx hb dX3_candour_10 rfl ?_
    obtain rfl := Option.some.inj hf
    exact ret _ _ _ _ _ dX3_candour_12 rfl rfl hw
set_option maxHeartbeats 4000000 in
set_option maxRecDepth 100000 in
theorem metX3_done  {res : Int32 × (Nat → Int32) × Int32 × Int32 × Int32 × Int32 × (Nat → Int32) × (Nat → Int32) × (Nat → Int32) × (Nat → Int32) × Int32 × Int32 × Int32 × Int32 × Int32 × Int32 × Int32 × Int32 × Int32 × Int32 × Int32 × Int32 × (Nat → Int32) × (Nat → Int32) × Int32 × Int32 × Int32} (hf : fX3_done m_cell m_points m_fouls m_evening m_pad m_padMany m_act m_which m_whither m_hard m_acts m_moving m_goes m_left m_touches m_cushions m_cushionsThen m_touchedFirst m_stepsThen m_downNow m_touchedMany m_cushionMany m_were m_had m_badAct m_badWhy m_foulAct = some res) : CtI l yX3_done cX3_done 2 .int 8 D E sz [.ref (h 0)] (WX3 h E m_cell m_points m_fouls m_evening m_sightStep m_sightCell m_sights m_pad m_padMany m_act m_which m_whither m_hard m_acts m_moving m_goes m_left m_touches m_cushions m_cushionsThen m_touchedFirst m_stepsThen m_downNow m_touchedMany m_cushionMany m_were m_had m_badAct m_badWhy m_foulAct m_met m_far m_fit m_now m_fitMany m_byCell m_wins m_chance m_kept m_isKept m_keptAt m_isWriting) (WX3 h E res.2.1 res.2.2.1 res.2.2.2.1 res.2.2.2.2.1 m_sightStep m_sightCell m_sights m_pad res.2.2.2.2.2.1 res.2.2.2.2.2.2.1 res.2.2.2.2.2.2.2.1 res.2.2.2.2.2.2.2.2.1 res.2.2.2.2.2.2.2.2.2.1 res.2.2.2.2.2.2.2.2.2.2.1 res.2.2.2.2.2.2.2.2.2.2.2.1 res.2.2.2.2.2.2.2.2.2.2.2.2.1 res.2.2.2.2.2.2.2.2.2.2.2.2.2.1 res.2.2.2.2.2.2.2.2.2.2.2.2.2.2.1 res.2.2.2.2.2.2.2.2.2.2.2.2.2.2.2.1 res.2.2.2.2.2.2.2.2.2.2.2.2.2.2.2.2.1 res.2.2.2.2.2.2.2.2.2.2.2.2.2.2.2.2.2.1 res.2.2.2.2.2.2.2.2.2.2.2.2.2.2.2.2.2.2.1 res.2.2.2.2.2.2.2.2.2.2.2.2.2.2.2.2.2.2.2.1 res.2.2.2.2.2.2.2.2.2.2.2.2.2.2.2.2.2.2.2.2.1 res.2.2.2.2.2.2.2.2.2.2.2.2.2.2.2.2.2.2.2.2.2.1 res.2.2.2.2.2.2.2.2.2.2.2.2.2.2.2.2.2.2.2.2.2.2.1 res.2.2.2.2.2.2.2.2.2.2.2.2.2.2.2.2.2.2.2.2.2.2.2.1 res.2.2.2.2.2.2.2.2.2.2.2.2.2.2.2.2.2.2.2.2.2.2.2.2.1 res.2.2.2.2.2.2.2.2.2.2.2.2.2.2.2.2.2.2.2.2.2.2.2.2.2.1 res.2.2.2.2.2.2.2.2.2.2.2.2.2.2.2.2.2.2.2.2.2.2.2.2.2.2 m_met m_far m_fit m_now m_fitMany m_byCell m_wins m_chance m_kept m_isKept m_keptAt m_isWriting) res.1 := by
  refine startI (own := RX3) (by decide) rfl (Nat.le_of_ble_eq_true rfl) ?_
  intro p e s m args below meth c A Q ls hC ret hl hw
  have hx := hC.1.1
  have hb := hC.1.2.1
  have hown := hC.1.2.2.2.1
  have hts := hC.1.2.2.2.2
  have hl : lv_has ls 2 [(0, .ref (h 0))] := hl
  refine lv_aload_n hx hb dX3_done_0 rfl (lv_at hl 0 rfl) ?_
  obtain ⟨z1, hz1, hf⟩ := dk_b hf
  refine callVI (rest := []) 0 _ 3 hC hw (sm1 _) (metX3_refusal hz1) mi_X3_refusal q656 (rm_ok (by decide) (by decide)) rfl rfl rfl hl.1 rfl (Nat.le_of_ble_eq_true rfl) dX3_done_1 ⟨Nat.zero_le _, Nat.zero_le _⟩ (sm2 _ _) (fun H locs hw => ?_)
  refine lv_istore_n (lv' := [(1, .int z1.1), (0, .ref (h 0))]) hx hb dX3_done_4 rfl hl (by decide) rfl (fun ls hl => ?_)
  refine lv_iload_n hx hb dX3_done_5 rfl (lv_at hl 0 rfl) ?_
  refine lv_bipush (v := (-6)) hx hb dX3_done_6 rfl ?_
  refine lv_icmp_eq (tgt := 17) hx hb dX3_done_8 rfl (fun c3 => ?_) (fun c3 => ?_)
  · have hf := dk_t c3 hf
    refine lv_aload_n hx hb dX3_done_17 rfl (lv_at hl 1 rfl) ?_
    refine lv_iconst (v := 0) hx hb dX3_done_18 rfl ?_
    refine pX3_this_padMany hC hw dX3_done_19 (fun H locs hw => ?_)
    refine lv_aload_n hx hb dX3_done_22 rfl (lv_at hl 1 rfl) ?_
    refine gX3_this_acts hC hw dX3_done_23 ?_
    obtain rfl := Option.some.inj hf
    exact ret _ _ _ _ _ dX3_done_26 rfl rfl hw
  · have hf := dk_f c3 hf
    refine lv_aload_n hx hb dX3_done_11 rfl (lv_at hl 1 rfl) ?_
    refine lv_iload_n hx hb dX3_done_12 rfl (lv_at hl 0 rfl) ?_
    obtain ⟨z2, hz2, hf⟩ := dk_b hf
    refine callVI (rest := []) 0 _ 3 hC hw (sm1 _) (metX3_back hz2) mi_X3_back q718 (rm_ok (by decide) (by decide)) rfl rfl rfl hl.1 rfl (Nat.le_of_ble_eq_true rfl) dX3_done_13 ⟨Nat.zero_le _, Nat.zero_le _⟩ (sm2 _ _) (fun H locs hw => ?_)
    obtain rfl := Option.some.inj hf
    exact ret _ _ _ _ _ dX3_done_16 rfl rfl hw
set_option maxHeartbeats 4000000 in
set_option maxRecDepth 100000 in
theorem metX3_stepsBy {v1 : Int32} {v2 : Int32} {v3 : Int32} {v4 : Int32} {res : Int32 × (Nat → Int32) × Int32 × Int32 × Int32 × Int32 × Int32 × Int32 × Int32 × Int32 × Int32 × Int32 × Int32 × Int32 × (Nat → Int32)} (hf : fX3_stepsBy v1 v2 v3 v4 m_cell m_points m_fouls m_evening m_moving m_goes m_left m_touches m_cushions m_cushionsThen m_touchedFirst m_stepsThen m_downNow m_had = some res) : CtI l yX3_stepsBy cX3_stepsBy 6 .int 4 D E sz [.ref (h 0), .int v1, .int v2, .int v3, .int v4] (WX3 h E m_cell m_points m_fouls m_evening m_sightStep m_sightCell m_sights m_pad m_padMany m_act m_which m_whither m_hard m_acts m_moving m_goes m_left m_touches m_cushions m_cushionsThen m_touchedFirst m_stepsThen m_downNow m_touchedMany m_cushionMany m_were m_had m_badAct m_badWhy m_foulAct m_met m_far m_fit m_now m_fitMany m_byCell m_wins m_chance m_kept m_isKept m_keptAt m_isWriting) (WX3 h E res.2.1 res.2.2.1 res.2.2.2.1 res.2.2.2.2.1 m_sightStep m_sightCell m_sights m_pad m_padMany m_act m_which m_whither m_hard m_acts res.2.2.2.2.2.1 res.2.2.2.2.2.2.1 res.2.2.2.2.2.2.2.1 res.2.2.2.2.2.2.2.2.1 res.2.2.2.2.2.2.2.2.2.1 res.2.2.2.2.2.2.2.2.2.2.1 res.2.2.2.2.2.2.2.2.2.2.2.1 res.2.2.2.2.2.2.2.2.2.2.2.2.1 res.2.2.2.2.2.2.2.2.2.2.2.2.2.1 m_touchedMany m_cushionMany m_were res.2.2.2.2.2.2.2.2.2.2.2.2.2.2 m_badAct m_badWhy m_foulAct m_met m_far m_fit m_now m_fitMany m_byCell m_wins m_chance m_kept m_isKept m_keptAt m_isWriting) res.1 := by
  refine startI (own := RX3) (by decide) rfl (Nat.le_of_ble_eq_true rfl) ?_
  intro p e s m args below meth c A Q ls hC ret hl hw
  have hx := hC.1.1
  have hb := hC.1.2.1
  have hown := hC.1.2.2.2.1
  have hts := hC.1.2.2.2.2
  have hl : lv_has ls 6 [(0, .ref (h 0)), (1, .int v1), (2, .int v2), (3, .int v3), (4, .int v4)] := hl
  have L34 : ∀ (k0 : Int32) (m_cell : Nat → Int32) (m_points : Int32) (m_fouls : Int32) (m_evening : Int32) (m_moving : Int32) (m_goes : Int32) (m_left : Int32) (m_touches : Int32) (m_cushions : Int32) (m_cushionsThen : Int32) (m_touchedFirst : Int32) (m_stepsThen : Int32) (m_downNow : Int32) (m_had : Nat → Int32) (H : Heap) (locs : List Loc) (ls : Array Slot), Wo D A s.heap H locs (WX3 h E m_cell m_points m_fouls m_evening m_sightStep m_sightCell m_sights m_pad m_padMany m_act m_which m_whither m_hard m_acts m_moving m_goes m_left m_touches m_cushions m_cushionsThen m_touchedFirst m_stepsThen m_downNow m_touchedMany m_cushionMany m_were m_had m_badAct m_badWhy m_foulAct m_met m_far m_fit m_now m_fitMany m_byCell m_wins m_chance m_kept m_isKept m_keptAt m_isWriting) → lv_has ls 6 [(0, .ref (h 0))] → fX3_stepsBy_L34 v1 v2 v3 v4  k0 m_cell m_points m_fouls m_evening m_moving m_goes m_left m_touches m_cushions m_cushionsThen m_touchedFirst m_stepsThen m_downNow m_had = some res → W p l e (rmN 4) s m args below meth c H locs 0 0 Q (F0 m 34 ls [.int k0]) := by
    intro  k0 m_cell m_points m_fouls m_evening m_moving m_goes m_left m_touches m_cushions m_cushionsThen m_touchedFirst m_stepsThen m_downNow m_had H locs ls hw hl hf
    refine lv_istore (lv' := [(5, .int k0), (0, .ref (h 0))]) hx hb dX3_stepsBy_34 hl (by decide) rfl (fun ls hl => ?_)
    refine lv_aload_n hx hb dX3_stepsBy_36 rfl (lv_at hl 1 rfl) ?_
    refine lv_iload hx hb dX3_stepsBy_37 (lv_at hl 0 rfl) ?_
    refine lv_if_eq (tgt := 49) hx hb dX3_stepsBy_39 rfl (fun c5 => ?_) (fun c5 => ?_)
    · have hf := dk_t c5 hf
      refine lv_bipush (v := (-6)) hx hb dX3_stepsBy_49 rfl ?_
      obtain ⟨z3, hz3, hf⟩ := dk_b hf
      refine callVI (rest := []) 0 _ 3 hC hw (sm1 _) (metX3_back hz3) mi_X3_back q718 (rm_ok (by decide) (by decide)) rfl rfl rfl hl.1 rfl (Nat.le_of_ble_eq_true rfl) dX3_stepsBy_51 ⟨Nat.zero_le _, Nat.zero_le _⟩ (sm2 _ _) (fun H locs hw => ?_)
      obtain rfl := Option.some.inj hf
      exact ret _ _ _ _ _ dX3_stepsBy_54 rfl rfl hw
    · have hf := dk_f c5 hf
      refine lv_aload_n hx hb dX3_stepsBy_42 rfl (lv_at hl 1 rfl) ?_
      refine gX3_this_stepsThen hC hw dX3_stepsBy_43 ?_
      refine lv_goto (tgt := 51) hx hb dX3_stepsBy_46 rfl ?_
      obtain ⟨z4, hz4, hf⟩ := dk_b hf
      refine callVI (rest := []) 0 _ 3 hC hw (sm1 _) (metX3_back hz4) mi_X3_back q718 (rm_ok (by decide) (by decide)) rfl rfl rfl hl.1 rfl (Nat.le_of_ble_eq_true rfl) dX3_stepsBy_51 ⟨Nat.zero_le _, Nat.zero_le _⟩ (sm2 _ _) (fun H locs hw => ?_)
      obtain rfl := Option.some.inj hf
      exact ret _ _ _ _ _ dX3_stepsBy_54 rfl rfl hw
  refine lv_aload_n hx hb dX3_stepsBy_0 rfl (lv_at hl 0 rfl) ?_
  obtain ⟨z1, hz1, hf⟩ := dk_b hf
  refine callVV (rest := []) 0 _ 3 hC hw (sm1 _) (metX3_keepNow hz1) mi_X3_keepNow q660 (rm_ok (by decide) (by decide)) rfl rfl rfl hl.1 rfl (Nat.le_of_ble_eq_true rfl) dX3_stepsBy_1 ⟨Nat.zero_le _, Nat.zero_le _⟩ (sm2 _ _) (fun H locs hw => ?_)
  refine lv_aload_n hx hb dX3_stepsBy_4 rfl (lv_at hl 0 rfl) ?_
  refine lv_iload_n hx hb dX3_stepsBy_5 rfl (lv_at hl 1 rfl) ?_
  refine lv_iload hx hb dX3_stepsBy_6 (lv_at hl 4 rfl) ?_
  refine lv_bipush (v := 9) hx hb dX3_stepsBy_8 rfl ?_
  obtain ⟨z2, hz2, hf⟩ := dk_b hf
  refine callVV (rest := []) 0 _ 3 hC hw (sm1 _) (metX3_send hz2) mi_X3_send q681 (rm_ok (by decide) (by decide)) rfl rfl rfl hl.1 rfl (Nat.le_of_ble_eq_true rfl) dX3_stepsBy_10 ⟨Nat.zero_le _, Nat.zero_le _⟩ (sm2 _ _) (fun H locs hw => ?_)
  refine lv_aload_n hx hb dX3_stepsBy_13 rfl (lv_at hl 0 rfl) ?_
  refine gX3_this_touchedFirst hC hw dX3_stepsBy_14 ?_
  refine lv_iload_n hx hb dX3_stepsBy_17 rfl (lv_at hl 2 rfl) ?_
  refine lv_icmp_ne (tgt := 33) hx hb dX3_stepsBy_18 rfl (fun c7 => ?_) (fun c7 => ?_)
  · have hf := dk_f c7 hf
    refine lv_iconst (v := 0) hx hb dX3_stepsBy_33 rfl ?_
    exact L34 0 z2.1 m_points m_fouls m_evening z2.2.1 z2.2.2.1 z2.2.2.2.1 z2.2.2.2.2.1 z2.2.2.2.2.2.1 z2.2.2.2.2.2.2.1 z2.2.2.2.2.2.2.2.1 z2.2.2.2.2.2.2.2.2.1 z2.2.2.2.2.2.2.2.2.2 z1 _ _ _ hw (lv_sub hl [0] rfl) hf
  · have hf := dk_t c7 hf
    refine lv_aload_n hx hb dX3_stepsBy_21 rfl (lv_at hl 0 rfl) ?_
    refine gX3_this_cushionsThen hC hw dX3_stepsBy_22 ?_
    refine lv_iload_n hx hb dX3_stepsBy_25 rfl (lv_at hl 3 rfl) ?_
    refine lv_icmp_ne (tgt := 33) hx hb dX3_stepsBy_26 rfl (fun c6 => ?_) (fun c6 => ?_)
    · have hf := dk_f c6 hf
      refine lv_iconst (v := 0) hx hb dX3_stepsBy_33 rfl ?_
      exact L34 0 z2.1 m_points m_fouls m_evening z2.2.1 z2.2.2.1 z2.2.2.2.1 z2.2.2.2.2.1 z2.2.2.2.2.2.1 z2.2.2.2.2.2.2.1 z2.2.2.2.2.2.2.2.1 z2.2.2.2.2.2.2.2.2.1 z2.2.2.2.2.2.2.2.2.2 z1 _ _ _ hw (lv_sub hl [0] rfl) hf
    · have hf := dk_t c6 hf
      refine lv_iconst (v := 1) hx hb dX3_stepsBy_29 rfl ?_
      refine lv_goto (tgt := 34) hx hb dX3_stepsBy_30 rfl ?_
      exact L34 1 z2.1 m_points m_fouls m_evening z2.2.1 z2.2.2.1 z2.2.2.2.1 z2.2.2.2.2.1 z2.2.2.2.2.2.1 z2.2.2.2.2.2.2.1 z2.2.2.2.2.2.2.2.1 z2.2.2.2.2.2.2.2.2.1 z2.2.2.2.2.2.2.2.2.2 z1 _ _ _ hw (lv_sub hl [0] rfl) hf
set_option maxHeartbeats 4000000 in
set_option maxRecDepth 100000 in
theorem metX3_hint {v1 : Int32} {v2 : Int32} {v3 : Int32} {v4 : Int32} {res : Int32 × (Nat → Int32) × Int32 × Int32 × Int32 × Int32 × Int32 × Int32 × Int32 × Int32 × Int32 × Int32 × Int32 × Int32 × (Nat → Int32)} (hf : fX3_hint v1 v2 v3 v4 m_cell m_points m_fouls m_evening m_moving m_goes m_left m_touches m_cushions m_cushionsThen m_touchedFirst m_stepsThen m_downNow m_had = some res) : CtI l yX3_hint cX3_hint 10 .int 5 D E sz [.ref (h 0), .int v1, .int v2, .int v3, .int v4] (WX3 h E m_cell m_points m_fouls m_evening m_sightStep m_sightCell m_sights m_pad m_padMany m_act m_which m_whither m_hard m_acts m_moving m_goes m_left m_touches m_cushions m_cushionsThen m_touchedFirst m_stepsThen m_downNow m_touchedMany m_cushionMany m_were m_had m_badAct m_badWhy m_foulAct m_met m_far m_fit m_now m_fitMany m_byCell m_wins m_chance m_kept m_isKept m_keptAt m_isWriting) (WX3 h E res.2.1 res.2.2.1 res.2.2.2.1 res.2.2.2.2.1 m_sightStep m_sightCell m_sights m_pad m_padMany m_act m_which m_whither m_hard m_acts res.2.2.2.2.2.1 res.2.2.2.2.2.2.1 res.2.2.2.2.2.2.2.1 res.2.2.2.2.2.2.2.2.1 res.2.2.2.2.2.2.2.2.2.1 res.2.2.2.2.2.2.2.2.2.2.1 res.2.2.2.2.2.2.2.2.2.2.2.1 res.2.2.2.2.2.2.2.2.2.2.2.2.1 res.2.2.2.2.2.2.2.2.2.2.2.2.2.1 m_touchedMany m_cushionMany m_were res.2.2.2.2.2.2.2.2.2.2.2.2.2.2 m_badAct m_badWhy m_foulAct m_met m_far m_fit m_now m_fitMany m_byCell m_wins m_chance m_kept m_isKept m_keptAt m_isWriting) res.1 := by
  refine startI (own := RX3) (by decide) rfl (Nat.le_of_ble_eq_true rfl) ?_
  intro p e s m args below meth c A Q ls hC ret hl hw
  have hx := hC.1.1
  have hb := hC.1.2.1
  have hown := hC.1.2.2.2.1
  have hts := hC.1.2.2.2.2
  have hl : lv_has ls 10 [(0, .ref (h 0)), (1, .int v1), (2, .int v2), (3, .int v3), (4, .int v4)] := hl
  have L142 : ∀ (v5 : Int32) (v6 : Int32) (m_cell : Nat → Int32) (m_points : Int32) (m_fouls : Int32) (m_evening : Int32) (m_moving : Int32) (m_goes : Int32) (m_left : Int32) (m_touches : Int32) (m_cushions : Int32) (m_cushionsThen : Int32) (m_touchedFirst : Int32) (m_stepsThen : Int32) (m_downNow : Int32) (m_had : Nat → Int32) (H : Heap) (locs : List Loc) (ls : Array Slot), Wo D A s.heap H locs (WX3 h E m_cell m_points m_fouls m_evening m_sightStep m_sightCell m_sights m_pad m_padMany m_act m_which m_whither m_hard m_acts m_moving m_goes m_left m_touches m_cushions m_cushionsThen m_touchedFirst m_stepsThen m_downNow m_touchedMany m_cushionMany m_were m_had m_badAct m_badWhy m_foulAct m_met m_far m_fit m_now m_fitMany m_byCell m_wins m_chance m_kept m_isKept m_keptAt m_isWriting) → lv_has ls 10 [(4, .int v4), (5, .int v5), (6, .int v6)] → fX3_hint_L142 v1 v2 v3 v4  v5 v6 m_cell m_points m_fouls m_evening m_moving m_goes m_left m_touches m_cushions m_cushionsThen m_touchedFirst m_stepsThen m_downNow m_had = some res → W p l e (rmN 5) s m args below meth c H locs 0 0 Q (F0 m 142 ls []) := by
    intro  v5 v6 m_cell m_points m_fouls m_evening m_moving m_goes m_left m_touches m_cushions m_cushionsThen m_touchedFirst m_stepsThen m_downNow m_had H locs ls hw hl hf
    refine lv_iload hx hb dX3_hint_142 (lv_at hl 0 rfl) ?_
    refine lv_if_ne (tgt := 152) hx hb dX3_hint_144 rfl (fun c1 => ?_) (fun c1 => ?_)
    · have hf := dk_f c1 hf
      refine lv_iload hx hb dX3_hint_152 (lv_at hl 2 rfl) ?_
      obtain rfl := Option.some.inj hf
      exact ret _ _ _ _ _ dX3_hint_154 rfl rfl hw
    · have hf := dk_t c1 hf
      refine lv_iload hx hb dX3_hint_147 (lv_at hl 1 rfl) ?_
      refine lv_goto (tgt := 154) hx hb dX3_hint_149 rfl ?_
      obtain rfl := Option.some.inj hf
      exact ret _ _ _ _ _ dX3_hint_154 rfl rfl hw
  have L120 : ∀ (k59c : Int32 → Int32 → Int32 → (Nat → Int32) → Int32 → Int32 → Int32 → Int32 → Int32 → Int32 → Int32 → Int32 → Int32 → Int32 → Int32 → Int32 → (Nat → Int32) → Option (Int32 × (Nat → Int32) × Int32 × Int32 × Int32 × Int32 × Int32 × Int32 × Int32 × Int32 × Int32 × Int32 × Int32 × Int32 × (Nat → Int32))) (hk59 : ∀ (v5 : Int32) (v6 : Int32) (v7 : Int32) (m_cell : Nat → Int32) (m_points : Int32) (m_fouls : Int32) (m_evening : Int32) (m_moving : Int32) (m_goes : Int32) (m_left : Int32) (m_touches : Int32) (m_cushions : Int32) (m_cushionsThen : Int32) (m_touchedFirst : Int32) (m_stepsThen : Int32) (m_downNow : Int32) (m_had : Nat → Int32) (H : Heap) (locs : List Loc) (ls : Array Slot), Wo D A s.heap H locs (WX3 h E m_cell m_points m_fouls m_evening m_sightStep m_sightCell m_sights m_pad m_padMany m_act m_which m_whither m_hard m_acts m_moving m_goes m_left m_touches m_cushions m_cushionsThen m_touchedFirst m_stepsThen m_downNow m_touchedMany m_cushionMany m_were m_had m_badAct m_badWhy m_foulAct m_met m_far m_fit m_now m_fitMany m_byCell m_wins m_chance m_kept m_isKept m_keptAt m_isWriting) → lv_has ls 10 [(0, .ref (h 0)), (1, .int v1), (2, .int v2), (3, .int v3), (4, .int v4), (5, .int v5), (6, .int v6), (7, .int v7)] → k59c v5 v6 v7 m_cell m_points m_fouls m_evening m_moving m_goes m_left m_touches m_cushions m_cushionsThen m_touchedFirst m_stepsThen m_downNow m_had = some res → W p l e (rmN 5) s m args below meth c H locs 0 0 Q (F0 m 59 ls [])) (v5 : Int32) (v7 : Int32) (v8 : Int32) (v9 : Int32) (k0 : Int32) (m_cell : Nat → Int32) (m_points : Int32) (m_fouls : Int32) (m_evening : Int32) (m_moving : Int32) (m_goes : Int32) (m_left : Int32) (m_touches : Int32) (m_cushions : Int32) (m_cushionsThen : Int32) (m_touchedFirst : Int32) (m_stepsThen : Int32) (m_downNow : Int32) (m_had : Nat → Int32) (H : Heap) (locs : List Loc) (ls : Array Slot), Wo D A s.heap H locs (WX3 h E m_cell m_points m_fouls m_evening m_sightStep m_sightCell m_sights m_pad m_padMany m_act m_which m_whither m_hard m_acts m_moving m_goes m_left m_touches m_cushions m_cushionsThen m_touchedFirst m_stepsThen m_downNow m_touchedMany m_cushionMany m_were m_had m_badAct m_badWhy m_foulAct m_met m_far m_fit m_now m_fitMany m_byCell m_wins m_chance m_kept m_isKept m_keptAt m_isWriting) → lv_has ls 10 [(0, .ref (h 0)), (1, .int v1), (2, .int v2), (3, .int v3), (4, .int v4), (5, .int v5), (7, .int v7), (8, .int v8), (9, .int v9)] → fX3_hint_L120 v1 v2 v3 v4 k59c v5 v7 v8 v9 k0 m_cell m_points m_fouls m_evening m_moving m_goes m_left m_touches m_cushions m_cushionsThen m_touchedFirst m_stepsThen m_downNow m_had = some res → W p l e (rmN 5) s m args below meth c H locs 0 0 Q (F0 m 120 ls [.int k0]) := by
    intro k59c hk59 v5 v7 v8 v9 k0 m_cell m_points m_fouls m_evening m_moving m_goes m_left m_touches m_cushions m_cushionsThen m_touchedFirst m_stepsThen m_downNow m_had H locs ls hw hl hf
    refine lv_istore (lv' := [(6, .int k0), (0, .ref (h 0)), (1, .int v1), (2, .int v2), (3, .int v3), (4, .int v4), (5, .int v5), (7, .int v7), (8, .int v8), (9, .int v9)]) hx hb dX3_hint_120 hl (by decide) rfl (fun ls hl => ?_)
    refine lv_iload hx hb dX3_hint_122 (lv_at hl 9 rfl) ?_
    refine lv_if_eq (tgt := 132) hx hb dX3_hint_124 rfl (fun c4 => ?_) (fun c4 => ?_)
    · have hf := dk_t c4 hf
      refine lv_iload hx hb dX3_hint_132 (lv_at hl 6 rfl) ?_
      refine lv_istore (lv' := [(5, .int v5), (6, .int k0), (0, .ref (h 0)), (1, .int v1), (2, .int v2), (3, .int v3), (4, .int v4), (7, .int v7), (8, .int v8), (9, .int v9)]) hx hb dX3_hint_134 hl (by decide) rfl (fun ls hl => ?_)
      refine lv_iinc (v := (v7 + (-1))) (lv' := [(7, .int (v7 + (-1))), (5, .int v5), (6, .int k0), (0, .ref (h 0)), (1, .int v1), (2, .int v2), (3, .int v3), (4, .int v4), (8, .int v8), (9, .int v9)]) hx hb dX3_hint_136 hl (k := 7) rfl rfl (by decide) rfl (fun ls hl => ?_)
      refine lv_goto (tgt := 59) hx hb dX3_hint_139 rfl ?_
      exact hk59 v5 k0 (v7 + (-1)) m_cell m_points m_fouls m_evening m_moving m_goes m_left m_touches m_cushions m_cushionsThen m_touchedFirst m_stepsThen m_downNow m_had _ _ _ hw (lv_sub hl [3, 4, 5, 6, 7, 1, 2, 0] rfl) hf
    · have hf := dk_f c4 hf
      refine lv_iload hx hb dX3_hint_127 (lv_at hl 8 rfl) ?_
      refine lv_goto (tgt := 134) hx hb dX3_hint_129 rfl ?_
      refine lv_istore (lv' := [(5, .int v8), (6, .int k0), (0, .ref (h 0)), (1, .int v1), (2, .int v2), (3, .int v3), (4, .int v4), (7, .int v7), (8, .int v8), (9, .int v9)]) hx hb dX3_hint_134 hl (by decide) rfl (fun ls hl => ?_)
      refine lv_iinc (v := (v7 + (-1))) (lv' := [(7, .int (v7 + (-1))), (5, .int v8), (6, .int k0), (0, .ref (h 0)), (1, .int v1), (2, .int v2), (3, .int v3), (4, .int v4), (8, .int v8), (9, .int v9)]) hx hb dX3_hint_136 hl (k := 7) rfl rfl (by decide) rfl (fun ls hl => ?_)
      refine lv_goto (tgt := 59) hx hb dX3_hint_139 rfl ?_
      exact hk59 v8 k0 (v7 + (-1)) m_cell m_points m_fouls m_evening m_moving m_goes m_left m_touches m_cushions m_cushionsThen m_touchedFirst m_stepsThen m_downNow m_had _ _ _ hw (lv_sub hl [3, 4, 5, 6, 7, 1, 2, 0] rfl) hf
  have L106 : ∀ (k59c : Int32 → Int32 → Int32 → (Nat → Int32) → Int32 → Int32 → Int32 → Int32 → Int32 → Int32 → Int32 → Int32 → Int32 → Int32 → Int32 → Int32 → (Nat → Int32) → Option (Int32 × (Nat → Int32) × Int32 × Int32 × Int32 × Int32 × Int32 × Int32 × Int32 × Int32 × Int32 × Int32 × Int32 × Int32 × (Nat → Int32))) (hk59 : ∀ (v5 : Int32) (v6 : Int32) (v7 : Int32) (m_cell : Nat → Int32) (m_points : Int32) (m_fouls : Int32) (m_evening : Int32) (m_moving : Int32) (m_goes : Int32) (m_left : Int32) (m_touches : Int32) (m_cushions : Int32) (m_cushionsThen : Int32) (m_touchedFirst : Int32) (m_stepsThen : Int32) (m_downNow : Int32) (m_had : Nat → Int32) (H : Heap) (locs : List Loc) (ls : Array Slot), Wo D A s.heap H locs (WX3 h E m_cell m_points m_fouls m_evening m_sightStep m_sightCell m_sights m_pad m_padMany m_act m_which m_whither m_hard m_acts m_moving m_goes m_left m_touches m_cushions m_cushionsThen m_touchedFirst m_stepsThen m_downNow m_touchedMany m_cushionMany m_were m_had m_badAct m_badWhy m_foulAct m_met m_far m_fit m_now m_fitMany m_byCell m_wins m_chance m_kept m_isKept m_keptAt m_isWriting) → lv_has ls 10 [(0, .ref (h 0)), (1, .int v1), (2, .int v2), (3, .int v3), (4, .int v4), (5, .int v5), (6, .int v6), (7, .int v7)] → k59c v5 v6 v7 m_cell m_points m_fouls m_evening m_moving m_goes m_left m_touches m_cushions m_cushionsThen m_touchedFirst m_stepsThen m_downNow m_had = some res → W p l e (rmN 5) s m args below meth c H locs 0 0 Q (F0 m 59 ls [])) (v5 : Int32) (v6 : Int32) (v7 : Int32) (v8 : Int32) (k0 : Int32) (m_cell : Nat → Int32) (m_points : Int32) (m_fouls : Int32) (m_evening : Int32) (m_moving : Int32) (m_goes : Int32) (m_left : Int32) (m_touches : Int32) (m_cushions : Int32) (m_cushionsThen : Int32) (m_touchedFirst : Int32) (m_stepsThen : Int32) (m_downNow : Int32) (m_had : Nat → Int32) (H : Heap) (locs : List Loc) (ls : Array Slot), Wo D A s.heap H locs (WX3 h E m_cell m_points m_fouls m_evening m_sightStep m_sightCell m_sights m_pad m_padMany m_act m_which m_whither m_hard m_acts m_moving m_goes m_left m_touches m_cushions m_cushionsThen m_touchedFirst m_stepsThen m_downNow m_touchedMany m_cushionMany m_were m_had m_badAct m_badWhy m_foulAct m_met m_far m_fit m_now m_fitMany m_byCell m_wins m_chance m_kept m_isKept m_keptAt m_isWriting) → lv_has ls 10 [(0, .ref (h 0)), (1, .int v1), (2, .int v2), (3, .int v3), (4, .int v4), (5, .int v5), (6, .int v6), (7, .int v7), (8, .int v8)] → fX3_hint_L106 v1 v2 v3 v4 k59c v5 v6 v7 v8 k0 m_cell m_points m_fouls m_evening m_moving m_goes m_left m_touches m_cushions m_cushionsThen m_touchedFirst m_stepsThen m_downNow m_had = some res → W p l e (rmN 5) s m args below meth c H locs 0 0 Q (F0 m 106 ls [.int k0]) := by
    intro k59c hk59 v5 v6 v7 v8 k0 m_cell m_points m_fouls m_evening m_moving m_goes m_left m_touches m_cushions m_cushionsThen m_touchedFirst m_stepsThen m_downNow m_had H locs ls hw hl hf
    refine lv_istore (lv' := [(9, .int k0), (0, .ref (h 0)), (1, .int v1), (2, .int v2), (3, .int v3), (4, .int v4), (5, .int v5), (6, .int v6), (7, .int v7), (8, .int v8)]) hx hb dX3_hint_106 hl (by decide) rfl (fun ls hl => ?_)
    refine lv_iload hx hb dX3_hint_108 (lv_at hl 0 rfl) ?_
    refine lv_if_eq (tgt := 118) hx hb dX3_hint_110 rfl (fun c5 => ?_) (fun c5 => ?_)
    · have hf := dk_t c5 hf
      refine lv_iload hx hb dX3_hint_118 (lv_at hl 7 rfl) ?_
      exact L120 k59c hk59 v5 v7 v8 k0 v6 m_cell m_points m_fouls m_evening m_moving m_goes m_left m_touches m_cushions m_cushionsThen m_touchedFirst m_stepsThen m_downNow m_had _ _ _ hw (lv_sub hl [1, 2, 3, 4, 5, 6, 8, 9, 0] rfl) hf
    · have hf := dk_f c5 hf
      refine lv_iload hx hb dX3_hint_113 (lv_at hl 8 rfl) ?_
      refine lv_goto (tgt := 120) hx hb dX3_hint_115 rfl ?_
      exact L120 k59c hk59 v5 v7 v8 k0 v7 m_cell m_points m_fouls m_evening m_moving m_goes m_left m_touches m_cushions m_cushionsThen m_touchedFirst m_stepsThen m_downNow m_had _ _ _ hw (lv_sub hl [1, 2, 3, 4, 5, 6, 8, 9, 0] rfl) hf
  have L59 : ∀ (n : Nat), ∀ (v5 : Int32) (v6 : Int32) (v7 : Int32) (m_cell : Nat → Int32) (m_points : Int32) (m_fouls : Int32) (m_evening : Int32) (m_moving : Int32) (m_goes : Int32) (m_left : Int32) (m_touches : Int32) (m_cushions : Int32) (m_cushionsThen : Int32) (m_touchedFirst : Int32) (m_stepsThen : Int32) (m_downNow : Int32) (m_had : Nat → Int32) (H : Heap) (locs : List Loc) (ls : Array Slot), Wo D A s.heap H locs (WX3 h E m_cell m_points m_fouls m_evening m_sightStep m_sightCell m_sights m_pad m_padMany m_act m_which m_whither m_hard m_acts m_moving m_goes m_left m_touches m_cushions m_cushionsThen m_touchedFirst m_stepsThen m_downNow m_touchedMany m_cushionMany m_were m_had m_badAct m_badWhy m_foulAct m_met m_far m_fit m_now m_fitMany m_byCell m_wins m_chance m_kept m_isKept m_keptAt m_isWriting) → lv_has ls 10 [(0, .ref (h 0)), (1, .int v1), (2, .int v2), (3, .int v3), (4, .int v4), (5, .int v5), (6, .int v6), (7, .int v7)] → fX3_hint_L59 v1 v2 v3 v4  n v5 v6 v7 m_cell m_points m_fouls m_evening m_moving m_goes m_left m_touches m_cushions m_cushionsThen m_touchedFirst m_stepsThen m_downNow m_had = some res → W p l e (rmN 5) s m args below meth c H locs 0 0 Q (F0 m 59 ls []) := by
    intro  n
    induction n with
    | zero =>
      intro v5 v6 v7 m_cell m_points m_fouls m_evening m_moving m_goes m_left m_touches m_cushions m_cushionsThen m_touchedFirst m_stepsThen m_downNow m_had H locs ls hw hl hf
      exact dk_n hf
    | succ n ih =>
      intro v5 v6 v7 m_cell m_points m_fouls m_evening m_moving m_goes m_left m_touches m_cushions m_cushionsThen m_touchedFirst m_stepsThen m_downNow m_had H locs ls hw hl hf
      refine lv_iload hx hb dX3_hint_59 (lv_at hl 7 rfl) ?_
      refine lv_if_lt (tgt := 142) hx hb dX3_hint_61 rfl (fun c10 => ?_) (fun c10 => ?_)
      · have hf := dk_t c10 hf
        exact L142 v5 v6 m_cell m_points m_fouls m_evening m_moving m_goes m_left m_touches m_cushions m_cushionsThen m_touchedFirst m_stepsThen m_downNow m_had _ _ _ hw (lv_sub hl [4, 5, 6] rfl) hf
      · have hf := dk_f c10 hf
        refine lv_aload_n hx hb dX3_hint_64 rfl (lv_at hl 0 rfl) ?_
        refine gX3_this_cell hC hw dX3_hint_65 ?_
        refine lv_iload_n hx hb dX3_hint_68 rfl (lv_at hl 1 rfl) ?_
        obtain ⟨b2, hf⟩ := dk_c hf
        refine aX3_m_cell hC hw b2 dX3_hint_69 ?_
        refine lv_if_lt (tgt := 142) hx hb dX3_hint_70 rfl (fun c9 => ?_) (fun c9 => ?_)
        · have hf := dk_t c9 hf
          exact L142 v5 v6 m_cell m_points m_fouls m_evening m_moving m_goes m_left m_touches m_cushions m_cushionsThen m_touchedFirst m_stepsThen m_downNow m_had _ _ _ hw (lv_sub hl [4, 5, 6] rfl) hf
        · have hf := dk_f c9 hf
          refine lv_aload_n hx hb dX3_hint_73 rfl (lv_at hl 0 rfl) ?_
          refine lv_iload_n hx hb dX3_hint_74 rfl (lv_at hl 1 rfl) ?_
          refine lv_iload_n hx hb dX3_hint_75 rfl (lv_at hl 2 rfl) ?_
          refine lv_iload_n hx hb dX3_hint_76 rfl (lv_at hl 3 rfl) ?_
          refine lv_iload hx hb dX3_hint_77 (lv_at hl 7 rfl) ?_
          obtain ⟨z3, hz3, hf⟩ := dk_b hf
          refine callVI (rest := []) 0 _ 3 hC hw (sm1 _) (metX3_stepsBy hz3) mi_X3_stepsBy q747 (rm_ok (by decide) (by decide)) rfl rfl rfl hl.1 rfl (Nat.le_of_ble_eq_true rfl) dX3_hint_79 ⟨Nat.zero_le _, Nat.zero_le _⟩ (sm2 _ _) (fun H locs hw => ?_)
          refine lv_istore (lv' := [(8, .int z3.1), (0, .ref (h 0)), (1, .int v1), (2, .int v2), (3, .int v3), (4, .int v4), (5, .int v5), (6, .int v6), (7, .int v7)]) hx hb dX3_hint_82 hl (by decide) rfl (fun ls hl => ?_)
          refine lv_iload hx hb dX3_hint_84 (lv_at hl 0 rfl) ?_
          refine lv_if_lt (tgt := 105) hx hb dX3_hint_86 rfl (fun c8 => ?_) (fun c8 => ?_)
          · have hf := dk_t c8 hf
            refine lv_iconst (v := 0) hx hb dX3_hint_105 rfl ?_
            exact L106 (fun y0 y1 y2 y3 y4 y5 y6 y7 y8 y9 y10 y11 y12 y13 y14 y15 y16 => fX3_hint_L59 v1 v2 v3 v4 n y0 y1 y2 y3 y4 y5 y6 y7 y8 y9 y10 y11 y12 y13 y14 y15 y16) ih v5 v6 v7 z3.1 0 z3.2.1 z3.2.2.1 z3.2.2.2.1 z3.2.2.2.2.1 z3.2.2.2.2.2.1 z3.2.2.2.2.2.2.1 z3.2.2.2.2.2.2.2.1 z3.2.2.2.2.2.2.2.2.1 z3.2.2.2.2.2.2.2.2.2.1 z3.2.2.2.2.2.2.2.2.2.2.1 z3.2.2.2.2.2.2.2.2.2.2.2.1 z3.2.2.2.2.2.2.2.2.2.2.2.2.1 z3.2.2.2.2.2.2.2.2.2.2.2.2.2.1 z3.2.2.2.2.2.2.2.2.2.2.2.2.2.2 _ _ _ hw (lv_sub hl [1, 2, 3, 4, 5, 6, 7, 8, 0] rfl) hf
          · have hf := dk_f c8 hf
            refine lv_iload hx hb dX3_hint_89 (lv_at hl 6 rfl) ?_
            refine lv_if_lt (tgt := 101) hx hb dX3_hint_91 rfl (fun c7 => ?_) (fun c7 => ?_)
            · have hf := dk_t c7 hf
              refine lv_iconst (v := 1) hx hb dX3_hint_101 rfl ?_
              refine lv_goto (tgt := 106) hx hb dX3_hint_102 rfl ?_
              exact L106 (fun y0 y1 y2 y3 y4 y5 y6 y7 y8 y9 y10 y11 y12 y13 y14 y15 y16 => fX3_hint_L59 v1 v2 v3 v4 n y0 y1 y2 y3 y4 y5 y6 y7 y8 y9 y10 y11 y12 y13 y14 y15 y16) ih v5 v6 v7 z3.1 1 z3.2.1 z3.2.2.1 z3.2.2.2.1 z3.2.2.2.2.1 z3.2.2.2.2.2.1 z3.2.2.2.2.2.2.1 z3.2.2.2.2.2.2.2.1 z3.2.2.2.2.2.2.2.2.1 z3.2.2.2.2.2.2.2.2.2.1 z3.2.2.2.2.2.2.2.2.2.2.1 z3.2.2.2.2.2.2.2.2.2.2.2.1 z3.2.2.2.2.2.2.2.2.2.2.2.2.1 z3.2.2.2.2.2.2.2.2.2.2.2.2.2.1 z3.2.2.2.2.2.2.2.2.2.2.2.2.2.2 _ _ _ hw (lv_sub hl [1, 2, 3, 4, 5, 6, 7, 8, 0] rfl) hf
            · have hf := dk_f c7 hf
              refine lv_iload hx hb dX3_hint_94 (lv_at hl 0 rfl) ?_
              refine lv_iload hx hb dX3_hint_96 (lv_at hl 6 rfl) ?_
              refine lv_icmp_gt (tgt := 105) hx hb dX3_hint_98 rfl (fun c6 => ?_) (fun c6 => ?_)
              · have hf := dk_t c6 hf
                refine lv_iconst (v := 0) hx hb dX3_hint_105 rfl ?_
                exact L106 (fun y0 y1 y2 y3 y4 y5 y6 y7 y8 y9 y10 y11 y12 y13 y14 y15 y16 => fX3_hint_L59 v1 v2 v3 v4 n y0 y1 y2 y3 y4 y5 y6 y7 y8 y9 y10 y11 y12 y13 y14 y15 y16) ih v5 v6 v7 z3.1 0 z3.2.1 z3.2.2.1 z3.2.2.2.1 z3.2.2.2.2.1 z3.2.2.2.2.2.1 z3.2.2.2.2.2.2.1 z3.2.2.2.2.2.2.2.1 z3.2.2.2.2.2.2.2.2.1 z3.2.2.2.2.2.2.2.2.2.1 z3.2.2.2.2.2.2.2.2.2.2.1 z3.2.2.2.2.2.2.2.2.2.2.2.1 z3.2.2.2.2.2.2.2.2.2.2.2.2.1 z3.2.2.2.2.2.2.2.2.2.2.2.2.2.1 z3.2.2.2.2.2.2.2.2.2.2.2.2.2.2 _ _ _ hw (lv_sub hl [1, 2, 3, 4, 5, 6, 7, 8, 0] rfl) hf
              · have hf := dk_f c6 hf
                refine lv_iconst (v := 1) hx hb dX3_hint_101 rfl ?_
                refine lv_goto (tgt := 106) hx hb dX3_hint_102 rfl ?_
                exact L106 (fun y0 y1 y2 y3 y4 y5 y6 y7 y8 y9 y10 y11 y12 y13 y14 y15 y16 => fX3_hint_L59 v1 v2 v3 v4 n y0 y1 y2 y3 y4 y5 y6 y7 y8 y9 y10 y11 y12 y13 y14 y15 y16) ih v5 v6 v7 z3.1 1 z3.2.1 z3.2.2.1 z3.2.2.2.1 z3.2.2.2.2.1 z3.2.2.2.2.2.1 z3.2.2.2.2.2.2.1 z3.2.2.2.2.2.2.2.1 z3.2.2.2.2.2.2.2.2.1 z3.2.2.2.2.2.2.2.2.2.1 z3.2.2.2.2.2.2.2.2.2.2.1 z3.2.2.2.2.2.2.2.2.2.2.2.1 z3.2.2.2.2.2.2.2.2.2.2.2.2.1 z3.2.2.2.2.2.2.2.2.2.2.2.2.2.1 z3.2.2.2.2.2.2.2.2.2.2.2.2.2.2 _ _ _ hw (lv_sub hl [1, 2, 3, 4, 5, 6, 7, 8, 0] rfl) hf
  refine lv_iload_n hx hb dX3_hint_0 rfl (lv_at hl 1 rfl) ?_
  refine callSI (rest := []) 0 0 hC hw (st1 _) (metX3_isBall rfl) mi_X3_isBall q586 (rm_ok (by decide) (by decide)) rfl hl.1 rfl (Nat.le_of_ble_eq_true rfl) dX3_hint_1 ⟨Nat.zero_le _, Nat.zero_le _⟩ (st2 _) (fun H locs hw => ?_)
  refine lv_if_eq (tgt := 19) hx hb dX3_hint_4 rfl (fun c15 => ?_) (fun c15 => ?_)
  · have hf := dk_t c15 hf
    refine lv_iconst (v := (-1)) hx hb dX3_hint_19 rfl ?_
    obtain rfl := Option.some.inj hf
    exact ret _ _ _ _ _ dX3_hint_20 rfl rfl hw
  · have hf := dk_f c15 hf
    refine lv_iload_n hx hb dX3_hint_7 rfl (lv_at hl 2 rfl) ?_
    refine callSI (rest := []) 0 0 hC hw (st1 _) (metX3_isBall rfl) mi_X3_isBall q586 (rm_ok (by decide) (by decide)) rfl hl.1 rfl (Nat.le_of_ble_eq_true rfl) dX3_hint_8 ⟨Nat.zero_le _, Nat.zero_le _⟩ (st2 _) (fun H locs hw => ?_)
    refine lv_if_eq (tgt := 19) hx hb dX3_hint_11 rfl (fun c14 => ?_) (fun c14 => ?_)
    · have hf := dk_t c14 hf
      refine lv_iconst (v := (-1)) hx hb dX3_hint_19 rfl ?_
      obtain rfl := Option.some.inj hf
      exact ret _ _ _ _ _ dX3_hint_20 rfl rfl hw
    · have hf := dk_f c14 hf
      refine lv_iload_n hx hb dX3_hint_14 rfl (lv_at hl 1 rfl) ?_
      refine lv_iload_n hx hb dX3_hint_15 rfl (lv_at hl 2 rfl) ?_
      refine lv_icmp_ne (tgt := 21) hx hb dX3_hint_16 rfl (fun c13 => ?_) (fun c13 => ?_)
      · have hf := dk_f c13 hf
        refine lv_iload_n hx hb dX3_hint_21 rfl (lv_at hl 3 rfl) ?_
        refine lv_i2l (v := (v3.toInt64)) hx hb dX3_hint_22 rfl ?_
        refine lv_lconst (v := 0) hx hb dX3_hint_23 rfl ?_
        refine W.ldc2 (v := 4) hx hb hown (hts _ q695) rfl dX3_hint_24 ?_
        refine callSI (rest := []) 0 0 hC hw (st1 _) (metX3_in rfl) mi_X3_in q590 (rm_ok (by decide) (by decide)) rfl hl.1 rfl (Nat.le_of_ble_eq_true rfl) dX3_hint_27 ⟨Nat.zero_le _, Nat.zero_le _⟩ (st2 _) (fun H locs hw => ?_)
        refine lv_if_eq (tgt := 44) hx hb dX3_hint_30 rfl (fun c12 => ?_) (fun c12 => ?_)
        · have hf := dk_t c12 hf
          refine lv_bipush (v := (-2)) hx hb dX3_hint_44 rfl ?_
          obtain rfl := Option.some.inj hf
          exact ret _ _ _ _ _ dX3_hint_46 rfl rfl hw
        · have hf := dk_f c12 hf
          refine lv_iload hx hb dX3_hint_33 (lv_at hl 4 rfl) ?_
          refine lv_i2l (v := (v4.toInt64)) hx hb dX3_hint_35 rfl ?_
          refine lv_lconst (v := 0) hx hb dX3_hint_36 rfl ?_
          refine lv_lconst (v := 1) hx hb dX3_hint_37 rfl ?_
          refine callSI (rest := []) 0 0 hC hw (st1 _) (metX3_in rfl) mi_X3_in q590 (rm_ok (by decide) (by decide)) rfl hl.1 rfl (Nat.le_of_ble_eq_true rfl) dX3_hint_38 ⟨Nat.zero_le _, Nat.zero_le _⟩ (st2 _) (fun H locs hw => ?_)
          refine lv_if_ne (tgt := 47) hx hb dX3_hint_41 rfl (fun c11 => ?_) (fun c11 => ?_)
          · have hf := dk_f c11 hf
            refine lv_bipush (v := (-6)) hx hb dX3_hint_47 rfl ?_
            refine lv_istore (lv' := [(5, .int (-6)), (0, .ref (h 0)), (1, .int v1), (2, .int v2), (3, .int v3), (4, .int v4)]) hx hb dX3_hint_49 hl (by decide) rfl (fun ls hl => ?_)
            refine lv_bipush (v := (-6)) hx hb dX3_hint_51 rfl ?_
            refine lv_istore (lv' := [(6, .int (-6)), (5, .int (-6)), (0, .ref (h 0)), (1, .int v1), (2, .int v2), (3, .int v3), (4, .int v4)]) hx hb dX3_hint_53 hl (by decide) rfl (fun ls hl => ?_)
            refine lv_bipush (v := 7) hx hb dX3_hint_55 rfl ?_
            refine lv_istore (lv' := [(7, .int 7), (6, .int (-6)), (5, .int (-6)), (0, .ref (h 0)), (1, .int v1), (2, .int v2), (3, .int v3), (4, .int v4)]) hx hb dX3_hint_57 hl (by decide) rfl (fun ls hl => ?_)
            exact L59 FU (-6) (-6) 7 m_cell m_points m_fouls m_evening m_moving m_goes m_left m_touches m_cushions m_cushionsThen m_touchedFirst m_stepsThen m_downNow m_had _ _ _ hw (lv_sub hl [3, 4, 5, 6, 7, 2, 1, 0] rfl) hf
          · have hf := dk_t c11 hf
            refine lv_bipush (v := (-2)) hx hb dX3_hint_44 rfl ?_
            obtain rfl := Option.some.inj hf
            exact ret _ _ _ _ _ dX3_hint_46 rfl rfl hw
      · have hf := dk_t c13 hf
        refine lv_iconst (v := (-1)) hx hb dX3_hint_19 rfl ?_
        obtain rfl := Option.some.inj hf
        exact ret _ _ _ _ _ dX3_hint_20 rfl rfl hw
set_option maxHeartbeats 4000000 in
set_option maxRecDepth 100000 in
theorem metX3_metMany {v1 : Int32} {res : Int32 × (Nat → Int32)} (hf : fX3_metMany v1 m_met = some res) : CtI l yX3_metMany cX3_metMany 5 .int 3 D E sz [.ref (h 0), .int v1] (WX3 h E m_cell m_points m_fouls m_evening m_sightStep m_sightCell m_sights m_pad m_padMany m_act m_which m_whither m_hard m_acts m_moving m_goes m_left m_touches m_cushions m_cushionsThen m_touchedFirst m_stepsThen m_downNow m_touchedMany m_cushionMany m_were m_had m_badAct m_badWhy m_foulAct m_met m_far m_fit m_now m_fitMany m_byCell m_wins m_chance m_kept m_isKept m_keptAt m_isWriting) (WX3 h E m_cell m_points m_fouls m_evening m_sightStep m_sightCell m_sights m_pad m_padMany m_act m_which m_whither m_hard m_acts m_moving m_goes m_left m_touches m_cushions m_cushionsThen m_touchedFirst m_stepsThen m_downNow m_touchedMany m_cushionMany m_were m_had m_badAct m_badWhy m_foulAct res.2 m_far m_fit m_now m_fitMany m_byCell m_wins m_chance m_kept m_isKept m_keptAt m_isWriting) res.1 := by
  refine startI (own := RX3) (by decide) rfl (Nat.le_of_ble_eq_true rfl) ?_
  intro p e s m args below meth c A Q ls hC ret hl hw
  have hx := hC.1.1
  have hb := hC.1.2.1
  have hown := hC.1.2.2.2.1
  have hts := hC.1.2.2.2.2
  have hl : lv_has ls 5 [(0, .ref (h 0)), (1, .int v1)] := hl
  have L54 : ∀ (k28c : Int32 → Int32 → Int32 → (Nat → Int32) → Option (Int32 × (Nat → Int32))) (hk28 : ∀ (v2 : Int32) (v3 : Int32) (v4 : Int32) (m_met : Nat → Int32) (H : Heap) (locs : List Loc) (ls : Array Slot), Wo D A s.heap H locs (WX3 h E m_cell m_points m_fouls m_evening m_sightStep m_sightCell m_sights m_pad m_padMany m_act m_which m_whither m_hard m_acts m_moving m_goes m_left m_touches m_cushions m_cushionsThen m_touchedFirst m_stepsThen m_downNow m_touchedMany m_cushionMany m_were m_had m_badAct m_badWhy m_foulAct m_met m_far m_fit m_now m_fitMany m_byCell m_wins m_chance m_kept m_isKept m_keptAt m_isWriting) → lv_has ls 5 [(0, .ref (h 0)), (2, .int v2), (3, .int v3), (4, .int v4)] → k28c v2 v3 v4 m_met = some res → W p l e (rmN 3) s m args below meth c H locs 0 0 Q (F0 m 28 ls [])) (v2 : Int32) (v4 : Int32) (k0 : Int32) (k1 : Int32) (m_met : Nat → Int32) (H : Heap) (locs : List Loc) (ls : Array Slot), Wo D A s.heap H locs (WX3 h E m_cell m_points m_fouls m_evening m_sightStep m_sightCell m_sights m_pad m_padMany m_act m_which m_whither m_hard m_acts m_moving m_goes m_left m_touches m_cushions m_cushionsThen m_touchedFirst m_stepsThen m_downNow m_touchedMany m_cushionMany m_were m_had m_badAct m_badWhy m_foulAct m_met m_far m_fit m_now m_fitMany m_byCell m_wins m_chance m_kept m_isKept m_keptAt m_isWriting) → lv_has ls 5 [(0, .ref (h 0)), (2, .int v2), (4, .int v4)] → fX3_metMany_L54 v1 k28c v2 v4 k0 k1 m_met = some res → W p l e (rmN 3) s m args below meth c H locs 0 0 Q (F0 m 54 ls [.int k1, .int k0]) := by
    intro k28c hk28 v2 v4 k0 k1 m_met H locs ls hw hl hf
    refine lv_iadd hx hb dX3_metMany_54 ?_
    refine lv_istore_n (lv' := [(3, .int (k0 + k1)), (0, .ref (h 0)), (2, .int v2), (4, .int v4)]) hx hb dX3_metMany_55 rfl hl (by decide) rfl (fun ls hl => ?_)
    refine lv_aload_n hx hb dX3_metMany_56 rfl (lv_at hl 1 rfl) ?_
    refine gX3_this_met hC hw dX3_metMany_57 ?_
    refine lv_iload_n hx hb dX3_metMany_60 rfl (lv_at hl 2 rfl) ?_
    refine lv_bipush (v := 10) hx hb dX3_metMany_61 rfl ?_
    refine lv_idiv hx hb dX3_metMany_63 (by decide) ?_
    refine lv_iconst (v := 1) hx hb dX3_metMany_64 rfl ?_
    obtain ⟨b2, hf⟩ := dk_c hf
    refine sX3_m_met hC hw b2 dX3_metMany_65 (fun H locs hw => ?_)
    refine lv_iload_n hx hb dX3_metMany_66 rfl (lv_at hl 2 rfl) ?_
    refine callSI (rest := []) 0 0 hC hw (st1 _) (metX3_next rfl) mi_X3_next q760 (rm_ok (by decide) (by decide)) rfl hl.1 rfl (Nat.le_of_ble_eq_true rfl) dX3_metMany_67 ⟨Nat.zero_le _, Nat.zero_le _⟩ (st2 _) (fun H locs hw => ?_)
    refine lv_istore_n (lv' := [(2, .int (fX3_next v2)), (3, .int (k0 + k1)), (0, .ref (h 0)), (4, .int v4)]) hx hb dX3_metMany_70 rfl hl (by decide) rfl (fun ls hl => ?_)
    refine lv_iinc (v := (v4 + 1)) (lv' := [(4, .int (v4 + 1)), (2, .int (fX3_next v2)), (3, .int (k0 + k1)), (0, .ref (h 0))]) hx hb dX3_metMany_71 hl (k := 3) rfl rfl (by decide) rfl (fun ls hl => ?_)
    refine lv_goto (tgt := 28) hx hb dX3_metMany_74 rfl ?_
    exact hk28 (fX3_next v2) (k0 + k1) (v4 + 1) (upd m_met (v2 / 10).toNatClampNeg (vp_nar .boolean 1)) _ _ _ hw (lv_sub hl [3, 1, 2, 0] rfl) hf
  have L28 : ∀ (n : Nat), ∀ (v2 : Int32) (v3 : Int32) (v4 : Int32) (m_met : Nat → Int32) (H : Heap) (locs : List Loc) (ls : Array Slot), Wo D A s.heap H locs (WX3 h E m_cell m_points m_fouls m_evening m_sightStep m_sightCell m_sights m_pad m_padMany m_act m_which m_whither m_hard m_acts m_moving m_goes m_left m_touches m_cushions m_cushionsThen m_touchedFirst m_stepsThen m_downNow m_touchedMany m_cushionMany m_were m_had m_badAct m_badWhy m_foulAct m_met m_far m_fit m_now m_fitMany m_byCell m_wins m_chance m_kept m_isKept m_keptAt m_isWriting) → lv_has ls 5 [(0, .ref (h 0)), (2, .int v2), (3, .int v3), (4, .int v4)] → fX3_metMany_L28 v1  n v2 v3 v4 m_met = some res → W p l e (rmN 3) s m args below meth c H locs 0 0 Q (F0 m 28 ls []) := by
    intro  n
    induction n with
    | zero =>
      intro v2 v3 v4 m_met H locs ls hw hl hf
      exact dk_n hf
    | succ n ih =>
      intro v2 v3 v4 m_met H locs ls hw hl hf
      refine lv_iload hx hb dX3_metMany_28 (lv_at hl 3 rfl) ?_
      refine lv_sipush (v := 400) hx hb dX3_metMany_30 rfl ?_
      refine lv_icmp_ge (tgt := 77) hx hb dX3_metMany_33 rfl (fun c4 => ?_) (fun c4 => ?_)
      · have hf := dk_t c4 hf
        refine lv_iload_n hx hb dX3_metMany_77 rfl (lv_at hl 2 rfl) ?_
        obtain rfl := Option.some.inj hf
        exact ret _ _ _ _ _ dX3_metMany_78 rfl rfl hw
      · have hf := dk_f c4 hf
        refine lv_iload_n hx hb dX3_metMany_36 rfl (lv_at hl 2 rfl) ?_
        refine lv_aload_n hx hb dX3_metMany_37 rfl (lv_at hl 0 rfl) ?_
        refine gX3_this_met hC hw dX3_metMany_38 ?_
        refine lv_iload_n hx hb dX3_metMany_41 rfl (lv_at hl 1 rfl) ?_
        refine lv_bipush (v := 10) hx hb dX3_metMany_42 rfl ?_
        refine lv_idiv hx hb dX3_metMany_44 (by decide) ?_
        obtain ⟨b1, hf⟩ := dk_c hf
        refine aX3_m_met hC hw b1 dX3_metMany_45 ?_
        refine lv_if_eq (tgt := 53) hx hb dX3_metMany_46 rfl (fun c3 => ?_) (fun c3 => ?_)
        · have hf := dk_t c3 hf
          refine lv_iconst (v := 1) hx hb dX3_metMany_53 rfl ?_
          exact L54 (fun y0 y1 y2 y3 => fX3_metMany_L28 v1 n y0 y1 y2 y3) ih v2 v4 v3 1 m_met _ _ _ hw (lv_sub hl [0, 1, 3] rfl) hf
        · have hf := dk_f c3 hf
          refine lv_iconst (v := 0) hx hb dX3_metMany_49 rfl ?_
          refine lv_goto (tgt := 54) hx hb dX3_metMany_50 rfl ?_
          exact L54 (fun y0 y1 y2 y3 => fX3_metMany_L28 v1 n y0 y1 y2 y3) ih v2 v4 v3 0 m_met _ _ _ hw (lv_sub hl [0, 1, 3] rfl) hf
  have L2 : ∀ (n : Nat), ∀ (v2 : Int32) (m_met : Nat → Int32) (H : Heap) (locs : List Loc) (ls : Array Slot), Wo D A s.heap H locs (WX3 h E m_cell m_points m_fouls m_evening m_sightStep m_sightCell m_sights m_pad m_padMany m_act m_which m_whither m_hard m_acts m_moving m_goes m_left m_touches m_cushions m_cushionsThen m_touchedFirst m_stepsThen m_downNow m_touchedMany m_cushionMany m_were m_had m_badAct m_badWhy m_foulAct m_met m_far m_fit m_now m_fitMany m_byCell m_wins m_chance m_kept m_isKept m_keptAt m_isWriting) → lv_has ls 5 [(0, .ref (h 0)), (1, .int v1), (2, .int v2)] → fX3_metMany_L2 v1  n v2 m_met = some res → W p l e (rmN 3) s m args below meth c H locs 0 0 Q (F0 m 2 ls []) := by
    intro  n
    induction n with
    | zero =>
      intro v2 m_met H locs ls hw hl hf
      exact dk_n hf
    | succ n ih =>
      intro v2 m_met H locs ls hw hl hf
      refine lv_iload_n hx hb dX3_metMany_2 rfl (lv_at hl 2 rfl) ?_
      refine lv_bipush (v := 45) hx hb dX3_metMany_3 rfl ?_
      refine lv_icmp_ge (tgt := 21) hx hb dX3_metMany_5 rfl (fun c6 => ?_) (fun c6 => ?_)
      · have hf := dk_t c6 hf
        refine lv_iload_n hx hb dX3_metMany_21 rfl (lv_at hl 1 rfl) ?_
        refine lv_istore_n (lv' := [(2, .int v1), (0, .ref (h 0)), (1, .int v1)]) hx hb dX3_metMany_22 rfl hl (by decide) rfl (fun ls hl => ?_)
        refine lv_iconst (v := 0) hx hb dX3_metMany_23 rfl ?_
        refine lv_istore_n (lv' := [(3, .int 0), (2, .int v1), (0, .ref (h 0)), (1, .int v1)]) hx hb dX3_metMany_24 rfl hl (by decide) rfl (fun ls hl => ?_)
        refine lv_iconst (v := 0) hx hb dX3_metMany_25 rfl ?_
        refine lv_istore (lv' := [(4, .int 0), (3, .int 0), (2, .int v1), (0, .ref (h 0)), (1, .int v1)]) hx hb dX3_metMany_26 hl (by decide) rfl (fun ls hl => ?_)
        exact L28 FU v1 0 0 m_met _ _ _ hw (lv_sub hl [3, 2, 1, 0] rfl) hf
      · have hf := dk_f c6 hf
        refine lv_aload_n hx hb dX3_metMany_8 rfl (lv_at hl 0 rfl) ?_
        refine gX3_this_met hC hw dX3_metMany_9 ?_
        refine lv_iload_n hx hb dX3_metMany_12 rfl (lv_at hl 2 rfl) ?_
        refine lv_iconst (v := 0) hx hb dX3_metMany_13 rfl ?_
        obtain ⟨b5, hf⟩ := dk_c hf
        refine sX3_m_met hC hw b5 dX3_metMany_14 (fun H locs hw => ?_)
        refine lv_iinc (v := (v2 + 1)) (lv' := [(2, .int (v2 + 1)), (0, .ref (h 0)), (1, .int v1)]) hx hb dX3_metMany_15 hl (k := 2) rfl rfl (by decide) rfl (fun ls hl => ?_)
        refine lv_goto (tgt := 2) hx hb dX3_metMany_18 rfl ?_
        exact ih (v2 + 1) (upd m_met v2.toNatClampNeg (vp_nar .boolean 0)) _ _ _ hw (lv_sub hl [1, 2, 0] rfl) hf
  refine lv_iconst (v := 0) hx hb dX3_metMany_0 rfl ?_
  refine lv_istore_n (lv' := [(2, .int 0), (0, .ref (h 0)), (1, .int v1)]) hx hb dX3_metMany_1 rfl hl (by decide) rfl (fun ls hl => ?_)
  exact L2 FU 0 m_met _ _ _ hw (lv_sub hl [1, 2, 0] rfl) hf
set_option maxHeartbeats 4000000 in
set_option maxRecDepth 100000 in
theorem metX3_alone {v1 : Int32} {v2 : Int32} {v3 : Int32} {v4 : Int32} {res : Int32 × (Nat → Int32)} (hf : fX3_alone v1 v2 v3 v4 m_met = some res) : CtI l yX3_alone cX3_alone 6 .int 4 D E sz [.ref (h 0), .int v1, .int v2, .int v3, .int v4] (WX3 h E m_cell m_points m_fouls m_evening m_sightStep m_sightCell m_sights m_pad m_padMany m_act m_which m_whither m_hard m_acts m_moving m_goes m_left m_touches m_cushions m_cushionsThen m_touchedFirst m_stepsThen m_downNow m_touchedMany m_cushionMany m_were m_had m_badAct m_badWhy m_foulAct m_met m_far m_fit m_now m_fitMany m_byCell m_wins m_chance m_kept m_isKept m_keptAt m_isWriting) (WX3 h E m_cell m_points m_fouls m_evening m_sightStep m_sightCell m_sights m_pad m_padMany m_act m_which m_whither m_hard m_acts m_moving m_goes m_left m_touches m_cushions m_cushionsThen m_touchedFirst m_stepsThen m_downNow m_touchedMany m_cushionMany m_were m_had m_badAct m_badWhy m_foulAct res.2 m_far m_fit m_now m_fitMany m_byCell m_wins m_chance m_kept m_isKept m_keptAt m_isWriting) res.1 := by
  refine startI (own := RX3) (by decide) rfl (Nat.le_of_ble_eq_true rfl) ?_
  intro p e s m args below meth c A Q ls hC ret hl hw
  have hx := hC.1.1
  have hb := hC.1.2.1
  have hown := hC.1.2.2.2.1
  have hts := hC.1.2.2.2.2
  have hl : lv_has ls 6 [(0, .ref (h 0)), (1, .int v1), (2, .int v2), (3, .int v3), (4, .int v4)] := hl
  refine lv_iload_n hx hb dX3_alone_0 rfl (lv_at hl 1 rfl) ?_
  refine callSI (rest := []) 0 0 hC hw (st1 _) (metX3_isPlace rfl) mi_X3_isPlace q593 (rm_ok (by decide) (by decide)) rfl hl.1 rfl (Nat.le_of_ble_eq_true rfl) dX3_alone_1 ⟨Nat.zero_le _, Nat.zero_le _⟩ (st2 _) (fun H locs hw => ?_)
  refine lv_if_ne (tgt := 9) hx hb dX3_alone_4 rfl (fun c9 => ?_) (fun c9 => ?_)
  · have hf := dk_f c9 hf
    refine lv_iload_n hx hb dX3_alone_9 rfl (lv_at hl 2 rfl) ?_
    refine lv_i2l (v := (v2.toInt64)) hx hb dX3_alone_10 rfl ?_
    refine lv_lconst (v := 0) hx hb dX3_alone_11 rfl ?_
    refine W.ldc2 (v := 7) hx hb hown (hts _ q755) rfl dX3_alone_12 ?_
    refine callSI (rest := []) 0 0 hC hw (st1 _) (metX3_in rfl) mi_X3_in q590 (rm_ok (by decide) (by decide)) rfl hl.1 rfl (Nat.le_of_ble_eq_true rfl) dX3_alone_15 ⟨Nat.zero_le _, Nat.zero_le _⟩ (st2 _) (fun H locs hw => ?_)
    refine lv_if_eq (tgt := 46) hx hb dX3_alone_18 rfl (fun c8 => ?_) (fun c8 => ?_)
    · have hf := dk_t c8 hf
      refine lv_bipush (v := (-2)) hx hb dX3_alone_46 rfl ?_
      obtain rfl := Option.some.inj hf
      exact ret _ _ _ _ _ dX3_alone_48 rfl rfl hw
    · have hf := dk_f c8 hf
      refine lv_iload_n hx hb dX3_alone_21 rfl (lv_at hl 3 rfl) ?_
      refine lv_i2l (v := (v3.toInt64)) hx hb dX3_alone_22 rfl ?_
      refine lv_lconst (v := 0) hx hb dX3_alone_23 rfl ?_
      refine W.ldc2 (v := 99999) hx hb hown (hts _ q756) rfl dX3_alone_24 ?_
      refine callSI (rest := []) 0 0 hC hw (st1 _) (metX3_in rfl) mi_X3_in q590 (rm_ok (by decide) (by decide)) rfl hl.1 rfl (Nat.le_of_ble_eq_true rfl) dX3_alone_27 ⟨Nat.zero_le _, Nat.zero_le _⟩ (st2 _) (fun H locs hw => ?_)
      refine lv_if_eq (tgt := 46) hx hb dX3_alone_30 rfl (fun c7 => ?_) (fun c7 => ?_)
      · have hf := dk_t c7 hf
        refine lv_bipush (v := (-2)) hx hb dX3_alone_46 rfl ?_
        obtain rfl := Option.some.inj hf
        exact ret _ _ _ _ _ dX3_alone_48 rfl rfl hw
      · have hf := dk_f c7 hf
        refine lv_iload hx hb dX3_alone_33 (lv_at hl 4 rfl) ?_
        refine lv_i2l (v := (v4.toInt64)) hx hb dX3_alone_35 rfl ?_
        refine lv_lconst (v := 0) hx hb dX3_alone_36 rfl ?_
        refine W.ldc2 (v := 2) hx hb hown (hts _ q589) rfl dX3_alone_37 ?_
        refine callSI (rest := []) 0 0 hC hw (st1 _) (metX3_in rfl) mi_X3_in q590 (rm_ok (by decide) (by decide)) rfl hl.1 rfl (Nat.le_of_ble_eq_true rfl) dX3_alone_40 ⟨Nat.zero_le _, Nat.zero_le _⟩ (st2 _) (fun H locs hw => ?_)
        refine lv_if_ne (tgt := 49) hx hb dX3_alone_43 rfl (fun c6 => ?_) (fun c6 => ?_)
        · have hf := dk_f c6 hf
          refine lv_bipush (v := 10) hx hb dX3_alone_49 rfl ?_
          refine lv_iload_n hx hb dX3_alone_51 rfl (lv_at hl 1 rfl) ?_
          refine lv_imul hx hb dX3_alone_52 ?_
          refine lv_iload_n hx hb dX3_alone_53 rfl (lv_at hl 2 rfl) ?_
          refine lv_iadd hx hb dX3_alone_54 ?_
          refine lv_istore (lv' := [(5, .int (((10 : Int32) * v1) + v2)), (0, .ref (h 0)), (1, .int v1), (2, .int v2), (3, .int v3), (4, .int v4)]) hx hb dX3_alone_55 hl (by decide) rfl (fun ls hl => ?_)
          refine lv_iload hx hb dX3_alone_57 (lv_at hl 5 rfl) ?_
          refine lv_if_ne (tgt := 74) hx hb dX3_alone_59 rfl (fun c5 => ?_) (fun c5 => ?_)
          · have hf := dk_f c5 hf
            refine lv_iload hx hb dX3_alone_74 (lv_at hl 5 rfl) ?_
            refine lv_iconst (v := 1) hx hb dX3_alone_76 rfl ?_
            refine lv_icmp_ne (tgt := 88) hx hb dX3_alone_77 rfl (fun c3 => ?_) (fun c3 => ?_)
            · have hf := dk_f c3 hf
              refine lv_aload_n hx hb dX3_alone_88 rfl (lv_at hl 1 rfl) ?_
              refine lv_iload hx hb dX3_alone_89 (lv_at hl 0 rfl) ?_
              obtain ⟨z1, hz1, hf⟩ := dk_b hf
              refine callVI (rest := []) 0 _ 3 hC hw (sm1 _) (metX3_metMany hz1) mi_X3_metMany q766 (rm_ok (by decide) (by decide)) rfl rfl rfl hl.1 rfl (Nat.le_of_ble_eq_true rfl) dX3_alone_91 ⟨Nat.zero_le _, Nat.zero_le _⟩ (sm2 _ _) (fun H locs hw => ?_)
              obtain rfl := Option.some.inj hf
              exact ret _ _ _ _ _ dX3_alone_94 rfl rfl hw
            · have hf := dk_t c3 hf
              refine lv_iload hx hb dX3_alone_80 (lv_at hl 0 rfl) ?_
              obtain ⟨z2, hz2, hf⟩ := dk_b hf
              refine callSI (rest := []) 0 0 hC hw (st1 _) (metX3_stepsBack hz2) mi_X3_stepsBack q763 (rm_ok (by decide) (by decide)) rfl hl.1 rfl (Nat.le_of_ble_eq_true rfl) dX3_alone_82 ⟨Nat.zero_le _, Nat.zero_le _⟩ (st2 _) (fun H locs hw => ?_)
              refine lv_goto (tgt := 94) hx hb dX3_alone_85 rfl ?_
              obtain rfl := Option.some.inj hf
              exact ret _ _ _ _ _ dX3_alone_94 rfl rfl hw
          · have hf := dk_t c5 hf
            refine lv_iload hx hb dX3_alone_62 (lv_at hl 0 rfl) ?_
            refine lv_iload_n hx hb dX3_alone_64 rfl (lv_at hl 4 rfl) ?_
            obtain ⟨z4, hz4, hf⟩ := dk_b hf
            refine callSI (rest := []) 0 0 hC hw (st1 _) (metX3_behindSteps hz4) mi_X3_behindSteps q757 (rm_ok (by decide) (by decide)) rfl hl.1 rfl (Nat.le_of_ble_eq_true rfl) dX3_alone_65 ⟨Nat.zero_le _, Nat.zero_le _⟩ (st2 _) (fun H locs hw => ?_)
            refine lv_bipush (v := 10) hx hb dX3_alone_68 rfl ?_
            refine lv_idiv hx hb dX3_alone_70 (by decide) ?_
            refine lv_goto (tgt := 94) hx hb dX3_alone_71 rfl ?_
            obtain rfl := Option.some.inj hf
            exact ret _ _ _ _ _ dX3_alone_94 rfl rfl hw
        · have hf := dk_t c6 hf
          refine lv_bipush (v := (-2)) hx hb dX3_alone_46 rfl ?_
          obtain rfl := Option.some.inj hf
          exact ret _ _ _ _ _ dX3_alone_48 rfl rfl hw
  · have hf := dk_t c9 hf
    refine lv_iconst (v := (-1)) hx hb dX3_alone_7 rfl ?_
    obtain rfl := Option.some.inj hf
    exact ret _ _ _ _ _ dX3_alone_8 rfl rfl hw
set_option maxHeartbeats 4000000 in
set_option maxRecDepth 100000 in
theorem metX3_leadsTo {v1 : Int32} {v2 : Int32} {v3 : Int32} {res : Int32} (hf : fX3_leadsTo v1 v2 v3 m_far = some res) : CtI l yX3_leadsTo cX3_leadsTo 8 .boolean 3 D E sz [.ref (h 0), .int v1, .int v2, .int v3] (WX3 h E m_cell m_points m_fouls m_evening m_sightStep m_sightCell m_sights m_pad m_padMany m_act m_which m_whither m_hard m_acts m_moving m_goes m_left m_touches m_cushions m_cushionsThen m_touchedFirst m_stepsThen m_downNow m_touchedMany m_cushionMany m_were m_had m_badAct m_badWhy m_foulAct m_met m_far m_fit m_now m_fitMany m_byCell m_wins m_chance m_kept m_isKept m_keptAt m_isWriting) (WX3 h E m_cell m_points m_fouls m_evening m_sightStep m_sightCell m_sights m_pad m_padMany m_act m_which m_whither m_hard m_acts m_moving m_goes m_left m_touches m_cushions m_cushionsThen m_touchedFirst m_stepsThen m_downNow m_touchedMany m_cushionMany m_were m_had m_badAct m_badWhy m_foulAct m_met m_far m_fit m_now m_fitMany m_byCell m_wins m_chance m_kept m_isKept m_keptAt m_isWriting) res := by
  refine startI (own := RX3) (by decide) rfl (Nat.le_of_ble_eq_true rfl) ?_
  intro p e s m args below meth c A Q ls hC ret hl hw
  have hx := hC.1.1
  have hb := hC.1.2.1
  have hown := hC.1.2.2.2.1
  have hts := hC.1.2.2.2.2
  have hl : lv_has ls 8 [(0, .ref (h 0)), (1, .int v1), (2, .int v2), (3, .int v3)] := hl
  have L17 : ∀ (n : Nat), ∀ (v4 : Int32) (v5 : Int32) (v6 : Int32) (v7 : Int32) (H : Heap) (locs : List Loc) (ls : Array Slot), Wo D A s.heap H locs (WX3 h E m_cell m_points m_fouls m_evening m_sightStep m_sightCell m_sights m_pad m_padMany m_act m_which m_whither m_hard m_acts m_moving m_goes m_left m_touches m_cushions m_cushionsThen m_touchedFirst m_stepsThen m_downNow m_touchedMany m_cushionMany m_were m_had m_badAct m_badWhy m_foulAct m_met m_far m_fit m_now m_fitMany m_byCell m_wins m_chance m_kept m_isKept m_keptAt m_isWriting) → lv_has ls 8 [(0, .ref (h 0)), (3, .int v3), (4, .int v4), (5, .int v5), (6, .int v6), (7, .int v7)] → fX3_leadsTo_L17 v1 v2 v3 m_far  n v4 v5 v6 v7 = some res → W p l e (rmN 3) s m args below meth c H locs 0 0 Q (F0 m 17 ls []) := by
    intro  n
    induction n with
    | zero =>
      intro v4 v5 v6 v7 H locs ls hw hl hf
      exact dk_n hf
    | succ n ih =>
      intro v4 v5 v6 v7 H locs ls hw hl hf
      refine lv_iload hx hb dX3_leadsTo_17 (lv_at hl 5 rfl) ?_
      refine lv_bipush (v := 9) hx hb dX3_leadsTo_19 rfl ?_
      refine lv_icmp_gt (tgt := 83) hx hb dX3_leadsTo_21 rfl (fun c8 => ?_) (fun c8 => ?_)
      · have hf := dk_t c8 hf
        refine lv_iload hx hb dX3_leadsTo_83 (lv_at hl 3 rfl) ?_
        obtain ⟨b1, hf⟩ := dk_c hf
        exact ret _ _ _ _ _ dX3_leadsTo_85 (nar01 b1) (Option.some.inj hf) hw
      · have hf := dk_f c8 hf
        refine lv_iload hx hb dX3_leadsTo_24 (lv_at hl 4 rfl) ?_
        refine lv_if_ne (tgt := 83) hx hb dX3_leadsTo_26 rfl (fun c7 => ?_) (fun c7 => ?_)
        · have hf := dk_f c7 hf
          refine lv_iload hx hb dX3_leadsTo_83 (lv_at hl 3 rfl) ?_
          obtain ⟨b2, hf⟩ := dk_c hf
          exact ret _ _ _ _ _ dX3_leadsTo_85 (nar01 b2) (Option.some.inj hf) hw
        · have hf := dk_t c7 hf
          refine lv_iload hx hb dX3_leadsTo_29 (lv_at hl 2 rfl) ?_
          refine callSI (rest := []) 0 0 hC hw (st1 _) (metX3_next rfl) mi_X3_next q760 (rm_ok (by decide) (by decide)) rfl hl.1 rfl (Nat.le_of_ble_eq_true rfl) dX3_leadsTo_31 ⟨Nat.zero_le _, Nat.zero_le _⟩ (st2 _) (fun H locs hw => ?_)
          refine lv_istore (lv' := [(4, .int (fX3_next v4)), (0, .ref (h 0)), (3, .int v3), (5, .int v5), (6, .int v6), (7, .int v7)]) hx hb dX3_leadsTo_34 hl (by decide) rfl (fun ls hl => ?_)
          refine lv_iload hx hb dX3_leadsTo_36 (lv_at hl 0 rfl) ?_
          refine lv_bipush (v := 10) hx hb dX3_leadsTo_38 rfl ?_
          refine lv_idiv hx hb dX3_leadsTo_40 (by decide) ?_
          refine callSI (rest := []) 0 0 hC hw (st1 _) (metX3_isPocket rfl) mi_X3_isPocket q600 (rm_ok (by decide) (by decide)) rfl hl.1 rfl (Nat.le_of_ble_eq_true rfl) dX3_leadsTo_41 ⟨Nat.zero_le _, Nat.zero_le _⟩ (st2 _) (fun H locs hw => ?_)
          refine lv_istore (lv' := [(6, .int (fX3_isPocket ((fX3_next v4) / 10))), (4, .int (fX3_next v4)), (0, .ref (h 0)), (3, .int v3), (5, .int v5), (7, .int v7)]) hx hb dX3_leadsTo_44 hl (by decide) rfl (fun ls hl => ?_)
          refine lv_iload hx hb dX3_leadsTo_46 (lv_at hl 4 rfl) ?_
          refine lv_if_ne (tgt := 70) hx hb dX3_leadsTo_48 rfl (fun c6 => ?_) (fun c6 => ?_)
          · have hf := dk_f c6 hf
            refine lv_iconst (v := 1) hx hb dX3_leadsTo_70 rfl ?_
            refine lv_goto (tgt := 75) hx hb dX3_leadsTo_71 rfl ?_
            refine lv_istore (lv' := [(5, .int 1), (6, .int (fX3_isPocket ((fX3_next v4) / 10))), (4, .int (fX3_next v4)), (0, .ref (h 0)), (3, .int v3), (7, .int v7)]) hx hb dX3_leadsTo_75 hl (by decide) rfl (fun ls hl => ?_)
            refine lv_iinc (v := (v7 + 1)) (lv' := [(7, .int (v7 + 1)), (5, .int 1), (6, .int (fX3_isPocket ((fX3_next v4) / 10))), (4, .int (fX3_next v4)), (0, .ref (h 0)), (3, .int v3)]) hx hb dX3_leadsTo_77 hl (k := 5) rfl rfl (by decide) rfl (fun ls hl => ?_)
            refine lv_goto (tgt := 17) hx hb dX3_leadsTo_80 rfl ?_
            exact ih (fX3_next v4) 1 (fX3_isPocket ((fX3_next v4) / 10)) (v7 + 1) _ _ _ hw (lv_sub hl [4, 5, 3, 1, 2, 0] rfl) hf
          · have hf := dk_t c6 hf
            refine lv_iload hx hb dX3_leadsTo_51 (lv_at hl 0 rfl) ?_
            refine lv_if_ne (tgt := 74) hx hb dX3_leadsTo_53 rfl (fun c5 => ?_) (fun c5 => ?_)
            · have hf := dk_f c5 hf
              refine lv_iconst (v := 0) hx hb dX3_leadsTo_74 rfl ?_
              refine lv_istore (lv' := [(5, .int 0), (6, .int (fX3_isPocket ((fX3_next v4) / 10))), (4, .int (fX3_next v4)), (0, .ref (h 0)), (3, .int v3), (7, .int v7)]) hx hb dX3_leadsTo_75 hl (by decide) rfl (fun ls hl => ?_)
              refine lv_iinc (v := (v7 + 1)) (lv' := [(7, .int (v7 + 1)), (5, .int 0), (6, .int (fX3_isPocket ((fX3_next v4) / 10))), (4, .int (fX3_next v4)), (0, .ref (h 0)), (3, .int v3)]) hx hb dX3_leadsTo_77 hl (k := 5) rfl rfl (by decide) rfl (fun ls hl => ?_)
              refine lv_goto (tgt := 17) hx hb dX3_leadsTo_80 rfl ?_
              exact ih (fX3_next v4) 0 (fX3_isPocket ((fX3_next v4) / 10)) (v7 + 1) _ _ _ hw (lv_sub hl [4, 5, 3, 1, 2, 0] rfl) hf
            · have hf := dk_t c5 hf
              refine lv_aload_n hx hb dX3_leadsTo_56 rfl (lv_at hl 2 rfl) ?_
              refine gX3_this_far hC hw dX3_leadsTo_57 ?_
              refine lv_iload hx hb dX3_leadsTo_60 (lv_at hl 1 rfl) ?_
              refine lv_bipush (v := 10) hx hb dX3_leadsTo_62 rfl ?_
              refine lv_idiv hx hb dX3_leadsTo_64 (by decide) ?_
              obtain ⟨b3, hf⟩ := dk_c hf
              refine aX3_m_far hC hw b3 dX3_leadsTo_65 ?_
              refine lv_iload_n hx hb dX3_leadsTo_66 rfl (lv_at hl 3 rfl) ?_
              refine lv_icmp_ne (tgt := 74) hx hb dX3_leadsTo_67 rfl (fun c4 => ?_) (fun c4 => ?_)
              · have hf := dk_f c4 hf
                refine lv_iconst (v := 0) hx hb dX3_leadsTo_74 rfl ?_
                refine lv_istore (lv' := [(5, .int 0), (6, .int (fX3_isPocket ((fX3_next v4) / 10))), (4, .int (fX3_next v4)), (0, .ref (h 0)), (3, .int v3), (7, .int v7)]) hx hb dX3_leadsTo_75 hl (by decide) rfl (fun ls hl => ?_)
                refine lv_iinc (v := (v7 + 1)) (lv' := [(7, .int (v7 + 1)), (5, .int 0), (6, .int (fX3_isPocket ((fX3_next v4) / 10))), (4, .int (fX3_next v4)), (0, .ref (h 0)), (3, .int v3)]) hx hb dX3_leadsTo_77 hl (k := 5) rfl rfl (by decide) rfl (fun ls hl => ?_)
                refine lv_goto (tgt := 17) hx hb dX3_leadsTo_80 rfl ?_
                exact ih (fX3_next v4) 0 (fX3_isPocket ((fX3_next v4) / 10)) (v7 + 1) _ _ _ hw (lv_sub hl [4, 5, 3, 1, 2, 0] rfl) hf
              · have hf := dk_t c4 hf
                refine lv_iconst (v := 1) hx hb dX3_leadsTo_70 rfl ?_
                refine lv_goto (tgt := 75) hx hb dX3_leadsTo_71 rfl ?_
                refine lv_istore (lv' := [(5, .int 1), (6, .int (fX3_isPocket ((fX3_next v4) / 10))), (4, .int (fX3_next v4)), (0, .ref (h 0)), (3, .int v3), (7, .int v7)]) hx hb dX3_leadsTo_75 hl (by decide) rfl (fun ls hl => ?_)
                refine lv_iinc (v := (v7 + 1)) (lv' := [(7, .int (v7 + 1)), (5, .int 1), (6, .int (fX3_isPocket ((fX3_next v4) / 10))), (4, .int (fX3_next v4)), (0, .ref (h 0)), (3, .int v3)]) hx hb dX3_leadsTo_77 hl (k := 5) rfl rfl (by decide) rfl (fun ls hl => ?_)
                refine lv_goto (tgt := 17) hx hb dX3_leadsTo_80 rfl ?_
                exact ih (fX3_next v4) 1 (fX3_isPocket ((fX3_next v4) / 10)) (v7 + 1) _ _ _ hw (lv_sub hl [4, 5, 3, 1, 2, 0] rfl) hf
  refine lv_bipush (v := 10) hx hb dX3_leadsTo_0 rfl ?_
  refine lv_iload_n hx hb dX3_leadsTo_2 rfl (lv_at hl 1 rfl) ?_
  refine lv_imul hx hb dX3_leadsTo_3 ?_
  refine lv_iload_n hx hb dX3_leadsTo_4 rfl (lv_at hl 2 rfl) ?_
  refine lv_iadd hx hb dX3_leadsTo_5 ?_
  refine lv_istore (lv' := [(4, .int (((10 : Int32) * v1) + v2)), (0, .ref (h 0)), (1, .int v1), (2, .int v2), (3, .int v3)]) hx hb dX3_leadsTo_6 hl (by decide) rfl (fun ls hl => ?_)
  refine lv_iconst (v := 0) hx hb dX3_leadsTo_8 rfl ?_
  refine lv_istore (lv' := [(5, .int 0), (4, .int (((10 : Int32) * v1) + v2)), (0, .ref (h 0)), (1, .int v1), (2, .int v2), (3, .int v3)]) hx hb dX3_leadsTo_9 hl (by decide) rfl (fun ls hl => ?_)
  refine lv_iconst (v := 0) hx hb dX3_leadsTo_11 rfl ?_
  refine lv_istore (lv' := [(6, .int 0), (5, .int 0), (4, .int (((10 : Int32) * v1) + v2)), (0, .ref (h 0)), (1, .int v1), (2, .int v2), (3, .int v3)]) hx hb dX3_leadsTo_12 hl (by decide) rfl (fun ls hl => ?_)
  refine lv_iconst (v := 1) hx hb dX3_leadsTo_14 rfl ?_
  refine lv_istore (lv' := [(7, .int 1), (6, .int 0), (5, .int 0), (4, .int (((10 : Int32) * v1) + v2)), (0, .ref (h 0)), (1, .int v1), (2, .int v2), (3, .int v3)]) hx hb dX3_leadsTo_15 hl (by decide) rfl (fun ls hl => ?_)
  exact L17 FU (((10 : Int32) * v1) + v2) 0 0 1 _ _ _ hw (lv_sub hl [4, 7, 3, 2, 1, 0] rfl) hf
set_option maxHeartbeats 4000000 in
set_option maxRecDepth 100000 in
theorem metX3_wayTo {v1 : Int32} {v2 : Int32} {res : Int32} (hf : fX3_wayTo v1 v2 m_far = some res) : CtI l yX3_wayTo cX3_wayTo 5 .int 4 D E sz [.ref (h 0), .int v1, .int v2] (WX3 h E m_cell m_points m_fouls m_evening m_sightStep m_sightCell m_sights m_pad m_padMany m_act m_which m_whither m_hard m_acts m_moving m_goes m_left m_touches m_cushions m_cushionsThen m_touchedFirst m_stepsThen m_downNow m_touchedMany m_cushionMany m_were m_had m_badAct m_badWhy m_foulAct m_met m_far m_fit m_now m_fitMany m_byCell m_wins m_chance m_kept m_isKept m_keptAt m_isWriting) (WX3 h E m_cell m_points m_fouls m_evening m_sightStep m_sightCell m_sights m_pad m_padMany m_act m_which m_whither m_hard m_acts m_moving m_goes m_left m_touches m_cushions m_cushionsThen m_touchedFirst m_stepsThen m_downNow m_touchedMany m_cushionMany m_were m_had m_badAct m_badWhy m_foulAct m_met m_far m_fit m_now m_fitMany m_byCell m_wins m_chance m_kept m_isKept m_keptAt m_isWriting) res := by
  refine startI (own := RX3) (by decide) rfl (Nat.le_of_ble_eq_true rfl) ?_
  intro p e s m args below meth c A Q ls hC ret hl hw
  have hx := hC.1.1
  have hb := hC.1.2.1
  have hown := hC.1.2.2.2.1
  have hts := hC.1.2.2.2.2
  have hl : lv_has ls 5 [(0, .ref (h 0)), (1, .int v1), (2, .int v2)] := hl
  have L7 : ∀ (n : Nat), ∀ (v3 : Int32) (v4 : Int32) (H : Heap) (locs : List Loc) (ls : Array Slot), Wo D A s.heap H locs (WX3 h E m_cell m_points m_fouls m_evening m_sightStep m_sightCell m_sights m_pad m_padMany m_act m_which m_whither m_hard m_acts m_moving m_goes m_left m_touches m_cushions m_cushionsThen m_touchedFirst m_stepsThen m_downNow m_touchedMany m_cushionMany m_were m_had m_badAct m_badWhy m_foulAct m_met m_far m_fit m_now m_fitMany m_byCell m_wins m_chance m_kept m_isKept m_keptAt m_isWriting) → lv_has ls 5 [(0, .ref (h 0)), (1, .int v1), (2, .int v2), (3, .int v3), (4, .int v4)] → fX3_wayTo_L7 v1 v2 m_far  n v3 v4 = some res → W p l e (rmN 4) s m args below meth c H locs 0 0 Q (F0 m 7 ls []) := by
    intro  n
    induction n with
    | zero =>
      intro v3 v4 H locs ls hw hl hf
      exact dk_n hf
    | succ n ih =>
      intro v3 v4 H locs ls hw hl hf
      refine lv_iload hx hb dX3_wayTo_7 (lv_at hl 4 rfl) ?_
      refine lv_if_lt (tgt := 36) hx hb dX3_wayTo_9 rfl (fun c3 => ?_) (fun c3 => ?_)
      · have hf := dk_t c3 hf
        refine lv_iload_n hx hb dX3_wayTo_36 rfl (lv_at hl 3 rfl) ?_
        exact ret _ _ _ _ _ dX3_wayTo_37 rfl (Option.some.inj hf) hw
      · have hf := dk_f c3 hf
        refine lv_aload_n hx hb dX3_wayTo_12 rfl (lv_at hl 0 rfl) ?_
        refine lv_iload_n hx hb dX3_wayTo_13 rfl (lv_at hl 1 rfl) ?_
        refine lv_iload hx hb dX3_wayTo_14 (lv_at hl 4 rfl) ?_
        refine lv_iload_n hx hb dX3_wayTo_16 rfl (lv_at hl 2 rfl) ?_
        obtain ⟨z1, hz1, hf⟩ := dk_b hf
        refine callVI (rest := []) 0 _ 3 hC hw (sm1 _) (metX3_leadsTo hz1) mi_X3_leadsTo q782 (rm_ok (by decide) (by decide)) rfl rfl rfl hl.1 rfl (Nat.le_of_ble_eq_true rfl) dX3_wayTo_17 ⟨Nat.zero_le _, Nat.zero_le _⟩ (sm2 _ _) (fun H locs hw => ?_)
        refine lv_if_eq (tgt := 28) hx hb dX3_wayTo_20 rfl (fun c2 => ?_) (fun c2 => ?_)
        · have hf := dk_t c2 hf
          refine lv_iload_n hx hb dX3_wayTo_28 rfl (lv_at hl 3 rfl) ?_
          refine lv_istore_n (lv' := [(3, .int v3), (0, .ref (h 0)), (1, .int v1), (2, .int v2), (4, .int v4)]) hx hb dX3_wayTo_29 rfl hl (by decide) rfl (fun ls hl => ?_)
          refine lv_iinc (v := (v4 + (-1))) (lv' := [(4, .int (v4 + (-1))), (3, .int v3), (0, .ref (h 0)), (1, .int v1), (2, .int v2)]) hx hb dX3_wayTo_30 hl (k := 4) rfl rfl (by decide) rfl (fun ls hl => ?_)
          refine lv_goto (tgt := 7) hx hb dX3_wayTo_33 rfl ?_
          exact ih v3 (v4 + (-1)) _ _ _ hw (lv_sub hl [2, 3, 4, 1, 0] rfl) hf
        · have hf := dk_f c2 hf
          refine lv_iload hx hb dX3_wayTo_23 (lv_at hl 4 rfl) ?_
          refine lv_goto (tgt := 29) hx hb dX3_wayTo_25 rfl ?_
          refine lv_istore_n (lv' := [(3, .int v4), (0, .ref (h 0)), (1, .int v1), (2, .int v2), (4, .int v4)]) hx hb dX3_wayTo_29 rfl hl (by decide) rfl (fun ls hl => ?_)
          refine lv_iinc (v := (v4 + (-1))) (lv' := [(4, .int (v4 + (-1))), (3, .int v4), (0, .ref (h 0)), (1, .int v1), (2, .int v2)]) hx hb dX3_wayTo_30 hl (k := 4) rfl rfl (by decide) rfl (fun ls hl => ?_)
          refine lv_goto (tgt := 7) hx hb dX3_wayTo_33 rfl ?_
          exact ih v4 (v4 + (-1)) _ _ _ hw (lv_sub hl [2, 3, 4, 1, 0] rfl) hf
  refine lv_bipush (v := (-6)) hx hb dX3_wayTo_0 rfl ?_
  refine lv_istore_n (lv' := [(3, .int (-6)), (0, .ref (h 0)), (1, .int v1), (2, .int v2)]) hx hb dX3_wayTo_2 rfl hl (by decide) rfl (fun ls hl => ?_)
  refine lv_bipush (v := 7) hx hb dX3_wayTo_3 rfl ?_
  refine lv_istore (lv' := [(4, .int 7), (3, .int (-6)), (0, .ref (h 0)), (1, .int v1), (2, .int v2)]) hx hb dX3_wayTo_5 hl (by decide) rfl (fun ls hl => ?_)
  exact L7 FU (-6) 7 _ _ _ hw (lv_sub hl [2, 3, 4, 1, 0] rfl) hf
set_option maxHeartbeats 4000000 in
set_option maxRecDepth 100000 in
theorem metX3_findFar {v1 : Int32} {res : Int32 × (Nat → Int32)} (hf : fX3_findFar v1 m_far = some res) : CtI l yX3_findFar cX3_findFar 5 .boolean 5 D E sz [.ref (h 0), .int v1] (WX3 h E m_cell m_points m_fouls m_evening m_sightStep m_sightCell m_sights m_pad m_padMany m_act m_which m_whither m_hard m_acts m_moving m_goes m_left m_touches m_cushions m_cushionsThen m_touchedFirst m_stepsThen m_downNow m_touchedMany m_cushionMany m_were m_had m_badAct m_badWhy m_foulAct m_met m_far m_fit m_now m_fitMany m_byCell m_wins m_chance m_kept m_isKept m_keptAt m_isWriting) (WX3 h E m_cell m_points m_fouls m_evening m_sightStep m_sightCell m_sights m_pad m_padMany m_act m_which m_whither m_hard m_acts m_moving m_goes m_left m_touches m_cushions m_cushionsThen m_touchedFirst m_stepsThen m_downNow m_touchedMany m_cushionMany m_were m_had m_badAct m_badWhy m_foulAct m_met res.2 m_fit m_now m_fitMany m_byCell m_wins m_chance m_kept m_isKept m_keptAt m_isWriting) res.1 := by
  refine startI (own := RX3) (by decide) rfl (Nat.le_of_ble_eq_true rfl) ?_
  intro p e s m args below meth c A Q ls hC ret hl hw
  have hx := hC.1.1
  have hb := hC.1.2.1
  have hown := hC.1.2.2.2.1
  have hts := hC.1.2.2.2.2
  have hl : lv_has ls 5 [(0, .ref (h 0)), (1, .int v1)] := hl
  have L64 : ∀ (k4c : Int32 → Int32 → (Nat → Int32) → Option (Int32 × (Nat → Int32))) (hk4 : ∀ (v2 : Int32) (v3 : Int32) (m_far : Nat → Int32) (H : Heap) (locs : List Loc) (ls : Array Slot), Wo D A s.heap H locs (WX3 h E m_cell m_points m_fouls m_evening m_sightStep m_sightCell m_sights m_pad m_padMany m_act m_which m_whither m_hard m_acts m_moving m_goes m_left m_touches m_cushions m_cushionsThen m_touchedFirst m_stepsThen m_downNow m_touchedMany m_cushionMany m_were m_had m_badAct m_badWhy m_foulAct m_met m_far m_fit m_now m_fitMany m_byCell m_wins m_chance m_kept m_isKept m_keptAt m_isWriting) → lv_has ls 5 [(0, .ref (h 0)), (1, .int v1), (2, .int v2), (3, .int v3)] → k4c v2 v3 m_far = some res → W p l e (rmN 5) s m args below meth c H locs 0 0 Q (F0 m 4 ls [])) (v2 : Int32) (v3 : Int32) (v4 : Int32) (k1 : Int32) (k2 : Int32) (m_far : Nat → Int32) (H : Heap) (locs : List Loc) (ls : Array Slot), Wo D A s.heap H locs (WX3 h E m_cell m_points m_fouls m_evening m_sightStep m_sightCell m_sights m_pad m_padMany m_act m_which m_whither m_hard m_acts m_moving m_goes m_left m_touches m_cushions m_cushionsThen m_touchedFirst m_stepsThen m_downNow m_touchedMany m_cushionMany m_were m_had m_badAct m_badWhy m_foulAct m_met m_far m_fit m_now m_fitMany m_byCell m_wins m_chance m_kept m_isKept m_keptAt m_isWriting) → lv_has ls 5 [(0, .ref (h 0)), (1, .int v1), (2, .int v2), (3, .int v3), (4, .int v4)] → fX3_findFar_L64 v1 k4c v2 v3 v4 k1 k2 m_far = some res → W p l e (rmN 5) s m args below meth c H locs 0 0 Q (F0 m 64 ls [.int k2, .int k1, .ref (h 12)]) := by
    intro k4c hk4 v2 v3 v4 k1 k2 m_far H locs ls hw hl hf
    obtain ⟨b4, hf⟩ := dk_c hf
    refine sX3_m_far hC hw b4 dX3_findFar_64 (fun H locs hw => ?_)
    refine lv_iload_n hx hb dX3_findFar_65 rfl (lv_at hl 2 rfl) ?_
    refine lv_if_ne (tgt := 74) hx hb dX3_findFar_66 rfl (fun c6 => ?_) (fun c6 => ?_)
    · have hf := dk_f c6 hf
      refine lv_iconst (v := 1) hx hb dX3_findFar_74 rfl ?_
      refine lv_goto (tgt := 79) hx hb dX3_findFar_75 rfl ?_
      refine lv_istore_n (lv' := [(2, .int 1), (0, .ref (h 0)), (1, .int v1), (3, .int v3), (4, .int v4)]) hx hb dX3_findFar_79 rfl hl (by decide) rfl (fun ls hl => ?_)
      refine lv_iinc (v := (v3 + 1)) (lv' := [(3, .int (v3 + 1)), (2, .int 1), (0, .ref (h 0)), (1, .int v1), (4, .int v4)]) hx hb dX3_findFar_80 hl (k := 3) rfl rfl (by decide) rfl (fun ls hl => ?_)
      refine lv_goto (tgt := 4) hx hb dX3_findFar_83 rfl ?_
      exact hk4 1 (v3 + 1) (upd m_far k1.toNatClampNeg k2) _ _ _ hw (lv_sub hl [2, 3, 1, 0] rfl) hf
    · have hf := dk_t c6 hf
      refine lv_iload hx hb dX3_findFar_69 (lv_at hl 4 rfl) ?_
      refine lv_if_eq (tgt := 78) hx hb dX3_findFar_71 rfl (fun c5 => ?_) (fun c5 => ?_)
      · have hf := dk_t c5 hf
        refine lv_iconst (v := 0) hx hb dX3_findFar_78 rfl ?_
        refine lv_istore_n (lv' := [(2, .int 0), (0, .ref (h 0)), (1, .int v1), (3, .int v3), (4, .int v4)]) hx hb dX3_findFar_79 rfl hl (by decide) rfl (fun ls hl => ?_)
        refine lv_iinc (v := (v3 + 1)) (lv' := [(3, .int (v3 + 1)), (2, .int 0), (0, .ref (h 0)), (1, .int v1), (4, .int v4)]) hx hb dX3_findFar_80 hl (k := 3) rfl rfl (by decide) rfl (fun ls hl => ?_)
        refine lv_goto (tgt := 4) hx hb dX3_findFar_83 rfl ?_
        exact hk4 0 (v3 + 1) (upd m_far k1.toNatClampNeg k2) _ _ _ hw (lv_sub hl [2, 3, 1, 0] rfl) hf
      · have hf := dk_f c5 hf
        refine lv_iconst (v := 1) hx hb dX3_findFar_74 rfl ?_
        refine lv_goto (tgt := 79) hx hb dX3_findFar_75 rfl ?_
        refine lv_istore_n (lv' := [(2, .int 1), (0, .ref (h 0)), (1, .int v1), (3, .int v3), (4, .int v4)]) hx hb dX3_findFar_79 rfl hl (by decide) rfl (fun ls hl => ?_)
        refine lv_iinc (v := (v3 + 1)) (lv' := [(3, .int (v3 + 1)), (2, .int 1), (0, .ref (h 0)), (1, .int v1), (4, .int v4)]) hx hb dX3_findFar_80 hl (k := 3) rfl rfl (by decide) rfl (fun ls hl => ?_)
        refine lv_goto (tgt := 4) hx hb dX3_findFar_83 rfl ?_
        exact hk4 1 (v3 + 1) (upd m_far k1.toNatClampNeg k2) _ _ _ hw (lv_sub hl [2, 3, 1, 0] rfl) hf
  have L42 : ∀ (k4c : Int32 → Int32 → (Nat → Int32) → Option (Int32 × (Nat → Int32))) (hk4 : ∀ (v2 : Int32) (v3 : Int32) (m_far : Nat → Int32) (H : Heap) (locs : List Loc) (ls : Array Slot), Wo D A s.heap H locs (WX3 h E m_cell m_points m_fouls m_evening m_sightStep m_sightCell m_sights m_pad m_padMany m_act m_which m_whither m_hard m_acts m_moving m_goes m_left m_touches m_cushions m_cushionsThen m_touchedFirst m_stepsThen m_downNow m_touchedMany m_cushionMany m_were m_had m_badAct m_badWhy m_foulAct m_met m_far m_fit m_now m_fitMany m_byCell m_wins m_chance m_kept m_isKept m_keptAt m_isWriting) → lv_has ls 5 [(0, .ref (h 0)), (1, .int v1), (2, .int v2), (3, .int v3)] → k4c v2 v3 m_far = some res → W p l e (rmN 5) s m args below meth c H locs 0 0 Q (F0 m 4 ls [])) (v2 : Int32) (v3 : Int32) (k0 : Int32) (m_far : Nat → Int32) (H : Heap) (locs : List Loc) (ls : Array Slot), Wo D A s.heap H locs (WX3 h E m_cell m_points m_fouls m_evening m_sightStep m_sightCell m_sights m_pad m_padMany m_act m_which m_whither m_hard m_acts m_moving m_goes m_left m_touches m_cushions m_cushionsThen m_touchedFirst m_stepsThen m_downNow m_touchedMany m_cushionMany m_were m_had m_badAct m_badWhy m_foulAct m_met m_far m_fit m_now m_fitMany m_byCell m_wins m_chance m_kept m_isKept m_keptAt m_isWriting) → lv_has ls 5 [(0, .ref (h 0)), (1, .int v1), (2, .int v2), (3, .int v3)] → fX3_findFar_L42 v1 k4c v2 v3 k0 m_far = some res → W p l e (rmN 5) s m args below meth c H locs 0 0 Q (F0 m 42 ls [.int k0]) := by
    intro k4c hk4 v2 v3 k0 m_far H locs ls hw hl hf
    refine lv_istore (lv' := [(4, .int k0), (0, .ref (h 0)), (1, .int v1), (2, .int v2), (3, .int v3)]) hx hb dX3_findFar_42 hl (by decide) rfl (fun ls hl => ?_)
    refine lv_aload_n hx hb dX3_findFar_44 rfl (lv_at hl 1 rfl) ?_
    refine gX3_this_far hC hw dX3_findFar_45 ?_
    refine lv_iload_n hx hb dX3_findFar_48 rfl (lv_at hl 4 rfl) ?_
    refine lv_iload hx hb dX3_findFar_49 (lv_at hl 0 rfl) ?_
    refine lv_if_eq (tgt := 58) hx hb dX3_findFar_51 rfl (fun c7 => ?_) (fun c7 => ?_)
    · have hf := dk_t c7 hf
      refine lv_aload_n hx hb dX3_findFar_58 rfl (lv_at hl 1 rfl) ?_
      refine gX3_this_far hC hw dX3_findFar_59 ?_
      refine lv_iload_n hx hb dX3_findFar_62 rfl (lv_at hl 4 rfl) ?_
      obtain ⟨b3, hf⟩ := dk_c hf
      refine aX3_m_far hC hw b3 dX3_findFar_63 ?_
      exact L64 k4c hk4 v2 v3 k0 v3 (m_far v3.toNatClampNeg) m_far _ _ _ hw (lv_sub hl [1, 2, 3, 4, 0] rfl) hf
    · have hf := dk_f c7 hf
      refine lv_iload_n hx hb dX3_findFar_54 rfl (lv_at hl 2 rfl) ?_
      refine lv_goto (tgt := 64) hx hb dX3_findFar_55 rfl ?_
      exact L64 k4c hk4 v2 v3 k0 v3 v1 m_far _ _ _ hw (lv_sub hl [1, 2, 3, 4, 0] rfl) hf
  have L4 : ∀ (n : Nat), ∀ (v2 : Int32) (v3 : Int32) (m_far : Nat → Int32) (H : Heap) (locs : List Loc) (ls : Array Slot), Wo D A s.heap H locs (WX3 h E m_cell m_points m_fouls m_evening m_sightStep m_sightCell m_sights m_pad m_padMany m_act m_which m_whither m_hard m_acts m_moving m_goes m_left m_touches m_cushions m_cushionsThen m_touchedFirst m_stepsThen m_downNow m_touchedMany m_cushionMany m_were m_had m_badAct m_badWhy m_foulAct m_met m_far m_fit m_now m_fitMany m_byCell m_wins m_chance m_kept m_isKept m_keptAt m_isWriting) → lv_has ls 5 [(0, .ref (h 0)), (1, .int v1), (2, .int v2), (3, .int v3)] → fX3_findFar_L4 v1  n v2 v3 m_far = some res → W p l e (rmN 5) s m args below meth c H locs 0 0 Q (F0 m 4 ls []) := by
    intro  n
    induction n with
    | zero =>
      intro v2 v3 m_far H locs ls hw hl hf
      exact dk_n hf
    | succ n ih =>
      intro v2 v3 m_far H locs ls hw hl hf
      refine lv_iload_n hx hb dX3_findFar_4 rfl (lv_at hl 3 rfl) ?_
      refine lv_bipush (v := 45) hx hb dX3_findFar_5 rfl ?_
      refine lv_icmp_ge (tgt := 86) hx hb dX3_findFar_7 rfl (fun c12 => ?_) (fun c12 => ?_)
      · have hf := dk_t c12 hf
        refine lv_iload_n hx hb dX3_findFar_86 rfl (lv_at hl 2 rfl) ?_
        obtain ⟨b1, hf⟩ := dk_c hf
        obtain rfl := Option.some.inj hf
        exact ret _ _ _ _ _ dX3_findFar_87 (nar01 b1) rfl hw
      · have hf := dk_f c12 hf
        refine lv_aload_n hx hb dX3_findFar_10 rfl (lv_at hl 0 rfl) ?_
        refine gX3_this_far hC hw dX3_findFar_11 ?_
        refine lv_iload_n hx hb dX3_findFar_14 rfl (lv_at hl 3 rfl) ?_
        obtain ⟨b2, hf⟩ := dk_c hf
        refine aX3_m_far hC hw b2 dX3_findFar_15 ?_
        refine lv_if_ge (tgt := 41) hx hb dX3_findFar_16 rfl (fun c11 => ?_) (fun c11 => ?_)
        · have hf := dk_t c11 hf
          refine lv_iconst (v := 0) hx hb dX3_findFar_41 rfl ?_
          exact L42 (fun y0 y1 y2 => fX3_findFar_L4 v1 n y0 y1 y2) ih v2 v3 0 m_far _ _ _ hw (lv_sub hl [0, 1, 2, 3] rfl) hf
        · have hf := dk_f c11 hf
          refine lv_iload_n hx hb dX3_findFar_19 rfl (lv_at hl 3 rfl) ?_
          refine callSI (rest := []) 0 0 hC hw (st1 _) (metX3_isPocket rfl) mi_X3_isPocket q600 (rm_ok (by decide) (by decide)) rfl hl.1 rfl (Nat.le_of_ble_eq_true rfl) dX3_findFar_20 ⟨Nat.zero_le _, Nat.zero_le _⟩ (st2 _) (fun H locs hw => ?_)
          refine lv_if_ne (tgt := 41) hx hb dX3_findFar_23 rfl (fun c10 => ?_) (fun c10 => ?_)
          · have hf := dk_f c10 hf
            refine lv_iconst (v := 0) hx hb dX3_findFar_41 rfl ?_
            exact L42 (fun y0 y1 y2 => fX3_findFar_L4 v1 n y0 y1 y2) ih v2 v3 0 m_far _ _ _ hw (lv_sub hl [0, 1, 2, 3] rfl) hf
          · have hf := dk_t c10 hf
            refine lv_aload_n hx hb dX3_findFar_26 rfl (lv_at hl 0 rfl) ?_
            refine lv_iload_n hx hb dX3_findFar_27 rfl (lv_at hl 3 rfl) ?_
            refine lv_iload_n hx hb dX3_findFar_28 rfl (lv_at hl 1 rfl) ?_
            refine lv_iconst (v := 1) hx hb dX3_findFar_29 rfl ?_
            refine lv_isub hx hb dX3_findFar_30 ?_
            obtain ⟨z8, hz8, hf⟩ := dk_b hf
            refine callVI (rest := []) 0 _ 3 hC hw (sm1 _) (metX3_wayTo hz8) mi_X3_wayTo q778 (rm_ok (by decide) (by decide)) rfl rfl rfl hl.1 rfl (Nat.le_of_ble_eq_true rfl) dX3_findFar_31 ⟨Nat.zero_le _, Nat.zero_le _⟩ (sm2 _ _) (fun H locs hw => ?_)
            refine lv_if_lt (tgt := 41) hx hb dX3_findFar_34 rfl (fun c9 => ?_) (fun c9 => ?_)
            · have hf := dk_t c9 hf
              refine lv_iconst (v := 0) hx hb dX3_findFar_41 rfl ?_
              exact L42 (fun y0 y1 y2 => fX3_findFar_L4 v1 n y0 y1 y2) ih v2 v3 0 m_far _ _ _ hw (lv_sub hl [0, 1, 2, 3] rfl) hf
            · have hf := dk_f c9 hf
              refine lv_iconst (v := 1) hx hb dX3_findFar_37 rfl ?_
              refine lv_goto (tgt := 42) hx hb dX3_findFar_38 rfl ?_
              exact L42 (fun y0 y1 y2 => fX3_findFar_L4 v1 n y0 y1 y2) ih v2 v3 1 m_far _ _ _ hw (lv_sub hl [0, 1, 2, 3] rfl) hf
  refine lv_iconst (v := 0) hx hb dX3_findFar_0 rfl ?_
  refine lv_istore_n (lv' := [(2, .int 0), (0, .ref (h 0)), (1, .int v1)]) hx hb dX3_findFar_1 rfl hl (by decide) rfl (fun ls hl => ?_)
  refine lv_iconst (v := 0) hx hb dX3_findFar_2 rfl ?_
  refine lv_istore_n (lv' := [(3, .int 0), (2, .int 0), (0, .ref (h 0)), (1, .int v1)]) hx hb dX3_findFar_3 rfl hl (by decide) rfl (fun ls hl => ?_)
  exact L4 FU 0 0 m_far _ _ _ hw (lv_sub hl [2, 3, 1, 0] rfl) hf
set_option maxHeartbeats 4000000 in
set_option maxRecDepth 100000 in
theorem metX3_strokes {v1 : Int32} {v2 : Int32} {v3 : Int32} {res : Int32 × (Nat → Int32)} (hf : fX3_strokes v1 v2 v3 m_far = some res) : CtI l yX3_strokes cX3_strokes 6 .int 6 D E sz [.ref (h 0), .int v1, .int v2, .int v3] (WX3 h E m_cell m_points m_fouls m_evening m_sightStep m_sightCell m_sights m_pad m_padMany m_act m_which m_whither m_hard m_acts m_moving m_goes m_left m_touches m_cushions m_cushionsThen m_touchedFirst m_stepsThen m_downNow m_touchedMany m_cushionMany m_were m_had m_badAct m_badWhy m_foulAct m_met m_far m_fit m_now m_fitMany m_byCell m_wins m_chance m_kept m_isKept m_keptAt m_isWriting) (WX3 h E m_cell m_points m_fouls m_evening m_sightStep m_sightCell m_sights m_pad m_padMany m_act m_which m_whither m_hard m_acts m_moving m_goes m_left m_touches m_cushions m_cushionsThen m_touchedFirst m_stepsThen m_downNow m_touchedMany m_cushionMany m_were m_had m_badAct m_badWhy m_foulAct m_met res.2 m_fit m_now m_fitMany m_byCell m_wins m_chance m_kept m_isKept m_keptAt m_isWriting) res.1 := by
  refine startI (own := RX3) (by decide) rfl (Nat.le_of_ble_eq_true rfl) ?_
  intro p e s m args below meth c A Q ls hC ret hl hw
  have hx := hC.1.1
  have hb := hC.1.2.1
  have hown := hC.1.2.2.2.1
  have hts := hC.1.2.2.2.2
  have hl : lv_has ls 6 [(0, .ref (h 0)), (1, .int v1), (2, .int v2), (3, .int v3)] := hl
  have L70 : ∀ (n : Nat), ∀ (v4 : Int32) (v5 : Int32) (m_far : Nat → Int32) (H : Heap) (locs : List Loc) (ls : Array Slot), Wo D A s.heap H locs (WX3 h E m_cell m_points m_fouls m_evening m_sightStep m_sightCell m_sights m_pad m_padMany m_act m_which m_whither m_hard m_acts m_moving m_goes m_left m_touches m_cushions m_cushionsThen m_touchedFirst m_stepsThen m_downNow m_touchedMany m_cushionMany m_were m_had m_badAct m_badWhy m_foulAct m_met m_far m_fit m_now m_fitMany m_byCell m_wins m_chance m_kept m_isKept m_keptAt m_isWriting) → lv_has ls 6 [(0, .ref (h 0)), (1, .int v1), (3, .int v3), (4, .int v4), (5, .int v5)] → fX3_strokes_L70 v1 v2 v3  n v4 v5 m_far = some res → W p l e (rmN 6) s m args below meth c H locs 0 0 Q (F0 m 70 ls []) := by
    intro  n
    induction n with
    | zero =>
      intro v4 v5 m_far H locs ls hw hl hf
      exact dk_n hf
    | succ n ih =>
      intro v4 v5 m_far H locs ls hw hl hf
      refine lv_iload hx hb dX3_strokes_70 (lv_at hl 3 rfl) ?_
      refine lv_if_eq (tgt := 89) hx hb dX3_strokes_72 rfl (fun c8 => ?_) (fun c8 => ?_)
      · have hf := dk_t c8 hf
        refine lv_iload_n hx hb dX3_strokes_89 rfl (lv_at hl 2 rfl) ?_
        refine lv_if_ne (tgt := 102) hx hb dX3_strokes_90 rfl (fun c6 => ?_) (fun c6 => ?_)
        · have hf := dk_f c6 hf
          refine lv_aload_n hx hb dX3_strokes_102 rfl (lv_at hl 0 rfl) ?_
          refine gX3_this_far hC hw dX3_strokes_103 ?_
          refine lv_iload_n hx hb dX3_strokes_106 rfl (lv_at hl 1 rfl) ?_
          obtain ⟨b1, hf⟩ := dk_c hf
          refine aX3_m_far hC hw b1 dX3_strokes_107 ?_
          refine lv_iconst (v := 1) hx hb dX3_strokes_108 rfl ?_
          refine lv_icmp_ge (tgt := 117) hx hb dX3_strokes_109 rfl (fun c4 => ?_) (fun c4 => ?_)
          · have hf := dk_t c4 hf
            refine lv_aload_n hx hb dX3_strokes_117 rfl (lv_at hl 0 rfl) ?_
            refine lv_iload_n hx hb dX3_strokes_118 rfl (lv_at hl 1 rfl) ?_
            refine lv_aload_n hx hb dX3_strokes_119 rfl (lv_at hl 0 rfl) ?_
            refine gX3_this_far hC hw dX3_strokes_120 ?_
            refine lv_iload_n hx hb dX3_strokes_123 rfl (lv_at hl 1 rfl) ?_
            obtain ⟨b2, hf⟩ := dk_c hf
            refine aX3_m_far hC hw b2 dX3_strokes_124 ?_
            refine lv_iconst (v := 1) hx hb dX3_strokes_125 rfl ?_
            refine lv_isub hx hb dX3_strokes_126 ?_
            obtain ⟨z3, hz3, hf⟩ := dk_b hf
            refine callVI (rest := []) 0 _ 3 hC hw (sm1 _) (metX3_wayTo hz3) mi_X3_wayTo q778 (rm_ok (by decide) (by decide)) rfl rfl rfl hl.1 rfl (Nat.le_of_ble_eq_true rfl) dX3_strokes_127 ⟨Nat.zero_le _, Nat.zero_le _⟩ (sm2 _ _) (fun H locs hw => ?_)
            obtain rfl := Option.some.inj hf
            exact ret _ _ _ _ _ dX3_strokes_130 rfl rfl hw
          · have hf := dk_f c4 hf
            refine lv_bipush (v := (-6)) hx hb dX3_strokes_112 rfl ?_
            refine lv_goto (tgt := 130) hx hb dX3_strokes_114 rfl ?_
            obtain rfl := Option.some.inj hf
            exact ret _ _ _ _ _ dX3_strokes_130 rfl rfl hw
        · have hf := dk_t c6 hf
          refine lv_aload_n hx hb dX3_strokes_93 rfl (lv_at hl 0 rfl) ?_
          refine gX3_this_far hC hw dX3_strokes_94 ?_
          refine lv_iload_n hx hb dX3_strokes_97 rfl (lv_at hl 1 rfl) ?_
          obtain ⟨b5, hf⟩ := dk_c hf
          refine aX3_m_far hC hw b5 dX3_strokes_98 ?_
          refine lv_goto (tgt := 130) hx hb dX3_strokes_99 rfl ?_
          obtain rfl := Option.some.inj hf
          exact ret _ _ _ _ _ dX3_strokes_130 rfl rfl hw
      · have hf := dk_f c8 hf
        refine lv_aload_n hx hb dX3_strokes_75 rfl (lv_at hl 0 rfl) ?_
        refine lv_iload hx hb dX3_strokes_76 (lv_at hl 4 rfl) ?_
        obtain ⟨z7, hz7, hf⟩ := dk_b hf
        refine callVI (rest := []) 0 _ 3 hC hw (sm1 _) (metX3_findFar hz7) mi_X3_findFar q774 (rm_ok (by decide) (by decide)) rfl rfl rfl hl.1 rfl (Nat.le_of_ble_eq_true rfl) dX3_strokes_78 ⟨Nat.zero_le _, Nat.zero_le _⟩ (sm2 _ _) (fun H locs hw => ?_)
        refine lv_istore (lv' := [(4, .int z7.1), (0, .ref (h 0)), (1, .int v1), (3, .int v3), (5, .int v5)]) hx hb dX3_strokes_81 hl (by decide) rfl (fun ls hl => ?_)
        refine lv_iinc (v := (v5 + 1)) (lv' := [(5, .int (v5 + 1)), (4, .int z7.1), (0, .ref (h 0)), (1, .int v1), (3, .int v3)]) hx hb dX3_strokes_83 hl (k := 4) rfl rfl (by decide) rfl (fun ls hl => ?_)
        refine lv_goto (tgt := 70) hx hb dX3_strokes_86 rfl ?_
        exact ih z7.1 (v5 + 1) z7.2 _ _ _ hw (lv_sub hl [2, 3, 4, 1, 0] rfl) hf
  have L32 : ∀ (n : Nat), ∀ (v4 : Int32) (m_far : Nat → Int32) (H : Heap) (locs : List Loc) (ls : Array Slot), Wo D A s.heap H locs (WX3 h E m_cell m_points m_fouls m_evening m_sightStep m_sightCell m_sights m_pad m_padMany m_act m_which m_whither m_hard m_acts m_moving m_goes m_left m_touches m_cushions m_cushionsThen m_touchedFirst m_stepsThen m_downNow m_touchedMany m_cushionMany m_were m_had m_badAct m_badWhy m_foulAct m_met m_far m_fit m_now m_fitMany m_byCell m_wins m_chance m_kept m_isKept m_keptAt m_isWriting) → lv_has ls 6 [(0, .ref (h 0)), (1, .int v1), (2, .int v2), (3, .int v3), (4, .int v4)] → fX3_strokes_L32 v1 v2 v3  n v4 m_far = some res → W p l e (rmN 6) s m args below meth c H locs 0 0 Q (F0 m 32 ls []) := by
    intro  n
    induction n with
    | zero =>
      intro v4 m_far H locs ls hw hl hf
      exact dk_n hf
    | succ n ih =>
      intro v4 m_far H locs ls hw hl hf
      refine lv_iload hx hb dX3_strokes_32 (lv_at hl 4 rfl) ?_
      refine lv_bipush (v := 45) hx hb dX3_strokes_34 rfl ?_
      refine lv_icmp_ge (tgt := 64) hx hb dX3_strokes_36 rfl (fun c12 => ?_) (fun c12 => ?_)
      · have hf := dk_t c12 hf
        refine lv_iconst (v := 1) hx hb dX3_strokes_64 rfl ?_
        refine lv_istore (lv' := [(4, .int 1), (0, .ref (h 0)), (1, .int v1), (2, .int v2), (3, .int v3)]) hx hb dX3_strokes_65 hl (by decide) rfl (fun ls hl => ?_)
        refine lv_iconst (v := 1) hx hb dX3_strokes_67 rfl ?_
        refine lv_istore (lv' := [(5, .int 1), (4, .int 1), (0, .ref (h 0)), (1, .int v1), (2, .int v2), (3, .int v3)]) hx hb dX3_strokes_68 hl (by decide) rfl (fun ls hl => ?_)
        exact L70 FU 1 1 m_far _ _ _ hw (lv_sub hl [2, 3, 5, 1, 0] rfl) hf
      · have hf := dk_f c12 hf
        refine lv_aload_n hx hb dX3_strokes_39 rfl (lv_at hl 0 rfl) ?_
        refine gX3_this_far hC hw dX3_strokes_40 ?_
        refine lv_iload hx hb dX3_strokes_43 (lv_at hl 4 rfl) ?_
        refine lv_iload hx hb dX3_strokes_45 (lv_at hl 4 rfl) ?_
        refine lv_iload_n hx hb dX3_strokes_47 rfl (lv_at hl 2 rfl) ?_
        refine lv_icmp_ne (tgt := 55) hx hb dX3_strokes_48 rfl (fun c11 => ?_) (fun c11 => ?_)
        · have hf := dk_f c11 hf
          refine lv_bipush (v := (-6)) hx hb dX3_strokes_55 rfl ?_
          obtain ⟨b9, hf⟩ := dk_c hf
          refine sX3_m_far hC hw b9 dX3_strokes_57 (fun H locs hw => ?_)
          refine lv_iinc (v := (v4 + 1)) (lv' := [(4, .int (v4 + 1)), (0, .ref (h 0)), (1, .int v1), (2, .int v2), (3, .int v3)]) hx hb dX3_strokes_58 hl (k := 4) rfl rfl (by decide) rfl (fun ls hl => ?_)
          refine lv_goto (tgt := 32) hx hb dX3_strokes_61 rfl ?_
          exact ih (v4 + 1) (upd m_far v4.toNatClampNeg (-6)) _ _ _ hw (lv_sub hl [1, 2, 3, 4, 0] rfl) hf
        · have hf := dk_t c11 hf
          refine lv_iconst (v := 0) hx hb dX3_strokes_51 rfl ?_
          refine lv_goto (tgt := 57) hx hb dX3_strokes_52 rfl ?_
          obtain ⟨b10, hf⟩ := dk_c hf
          refine sX3_m_far hC hw b10 dX3_strokes_57 (fun H locs hw => ?_)
          refine lv_iinc (v := (v4 + 1)) (lv' := [(4, .int (v4 + 1)), (0, .ref (h 0)), (1, .int v1), (2, .int v2), (3, .int v3)]) hx hb dX3_strokes_58 hl (k := 4) rfl rfl (by decide) rfl (fun ls hl => ?_)
          refine lv_goto (tgt := 32) hx hb dX3_strokes_61 rfl ?_
          exact ih (v4 + 1) (upd m_far v4.toNatClampNeg 0) _ _ _ hw (lv_sub hl [1, 2, 3, 4, 0] rfl) hf
  refine lv_iload_n hx hb dX3_strokes_0 rfl (lv_at hl 1 rfl) ?_
  refine callSI (rest := []) 0 0 hC hw (st1 _) (metX3_isPlace rfl) mi_X3_isPlace q593 (rm_ok (by decide) (by decide)) rfl hl.1 rfl (Nat.le_of_ble_eq_true rfl) dX3_strokes_1 ⟨Nat.zero_le _, Nat.zero_le _⟩ (st2 _) (fun H locs hw => ?_)
  refine lv_if_eq (tgt := 14) hx hb dX3_strokes_4 rfl (fun c15 => ?_) (fun c15 => ?_)
  · have hf := dk_t c15 hf
    refine lv_iconst (v := (-1)) hx hb dX3_strokes_14 rfl ?_
    obtain rfl := Option.some.inj hf
    exact ret _ _ _ _ _ dX3_strokes_15 rfl rfl hw
  · have hf := dk_f c15 hf
    refine lv_iload_n hx hb dX3_strokes_7 rfl (lv_at hl 2 rfl) ?_
    refine callSI (rest := []) 0 0 hC hw (st1 _) (metX3_isPlace rfl) mi_X3_isPlace q593 (rm_ok (by decide) (by decide)) rfl hl.1 rfl (Nat.le_of_ble_eq_true rfl) dX3_strokes_8 ⟨Nat.zero_le _, Nat.zero_le _⟩ (st2 _) (fun H locs hw => ?_)
    refine lv_if_ne (tgt := 16) hx hb dX3_strokes_11 rfl (fun c14 => ?_) (fun c14 => ?_)
    · have hf := dk_f c14 hf
      refine lv_iload_n hx hb dX3_strokes_16 rfl (lv_at hl 3 rfl) ?_
      refine lv_i2l (v := (v3.toInt64)) hx hb dX3_strokes_17 rfl ?_
      refine lv_lconst (v := 0) hx hb dX3_strokes_18 rfl ?_
      refine lv_lconst (v := 1) hx hb dX3_strokes_19 rfl ?_
      refine callSI (rest := []) 0 0 hC hw (st1 _) (metX3_in rfl) mi_X3_in q590 (rm_ok (by decide) (by decide)) rfl hl.1 rfl (Nat.le_of_ble_eq_true rfl) dX3_strokes_20 ⟨Nat.zero_le _, Nat.zero_le _⟩ (st2 _) (fun H locs hw => ?_)
      refine lv_if_ne (tgt := 29) hx hb dX3_strokes_23 rfl (fun c13 => ?_) (fun c13 => ?_)
      · have hf := dk_f c13 hf
        refine lv_iconst (v := 0) hx hb dX3_strokes_29 rfl ?_
        refine lv_istore (lv' := [(4, .int 0), (0, .ref (h 0)), (1, .int v1), (2, .int v2), (3, .int v3)]) hx hb dX3_strokes_30 hl (by decide) rfl (fun ls hl => ?_)
        exact L32 FU 0 m_far _ _ _ hw (lv_sub hl [1, 2, 3, 4, 0] rfl) hf
      · have hf := dk_t c13 hf
        refine lv_bipush (v := (-2)) hx hb dX3_strokes_26 rfl ?_
        obtain rfl := Option.some.inj hf
        exact ret _ _ _ _ _ dX3_strokes_28 rfl rfl hw
    · have hf := dk_t c14 hf
      refine lv_iconst (v := (-1)) hx hb dX3_strokes_14 rfl ?_
      obtain rfl := Option.some.inj hf
      exact ret _ _ _ _ _ dX3_strokes_15 rfl rfl hw
set_option maxHeartbeats 4000000 in
set_option maxRecDepth 100000 in
theorem metX3_seen {v1 : Int32} {v2 : Int32} {res : Int32 × (Nat → Int32) × (Nat → Int32) × Int32} (hf : fX3_seen v1 v2 m_sightStep m_sightCell m_sights = some res) : CtI l yX3_seen cX3_seen 3 .int 2 D E sz [.ref (h 0), .int v1, .int v2] (WX3 h E m_cell m_points m_fouls m_evening m_sightStep m_sightCell m_sights m_pad m_padMany m_act m_which m_whither m_hard m_acts m_moving m_goes m_left m_touches m_cushions m_cushionsThen m_touchedFirst m_stepsThen m_downNow m_touchedMany m_cushionMany m_were m_had m_badAct m_badWhy m_foulAct m_met m_far m_fit m_now m_fitMany m_byCell m_wins m_chance m_kept m_isKept m_keptAt m_isWriting) (WX3 h E m_cell m_points m_fouls m_evening res.2.1 res.2.2.1 res.2.2.2 m_pad m_padMany m_act m_which m_whither m_hard m_acts m_moving m_goes m_left m_touches m_cushions m_cushionsThen m_touchedFirst m_stepsThen m_downNow m_touchedMany m_cushionMany m_were m_had m_badAct m_badWhy m_foulAct m_met m_far m_fit m_now m_fitMany m_byCell m_wins m_chance m_kept m_isKept m_keptAt m_isWriting) res.1 := by
  refine startI (own := RX3) (by decide) rfl (Nat.le_of_ble_eq_true rfl) ?_
  intro p e s m args below meth c A Q ls hC ret hl hw
  have hx := hC.1.1
  have hb := hC.1.2.1
  have hown := hC.1.2.2.2.1
  have hts := hC.1.2.2.2.2
  have hl : lv_has ls 3 [(0, .ref (h 0)), (1, .int v1), (2, .int v2)] := hl
  refine lv_iload_n hx hb dX3_seen_0 rfl (lv_at hl 2 rfl) ?_
  refine callSI (rest := []) 0 0 hC hw (st1 _) (metX3_isCell rfl) mi_X3_isCell q596 (rm_ok (by decide) (by decide)) rfl hl.1 rfl (Nat.le_of_ble_eq_true rfl) dX3_seen_1 ⟨Nat.zero_le _, Nat.zero_le _⟩ (st2 _) (fun H locs hw => ?_)
  refine lv_if_ne (tgt := 9) hx hb dX3_seen_4 rfl (fun c5 => ?_) (fun c5 => ?_)
  · have hf := dk_f c5 hf
    refine lv_iload_n hx hb dX3_seen_9 rfl (lv_at hl 1 rfl) ?_
    refine lv_i2l (v := (v1.toInt64)) hx hb dX3_seen_10 rfl ?_
    refine lv_lconst (v := 0) hx hb dX3_seen_11 rfl ?_
    refine W.ldc2 (v := 60) hx hb hown (hts _ q790) rfl dX3_seen_12 ?_
    refine callSI (rest := []) 0 0 hC hw (st1 _) (metX3_in rfl) mi_X3_in q590 (rm_ok (by decide) (by decide)) rfl hl.1 rfl (Nat.le_of_ble_eq_true rfl) dX3_seen_15 ⟨Nat.zero_le _, Nat.zero_le _⟩ (st2 _) (fun H locs hw => ?_)
    refine lv_if_ne (tgt := 24) hx hb dX3_seen_18 rfl (fun c4 => ?_) (fun c4 => ?_)
    · have hf := dk_f c4 hf
      refine lv_aload_n hx hb dX3_seen_24 rfl (lv_at hl 0 rfl) ?_
      refine gX3_this_sights hC hw dX3_seen_25 ?_
      refine lv_bipush (v := 8) hx hb dX3_seen_28 rfl ?_
      refine lv_icmp_ne (tgt := 36) hx hb dX3_seen_30 rfl (fun c3 => ?_) (fun c3 => ?_)
      · have hf := dk_f c3 hf
        refine lv_aload_n hx hb dX3_seen_36 rfl (lv_at hl 0 rfl) ?_
        refine gX3_this_sightStep hC hw dX3_seen_37 ?_
        refine lv_aload_n hx hb dX3_seen_40 rfl (lv_at hl 0 rfl) ?_
        refine gX3_this_sights hC hw dX3_seen_41 ?_
        refine lv_iload_n hx hb dX3_seen_44 rfl (lv_at hl 1 rfl) ?_
        obtain ⟨b1, hf⟩ := dk_c hf
        refine sX3_m_sightStep hC hw b1 dX3_seen_45 (fun H locs hw => ?_)
        refine lv_aload_n hx hb dX3_seen_46 rfl (lv_at hl 0 rfl) ?_
        refine gX3_this_sightCell hC hw dX3_seen_47 ?_
        refine lv_aload_n hx hb dX3_seen_50 rfl (lv_at hl 0 rfl) ?_
        refine gX3_this_sights hC hw dX3_seen_51 ?_
        refine lv_iload_n hx hb dX3_seen_54 rfl (lv_at hl 2 rfl) ?_
        obtain ⟨b2, hf⟩ := dk_c hf
        refine sX3_m_sightCell hC hw b2 dX3_seen_55 (fun H locs hw => ?_)
        refine lv_aload_n hx hb dX3_seen_56 rfl (lv_at hl 0 rfl) ?_
        refine lv_dup hx hb dX3_seen_57 rfl ?_
        refine gX3_this_sights hC hw dX3_seen_58 ?_
        refine lv_iconst (v := 1) hx hb dX3_seen_61 rfl ?_
        refine lv_iadd hx hb dX3_seen_62 ?_
        refine pX3_this_sights hC hw dX3_seen_63 (fun H locs hw => ?_)
        refine lv_aload_n hx hb dX3_seen_66 rfl (lv_at hl 0 rfl) ?_
        refine gX3_this_sights hC hw dX3_seen_67 ?_
        obtain rfl := Option.some.inj hf
        exact ret _ _ _ _ _ dX3_seen_70 rfl rfl hw
      · have hf := dk_t c3 hf
        refine lv_bipush (v := (-4)) hx hb dX3_seen_33 rfl ?_
        obtain rfl := Option.some.inj hf
        exact ret _ _ _ _ _ dX3_seen_35 rfl rfl hw
    · have hf := dk_t c4 hf
      refine lv_bipush (v := (-2)) hx hb dX3_seen_21 rfl ?_
      obtain rfl := Option.some.inj hf
      exact ret _ _ _ _ _ dX3_seen_23 rfl rfl hw
  · have hf := dk_t c5 hf
    refine lv_iconst (v := (-1)) hx hb dX3_seen_7 rfl ?_
    obtain rfl := Option.some.inj hf
    exact ret _ _ _ _ _ dX3_seen_8 rfl rfl hw
set_option maxHeartbeats 4000000 in
set_option maxRecDepth 100000 in
theorem metX3_forget  {res : Int32 × Int32} (hf : fX3_forget m_sights = some res) : CtI l yX3_forget cX3_forget 2 .int 0 D E sz [.ref (h 0)] (WX3 h E m_cell m_points m_fouls m_evening m_sightStep m_sightCell m_sights m_pad m_padMany m_act m_which m_whither m_hard m_acts m_moving m_goes m_left m_touches m_cushions m_cushionsThen m_touchedFirst m_stepsThen m_downNow m_touchedMany m_cushionMany m_were m_had m_badAct m_badWhy m_foulAct m_met m_far m_fit m_now m_fitMany m_byCell m_wins m_chance m_kept m_isKept m_keptAt m_isWriting) (WX3 h E m_cell m_points m_fouls m_evening m_sightStep m_sightCell res.2 m_pad m_padMany m_act m_which m_whither m_hard m_acts m_moving m_goes m_left m_touches m_cushions m_cushionsThen m_touchedFirst m_stepsThen m_downNow m_touchedMany m_cushionMany m_were m_had m_badAct m_badWhy m_foulAct m_met m_far m_fit m_now m_fitMany m_byCell m_wins m_chance m_kept m_isKept m_keptAt m_isWriting) res.1 := by
  refine startI (own := RX3) (by decide) rfl (Nat.le_of_ble_eq_true rfl) ?_
  intro p e s m args below meth c A Q ls hC ret hl hw
  have hx := hC.1.1
  have hb := hC.1.2.1
  have hown := hC.1.2.2.2.1
  have hts := hC.1.2.2.2.2
  have hl : lv_has ls 2 [(0, .ref (h 0))] := hl
  refine lv_aload_n hx hb dX3_forget_0 rfl (lv_at hl 0 rfl) ?_
  refine gX3_this_sights hC hw dX3_forget_1 ?_
  refine lv_istore_n (lv' := [(1, .int m_sights), (0, .ref (h 0))]) hx hb dX3_forget_4 rfl hl (by decide) rfl (fun ls hl => ?_)
  refine lv_aload_n hx hb dX3_forget_5 rfl (lv_at hl 1 rfl) ?_
  refine lv_iconst (v := 0) hx hb dX3_forget_6 rfl ?_
  refine pX3_this_sights hC hw dX3_forget_7 (fun H locs hw => ?_)
  refine lv_iload_n hx hb dX3_forget_10 rfl (lv_at hl 0 rfl) ?_
  obtain rfl := Option.some.inj hf
  exact ret _ _ _ _ _ dX3_forget_11 rfl rfl hw
set_option maxHeartbeats 4000000 in
set_option maxRecDepth 100000 in
theorem metX3_isFit {v1 : Int32} {res : Int32} (hf : fX3_isFit v1 m_sightStep m_sightCell m_sights = some res) : CtI l yX3_isFit cX3_isFit 4 .boolean 4 D E sz [.ref (h 0), .int v1] (WX3 h E m_cell m_points m_fouls m_evening m_sightStep m_sightCell m_sights m_pad m_padMany m_act m_which m_whither m_hard m_acts m_moving m_goes m_left m_touches m_cushions m_cushionsThen m_touchedFirst m_stepsThen m_downNow m_touchedMany m_cushionMany m_were m_had m_badAct m_badWhy m_foulAct m_met m_far m_fit m_now m_fitMany m_byCell m_wins m_chance m_kept m_isKept m_keptAt m_isWriting) (WX3 h E m_cell m_points m_fouls m_evening m_sightStep m_sightCell m_sights m_pad m_padMany m_act m_which m_whither m_hard m_acts m_moving m_goes m_left m_touches m_cushions m_cushionsThen m_touchedFirst m_stepsThen m_downNow m_touchedMany m_cushionMany m_were m_had m_badAct m_badWhy m_foulAct m_met m_far m_fit m_now m_fitMany m_byCell m_wins m_chance m_kept m_isKept m_keptAt m_isWriting) res := by
  refine startI (own := RX3) (by decide) rfl (Nat.le_of_ble_eq_true rfl) ?_
  intro p e s m args below meth c A Q ls hC ret hl hw
  have hx := hC.1.1
  have hb := hC.1.2.1
  have hown := hC.1.2.2.2.1
  have hts := hC.1.2.2.2.2
  have hl : lv_has ls 4 [(0, .ref (h 0)), (1, .int v1)] := hl
  have L27 : ∀ (n : Nat), ∀ (v2 : Int32) (v3 : Int32) (H : Heap) (locs : List Loc) (ls : Array Slot), Wo D A s.heap H locs (WX3 h E m_cell m_points m_fouls m_evening m_sightStep m_sightCell m_sights m_pad m_padMany m_act m_which m_whither m_hard m_acts m_moving m_goes m_left m_touches m_cushions m_cushionsThen m_touchedFirst m_stepsThen m_downNow m_touchedMany m_cushionMany m_were m_had m_badAct m_badWhy m_foulAct m_met m_far m_fit m_now m_fitMany m_byCell m_wins m_chance m_kept m_isKept m_keptAt m_isWriting) → lv_has ls 4 [(0, .ref (h 0)), (1, .int v1), (2, .int v2), (3, .int v3)] → fX3_isFit_L27 v1 m_sightStep m_sightCell m_sights  n v2 v3 = some res → W p l e (rmN 4) s m args below meth c H locs 0 0 Q (F0 m 27 ls []) := by
    intro  n
    induction n with
    | zero =>
      intro v2 v3 H locs ls hw hl hf
      exact dk_n hf
    | succ n ih =>
      intro v2 v3 H locs ls hw hl hf
      refine lv_iload_n hx hb dX3_isFit_27 rfl (lv_at hl 3 rfl) ?_
      refine lv_aload_n hx hb dX3_isFit_28 rfl (lv_at hl 0 rfl) ?_
      refine gX3_this_sights hC hw dX3_isFit_29 ?_
      refine lv_icmp_ge (tgt := 73) hx hb dX3_isFit_32 rfl (fun c8 => ?_) (fun c8 => ?_)
      · have hf := dk_t c8 hf
        refine lv_iload_n hx hb dX3_isFit_73 rfl (lv_at hl 2 rfl) ?_
        obtain ⟨b1, hf⟩ := dk_c hf
        exact ret _ _ _ _ _ dX3_isFit_74 (nar01 b1) (Option.some.inj hf) hw
      · have hf := dk_f c8 hf
        refine lv_iload_n hx hb dX3_isFit_35 rfl (lv_at hl 2 rfl) ?_
        refine lv_if_eq (tgt := 73) hx hb dX3_isFit_36 rfl (fun c7 => ?_) (fun c7 => ?_)
        · have hf := dk_t c7 hf
          refine lv_iload_n hx hb dX3_isFit_73 rfl (lv_at hl 2 rfl) ?_
          obtain ⟨b2, hf⟩ := dk_c hf
          exact ret _ _ _ _ _ dX3_isFit_74 (nar01 b2) (Option.some.inj hf) hw
        · have hf := dk_f c7 hf
          refine lv_iload_n hx hb dX3_isFit_39 rfl (lv_at hl 1 rfl) ?_
          refine lv_aload_n hx hb dX3_isFit_40 rfl (lv_at hl 0 rfl) ?_
          refine gX3_this_sightStep hC hw dX3_isFit_41 ?_
          refine lv_iload_n hx hb dX3_isFit_44 rfl (lv_at hl 3 rfl) ?_
          obtain ⟨b3, hf⟩ := dk_c hf
          refine aX3_m_sightStep hC hw b3 dX3_isFit_45 ?_
          obtain ⟨z4, hz4, hf⟩ := dk_b hf
          refine callSI (rest := []) 0 0 hC hw (st1 _) (metX3_behindSteps hz4) mi_X3_behindSteps q757 (rm_ok (by decide) (by decide)) rfl hl.1 rfl (Nat.le_of_ble_eq_true rfl) dX3_isFit_46 ⟨Nat.zero_le _, Nat.zero_le _⟩ (st2 _) (fun H locs hw => ?_)
          refine lv_bipush (v := 10) hx hb dX3_isFit_49 rfl ?_
          refine lv_idiv hx hb dX3_isFit_51 (by decide) ?_
          refine lv_aload_n hx hb dX3_isFit_52 rfl (lv_at hl 0 rfl) ?_
          refine gX3_this_sightCell hC hw dX3_isFit_53 ?_
          refine lv_iload_n hx hb dX3_isFit_56 rfl (lv_at hl 3 rfl) ?_
          obtain ⟨b5, hf⟩ := dk_c hf
          refine aX3_m_sightCell hC hw b5 dX3_isFit_57 ?_
          refine lv_icmp_ne (tgt := 65) hx hb dX3_isFit_58 rfl (fun c6 => ?_) (fun c6 => ?_)
          · have hf := dk_f c6 hf
            refine lv_iconst (v := 0) hx hb dX3_isFit_65 rfl ?_
            refine lv_istore_n (lv' := [(2, .int 0), (0, .ref (h 0)), (1, .int v1), (3, .int v3)]) hx hb dX3_isFit_66 rfl hl (by decide) rfl (fun ls hl => ?_)
            refine lv_iinc (v := (v3 + 1)) (lv' := [(3, .int (v3 + 1)), (2, .int 0), (0, .ref (h 0)), (1, .int v1)]) hx hb dX3_isFit_67 hl (k := 3) rfl rfl (by decide) rfl (fun ls hl => ?_)
            refine lv_goto (tgt := 27) hx hb dX3_isFit_70 rfl ?_
            exact ih 0 (v3 + 1) _ _ _ hw (lv_sub hl [2, 3, 1, 0] rfl) hf
          · have hf := dk_t c6 hf
            refine lv_iconst (v := 1) hx hb dX3_isFit_61 rfl ?_
            refine lv_goto (tgt := 66) hx hb dX3_isFit_62 rfl ?_
            refine lv_istore_n (lv' := [(2, .int 1), (0, .ref (h 0)), (1, .int v1), (3, .int v3)]) hx hb dX3_isFit_66 rfl hl (by decide) rfl (fun ls hl => ?_)
            refine lv_iinc (v := (v3 + 1)) (lv' := [(3, .int (v3 + 1)), (2, .int 1), (0, .ref (h 0)), (1, .int v1)]) hx hb dX3_isFit_67 hl (k := 3) rfl rfl (by decide) rfl (fun ls hl => ?_)
            refine lv_goto (tgt := 27) hx hb dX3_isFit_70 rfl ?_
            exact ih 1 (v3 + 1) _ _ _ hw (lv_sub hl [2, 3, 1, 0] rfl) hf
  refine lv_iload_n hx hb dX3_isFit_0 rfl (lv_at hl 1 rfl) ?_
  refine lv_bipush (v := 10) hx hb dX3_isFit_1 rfl ?_
  refine lv_irem hx hb dX3_isFit_3 (by decide) ?_
  refine lv_bipush (v := 8) hx hb dX3_isFit_4 rfl ?_
  refine lv_icmp_ge (tgt := 23) hx hb dX3_isFit_6 rfl (fun c10 => ?_) (fun c10 => ?_)
  · have hf := dk_t c10 hf
    refine lv_iconst (v := 0) hx hb dX3_isFit_23 rfl ?_
    refine lv_istore_n (lv' := [(2, .int 0), (0, .ref (h 0)), (1, .int v1)]) hx hb dX3_isFit_24 rfl hl (by decide) rfl (fun ls hl => ?_)
    refine lv_iconst (v := 0) hx hb dX3_isFit_25 rfl ?_
    refine lv_istore_n (lv' := [(3, .int 0), (2, .int 0), (0, .ref (h 0)), (1, .int v1)]) hx hb dX3_isFit_26 rfl hl (by decide) rfl (fun ls hl => ?_)
    exact L27 FU 0 0 _ _ _ hw (lv_sub hl [2, 3, 1, 0] rfl) hf
  · have hf := dk_f c10 hf
    refine lv_iload_n hx hb dX3_isFit_9 rfl (lv_at hl 1 rfl) ?_
    refine lv_bipush (v := 10) hx hb dX3_isFit_10 rfl ?_
    refine lv_idiv hx hb dX3_isFit_12 (by decide) ?_
    refine callSI (rest := []) 0 0 hC hw (st1 _) (metX3_isPocket rfl) mi_X3_isPocket q600 (rm_ok (by decide) (by decide)) rfl hl.1 rfl (Nat.le_of_ble_eq_true rfl) dX3_isFit_13 ⟨Nat.zero_le _, Nat.zero_le _⟩ (st2 _) (fun H locs hw => ?_)
    refine lv_if_ne (tgt := 23) hx hb dX3_isFit_16 rfl (fun c9 => ?_) (fun c9 => ?_)
    · have hf := dk_f c9 hf
      refine lv_iconst (v := 0) hx hb dX3_isFit_23 rfl ?_
      refine lv_istore_n (lv' := [(2, .int 0), (0, .ref (h 0)), (1, .int v1)]) hx hb dX3_isFit_24 rfl hl (by decide) rfl (fun ls hl => ?_)
      refine lv_iconst (v := 0) hx hb dX3_isFit_25 rfl ?_
      refine lv_istore_n (lv' := [(3, .int 0), (2, .int 0), (0, .ref (h 0)), (1, .int v1)]) hx hb dX3_isFit_26 rfl hl (by decide) rfl (fun ls hl => ?_)
      exact L27 FU 0 0 _ _ _ hw (lv_sub hl [2, 3, 1, 0] rfl) hf
    · have hf := dk_t c9 hf
      refine lv_iconst (v := 1) hx hb dX3_isFit_19 rfl ?_
      refine lv_goto (tgt := 24) hx hb dX3_isFit_20 rfl ?_
      refine lv_istore_n (lv' := [(2, .int 1), (0, .ref (h 0)), (1, .int v1)]) hx hb dX3_isFit_24 rfl hl (by decide) rfl (fun ls hl => ?_)
      refine lv_iconst (v := 0) hx hb dX3_isFit_25 rfl ?_
      refine lv_istore_n (lv' := [(3, .int 0), (2, .int 1), (0, .ref (h 0)), (1, .int v1)]) hx hb dX3_isFit_26 rfl hl (by decide) rfl (fun ls hl => ?_)
      exact L27 FU 1 0 _ _ _ hw (lv_sub hl [2, 3, 1, 0] rfl) hf
set_option maxHeartbeats 4000000 in
set_option maxRecDepth 100000 in
theorem metX3_findFits  {res : (Nat → Int32) × (Nat → Int32) × Int32} (hf : fX3_findFits m_sightStep m_sightCell m_sights m_fit m_now m_fitMany = some res) : CtV l yX3_findFits cX3_findFits 2 5 D E sz [.ref (h 0)] (WX3 h E m_cell m_points m_fouls m_evening m_sightStep m_sightCell m_sights m_pad m_padMany m_act m_which m_whither m_hard m_acts m_moving m_goes m_left m_touches m_cushions m_cushionsThen m_touchedFirst m_stepsThen m_downNow m_touchedMany m_cushionMany m_were m_had m_badAct m_badWhy m_foulAct m_met m_far m_fit m_now m_fitMany m_byCell m_wins m_chance m_kept m_isKept m_keptAt m_isWriting) (WX3 h E m_cell m_points m_fouls m_evening m_sightStep m_sightCell m_sights m_pad m_padMany m_act m_which m_whither m_hard m_acts m_moving m_goes m_left m_touches m_cushions m_cushionsThen m_touchedFirst m_stepsThen m_downNow m_touchedMany m_cushionMany m_were m_had m_badAct m_badWhy m_foulAct m_met m_far res.1 res.2.1 res.2.2 m_byCell m_wins m_chance m_kept m_isKept m_keptAt m_isWriting) := by
  refine startV (own := RX3) (by decide) rfl (Nat.le_of_ble_eq_true rfl) ?_
  intro p e s m args below meth c A Q ls hC ret hl hw
  have hx := hC.1.1
  have hb := hC.1.2.1
  have hown := hC.1.2.2.2.1
  have hts := hC.1.2.2.2.2
  have hl : lv_has ls 2 [(0, .ref (h 0))] := hl
  have L7 : ∀ (n : Nat), ∀ (v1 : Int32) (m_fit : Nat → Int32) (m_now : Nat → Int32) (m_fitMany : Int32) (H : Heap) (locs : List Loc) (ls : Array Slot), Wo D A s.heap H locs (WX3 h E m_cell m_points m_fouls m_evening m_sightStep m_sightCell m_sights m_pad m_padMany m_act m_which m_whither m_hard m_acts m_moving m_goes m_left m_touches m_cushions m_cushionsThen m_touchedFirst m_stepsThen m_downNow m_touchedMany m_cushionMany m_were m_had m_badAct m_badWhy m_foulAct m_met m_far m_fit m_now m_fitMany m_byCell m_wins m_chance m_kept m_isKept m_keptAt m_isWriting) → lv_has ls 2 [(0, .ref (h 0)), (1, .int v1)] → fX3_findFits_L7 m_sightStep m_sightCell m_sights  n v1 m_fit m_now m_fitMany = some res → W p l e (rmN 5) s m args below meth c H locs 0 0 Q (F0 m 7 ls []) := by
    intro  n
    induction n with
    | zero =>
      intro v1 m_fit m_now m_fitMany H locs ls hw hl hf
      exact dk_n hf
    | succ n ih =>
      intro v1 m_fit m_now m_fitMany H locs ls hw hl hf
      refine lv_iload_n hx hb dX3_findFits_7 rfl (lv_at hl 1 rfl) ?_
      refine lv_sipush (v := 450) hx hb dX3_findFits_8 rfl ?_
      refine lv_icmp_ge (tgt := 58) hx hb dX3_findFits_11 rfl (fun c5 => ?_) (fun c5 => ?_)
      · have hf := dk_t c5 hf
        obtain rfl := Option.some.inj hf
        exact ret _ _ _ _ dX3_findFits_58 hw
      · have hf := dk_f c5 hf
        refine lv_aload_n hx hb dX3_findFits_14 rfl (lv_at hl 0 rfl) ?_
        refine lv_iload_n hx hb dX3_findFits_15 rfl (lv_at hl 1 rfl) ?_
        obtain ⟨z1, hz1, hf⟩ := dk_b hf
        refine callVI (rest := []) 0 _ 3 hC hw (sm1 _) (metX3_isFit hz1) mi_X3_isFit q803 (rm_ok (by decide) (by decide)) rfl rfl rfl hl.1 rfl (Nat.le_of_ble_eq_true rfl) dX3_findFits_16 ⟨Nat.zero_le _, Nat.zero_le _⟩ (sm2 _ _) (fun H locs hw => ?_)
        refine lv_if_eq (tgt := 52) hx hb dX3_findFits_19 rfl (fun c4 => ?_) (fun c4 => ?_)
        · have hf := dk_t c4 hf
          refine lv_iinc (v := (v1 + 1)) (lv' := [(1, .int (v1 + 1)), (0, .ref (h 0))]) hx hb dX3_findFits_52 hl (k := 1) rfl rfl (by decide) rfl (fun ls hl => ?_)
          refine lv_goto (tgt := 7) hx hb dX3_findFits_55 rfl ?_
          exact ih (v1 + 1) m_fit m_now m_fitMany _ _ _ hw (lv_sub hl [1, 0] rfl) hf
        · have hf := dk_f c4 hf
          refine lv_aload_n hx hb dX3_findFits_22 rfl (lv_at hl 0 rfl) ?_
          refine gX3_this_fit hC hw dX3_findFits_23 ?_
          refine lv_aload_n hx hb dX3_findFits_26 rfl (lv_at hl 0 rfl) ?_
          refine gX3_this_fitMany hC hw dX3_findFits_27 ?_
          refine lv_iload_n hx hb dX3_findFits_30 rfl (lv_at hl 1 rfl) ?_
          obtain ⟨b2, hf⟩ := dk_c hf
          refine sX3_m_fit hC hw b2 dX3_findFits_31 (fun H locs hw => ?_)
          refine lv_aload_n hx hb dX3_findFits_32 rfl (lv_at hl 0 rfl) ?_
          refine gX3_this_now hC hw dX3_findFits_33 ?_
          refine lv_aload_n hx hb dX3_findFits_36 rfl (lv_at hl 0 rfl) ?_
          refine gX3_this_fitMany hC hw dX3_findFits_37 ?_
          refine lv_iload_n hx hb dX3_findFits_40 rfl (lv_at hl 1 rfl) ?_
          obtain ⟨b3, hf⟩ := dk_c hf
          refine sX3_m_now hC hw b3 dX3_findFits_41 (fun H locs hw => ?_)
          refine lv_aload_n hx hb dX3_findFits_42 rfl (lv_at hl 0 rfl) ?_
          refine lv_dup hx hb dX3_findFits_43 rfl ?_
          refine gX3_this_fitMany hC hw dX3_findFits_44 ?_
          refine lv_iconst (v := 1) hx hb dX3_findFits_47 rfl ?_
          refine lv_iadd hx hb dX3_findFits_48 ?_
          refine pX3_this_fitMany hC hw dX3_findFits_49 (fun H locs hw => ?_)
          refine lv_iinc (v := (v1 + 1)) (lv' := [(1, .int (v1 + 1)), (0, .ref (h 0))]) hx hb dX3_findFits_52 hl (k := 1) rfl rfl (by decide) rfl (fun ls hl => ?_)
          refine lv_goto (tgt := 7) hx hb dX3_findFits_55 rfl ?_
          exact ih (v1 + 1) (upd m_fit m_fitMany.toNatClampNeg v1) (upd m_now m_fitMany.toNatClampNeg v1) (m_fitMany + 1) _ _ _ hw (lv_sub hl [1, 0] rfl) hf
  refine lv_aload_n hx hb dX3_findFits_0 rfl (lv_at hl 0 rfl) ?_
  refine lv_iconst (v := 0) hx hb dX3_findFits_1 rfl ?_
  refine pX3_this_fitMany hC hw dX3_findFits_2 (fun H locs hw => ?_)
  refine lv_iconst (v := 0) hx hb dX3_findFits_5 rfl ?_
  refine lv_istore_n (lv' := [(1, .int 0), (0, .ref (h 0))]) hx hb dX3_findFits_6 rfl hl (by decide) rfl (fun ls hl => ?_)
  exact L7 FU 0 m_fit m_now 0 _ _ _ hw (lv_sub hl [1, 0] rfl) hf
set_option maxHeartbeats 4000000 in
set_option maxRecDepth 100000 in
theorem metX3_sent {v1 : Int32} {res : Int32 × (Nat → Int32) × (Nat → Int32) × Int32} (hf : fX3_sent v1 m_sightStep m_sightCell m_sights m_fit m_now m_fitMany = some res) : CtI l yX3_sent cX3_sent 2 .int 6 D E sz [.ref (h 0), .int v1] (WX3 h E m_cell m_points m_fouls m_evening m_sightStep m_sightCell m_sights m_pad m_padMany m_act m_which m_whither m_hard m_acts m_moving m_goes m_left m_touches m_cushions m_cushionsThen m_touchedFirst m_stepsThen m_downNow m_touchedMany m_cushionMany m_were m_had m_badAct m_badWhy m_foulAct m_met m_far m_fit m_now m_fitMany m_byCell m_wins m_chance m_kept m_isKept m_keptAt m_isWriting) (WX3 h E m_cell m_points m_fouls m_evening m_sightStep m_sightCell m_sights m_pad m_padMany m_act m_which m_whither m_hard m_acts m_moving m_goes m_left m_touches m_cushions m_cushionsThen m_touchedFirst m_stepsThen m_downNow m_touchedMany m_cushionMany m_were m_had m_badAct m_badWhy m_foulAct m_met m_far res.2.1 res.2.2.1 res.2.2.2 m_byCell m_wins m_chance m_kept m_isKept m_keptAt m_isWriting) res.1 := by
  refine startI (own := RX3) (by decide) rfl (Nat.le_of_ble_eq_true rfl) ?_
  intro p e s m args below meth c A Q ls hC ret hl hw
  have hx := hC.1.1
  have hb := hC.1.2.1
  have hown := hC.1.2.2.2.1
  have hts := hC.1.2.2.2.2
  have hl : lv_has ls 2 [(0, .ref (h 0)), (1, .int v1)] := hl
  refine lv_aload_n hx hb dX3_sent_0 rfl (lv_at hl 0 rfl) ?_
  obtain ⟨z1, hz1, hf⟩ := dk_b hf
  refine callVV (rest := []) 0 _ 3 hC hw (sm1 _) (metX3_findFits hz1) mi_X3_findFits q799 (rm_ok (by decide) (by decide)) rfl rfl rfl hl.1 rfl (Nat.le_of_ble_eq_true rfl) dX3_sent_1 ⟨Nat.zero_le _, Nat.zero_le _⟩ (sm2 _ _) (fun H locs hw => ?_)
  refine lv_iload_n hx hb dX3_sent_4 rfl (lv_at hl 1 rfl) ?_
  refine lv_iconst (v := (-1)) hx hb dX3_sent_5 rfl ?_
  refine lv_icmp_ne (tgt := 16) hx hb dX3_sent_6 rfl (fun c4 => ?_) (fun c4 => ?_)
  · have hf := dk_f c4 hf
    refine lv_iload_n hx hb dX3_sent_16 rfl (lv_at hl 1 rfl) ?_
    refine lv_i2l (v := (v1.toInt64)) hx hb dX3_sent_17 rfl ?_
    refine lv_lconst (v := 0) hx hb dX3_sent_18 rfl ?_
    refine lv_aload_n hx hb dX3_sent_19 rfl (lv_at hl 0 rfl) ?_
    refine gX3_this_fitMany hC hw dX3_sent_20 ?_
    refine lv_iconst (v := 1) hx hb dX3_sent_23 rfl ?_
    refine lv_isub hx hb dX3_sent_24 ?_
    refine lv_i2l (v := ((z1.2.2 - 1).toInt64)) hx hb dX3_sent_25 rfl ?_
    refine callSI (rest := []) 0 0 hC hw (st1 _) (metX3_in rfl) mi_X3_in q590 (rm_ok (by decide) (by decide)) rfl hl.1 rfl (Nat.le_of_ble_eq_true rfl) dX3_sent_26 ⟨Nat.zero_le _, Nat.zero_le _⟩ (st2 _) (fun H locs hw => ?_)
    refine lv_if_eq (tgt := 41) hx hb dX3_sent_29 rfl (fun c3 => ?_) (fun c3 => ?_)
    · have hf := dk_t c3 hf
      refine lv_bipush (v := (-6)) hx hb dX3_sent_41 rfl ?_
      obtain rfl := Option.some.inj hf
      exact ret _ _ _ _ _ dX3_sent_43 rfl rfl hw
    · have hf := dk_f c3 hf
      refine lv_aload_n hx hb dX3_sent_32 rfl (lv_at hl 0 rfl) ?_
      refine gX3_this_fit hC hw dX3_sent_33 ?_
      refine lv_iload_n hx hb dX3_sent_36 rfl (lv_at hl 1 rfl) ?_
      obtain ⟨b2, hf⟩ := dk_c hf
      refine aX3_m_fit hC hw b2 dX3_sent_37 ?_
      refine lv_goto (tgt := 43) hx hb dX3_sent_38 rfl ?_
      obtain rfl := Option.some.inj hf
      exact ret _ _ _ _ _ dX3_sent_43 rfl rfl hw
  · have hf := dk_t c4 hf
    refine lv_aload_n hx hb dX3_sent_9 rfl (lv_at hl 0 rfl) ?_
    refine gX3_this_fitMany hC hw dX3_sent_10 ?_
    refine lv_goto (tgt := 43) hx hb dX3_sent_13 rfl ?_
    obtain rfl := Option.some.inj hf
    exact ret _ _ _ _ _ dX3_sent_43 rfl rfl hw
set_option maxHeartbeats 4000000 in
set_option maxRecDepth 100000 in
theorem metX3_mostNow  {res : Int32 × (Nat → Int32) × (Nat → Int32)} (hf : fX3_mostNow m_now m_fitMany m_byCell = some res) : CtI l yX3_mostNow cX3_mostNow 4 .int 3 D E sz [.ref (h 0)] (WX3 h E m_cell m_points m_fouls m_evening m_sightStep m_sightCell m_sights m_pad m_padMany m_act m_which m_whither m_hard m_acts m_moving m_goes m_left m_touches m_cushions m_cushionsThen m_touchedFirst m_stepsThen m_downNow m_touchedMany m_cushionMany m_were m_had m_badAct m_badWhy m_foulAct m_met m_far m_fit m_now m_fitMany m_byCell m_wins m_chance m_kept m_isKept m_keptAt m_isWriting) (WX3 h E m_cell m_points m_fouls m_evening m_sightStep m_sightCell m_sights m_pad m_padMany m_act m_which m_whither m_hard m_acts m_moving m_goes m_left m_touches m_cushions m_cushionsThen m_touchedFirst m_stepsThen m_downNow m_touchedMany m_cushionMany m_were m_had m_badAct m_badWhy m_foulAct m_met m_far m_fit res.2.1 m_fitMany res.2.2 m_wins m_chance m_kept m_isKept m_keptAt m_isWriting) res.1 := by
  refine startI (own := RX3) (by decide) rfl (Nat.le_of_ble_eq_true rfl) ?_
  intro p e s m args below meth c A Q ls hC ret hl hw
  have hx := hC.1.1
  have hb := hC.1.2.1
  have hown := hC.1.2.2.2.1
  have hts := hC.1.2.2.2.2
  have hl : lv_has ls 4 [(0, .ref (h 0))] := hl
  have L73 : ∀ (k25c : Int32 → Int32 → (Nat → Int32) → (Nat → Int32) → Option (Int32 × (Nat → Int32) × (Nat → Int32))) (hk25 : ∀ (v1 : Int32) (v2 : Int32) (m_now : Nat → Int32) (m_byCell : Nat → Int32) (H : Heap) (locs : List Loc) (ls : Array Slot), Wo D A s.heap H locs (WX3 h E m_cell m_points m_fouls m_evening m_sightStep m_sightCell m_sights m_pad m_padMany m_act m_which m_whither m_hard m_acts m_moving m_goes m_left m_touches m_cushions m_cushionsThen m_touchedFirst m_stepsThen m_downNow m_touchedMany m_cushionMany m_were m_had m_badAct m_badWhy m_foulAct m_met m_far m_fit m_now m_fitMany m_byCell m_wins m_chance m_kept m_isKept m_keptAt m_isWriting) → lv_has ls 4 [(0, .ref (h 0)), (1, .int v1), (2, .int v2)] → k25c v1 v2 m_now m_byCell = some res → W p l e (rmN 3) s m args below meth c H locs 0 0 Q (F0 m 25 ls [])) (v2 : Int32) (k0 : Int32) (m_now : Nat → Int32) (m_byCell : Nat → Int32) (H : Heap) (locs : List Loc) (ls : Array Slot), Wo D A s.heap H locs (WX3 h E m_cell m_points m_fouls m_evening m_sightStep m_sightCell m_sights m_pad m_padMany m_act m_which m_whither m_hard m_acts m_moving m_goes m_left m_touches m_cushions m_cushionsThen m_touchedFirst m_stepsThen m_downNow m_touchedMany m_cushionMany m_were m_had m_badAct m_badWhy m_foulAct m_met m_far m_fit m_now m_fitMany m_byCell m_wins m_chance m_kept m_isKept m_keptAt m_isWriting) → lv_has ls 4 [(0, .ref (h 0)), (2, .int v2)] → fX3_mostNow_L73 m_fitMany k25c v2 k0 m_now m_byCell = some res → W p l e (rmN 3) s m args below meth c H locs 0 0 Q (F0 m 73 ls [.int k0]) := by
    intro k25c hk25 v2 k0 m_now m_byCell H locs ls hw hl hf
    refine lv_istore_n (lv' := [(1, .int k0), (0, .ref (h 0)), (2, .int v2)]) hx hb dX3_mostNow_73 rfl hl (by decide) rfl (fun ls hl => ?_)
    refine lv_aload_n hx hb dX3_mostNow_74 rfl (lv_at hl 1 rfl) ?_
    refine gX3_this_now hC hw dX3_mostNow_75 ?_
    refine lv_iload_n hx hb dX3_mostNow_78 rfl (lv_at hl 2 rfl) ?_
    refine lv_aload_n hx hb dX3_mostNow_79 rfl (lv_at hl 1 rfl) ?_
    refine gX3_this_now hC hw dX3_mostNow_80 ?_
    refine lv_iload_n hx hb dX3_mostNow_83 rfl (lv_at hl 2 rfl) ?_
    obtain ⟨b5, hf⟩ := dk_c hf
    refine aX3_m_now hC hw b5 dX3_mostNow_84 ?_
    refine callSI (rest := [.int v2, .ref (h 14)]) 0 0 hC hw (st1 _) (metX3_next rfl) mi_X3_next q760 (rm_ok (by decide) (by decide)) rfl hl.1 rfl (Nat.le_of_ble_eq_true rfl) dX3_mostNow_85 ⟨Nat.zero_le _, Nat.zero_le _⟩ (st2 _) (fun H locs hw => ?_)
    obtain ⟨b6, hf⟩ := dk_c hf
    refine sX3_m_now hC hw b6 dX3_mostNow_88 (fun H locs hw => ?_)
    refine lv_iinc (v := (v2 + 1)) (lv' := [(2, .int (v2 + 1)), (1, .int k0), (0, .ref (h 0))]) hx hb dX3_mostNow_89 hl (k := 2) rfl rfl (by decide) rfl (fun ls hl => ?_)
    refine lv_goto (tgt := 25) hx hb dX3_mostNow_92 rfl ?_
    exact hk25 k0 (v2 + 1) (upd m_now v2.toNatClampNeg (fX3_next (m_now v2.toNatClampNeg))) m_byCell _ _ _ hw (lv_sub hl [2, 1, 0] rfl) hf
  have L25 : ∀ (n : Nat), ∀ (v1 : Int32) (v2 : Int32) (m_now : Nat → Int32) (m_byCell : Nat → Int32) (H : Heap) (locs : List Loc) (ls : Array Slot), Wo D A s.heap H locs (WX3 h E m_cell m_points m_fouls m_evening m_sightStep m_sightCell m_sights m_pad m_padMany m_act m_which m_whither m_hard m_acts m_moving m_goes m_left m_touches m_cushions m_cushionsThen m_touchedFirst m_stepsThen m_downNow m_touchedMany m_cushionMany m_were m_had m_badAct m_badWhy m_foulAct m_met m_far m_fit m_now m_fitMany m_byCell m_wins m_chance m_kept m_isKept m_keptAt m_isWriting) → lv_has ls 4 [(0, .ref (h 0)), (1, .int v1), (2, .int v2)] → fX3_mostNow_L25 m_fitMany  n v1 v2 m_now m_byCell = some res → W p l e (rmN 3) s m args below meth c H locs 0 0 Q (F0 m 25 ls []) := by
    intro  n
    induction n with
    | zero =>
      intro v1 v2 m_now m_byCell H locs ls hw hl hf
      exact dk_n hf
    | succ n ih =>
      intro v1 v2 m_now m_byCell H locs ls hw hl hf
      refine lv_iload_n hx hb dX3_mostNow_25 rfl (lv_at hl 2 rfl) ?_
      refine lv_aload_n hx hb dX3_mostNow_26 rfl (lv_at hl 0 rfl) ?_
      refine gX3_this_fitMany hC hw dX3_mostNow_27 ?_
      refine lv_icmp_ge (tgt := 95) hx hb dX3_mostNow_30 rfl (fun c9 => ?_) (fun c9 => ?_)
      · have hf := dk_t c9 hf
        refine lv_iload_n hx hb dX3_mostNow_95 rfl (lv_at hl 1 rfl) ?_
        obtain rfl := Option.some.inj hf
        exact ret _ _ _ _ _ dX3_mostNow_96 rfl rfl hw
      · have hf := dk_f c9 hf
        refine lv_aload_n hx hb dX3_mostNow_33 rfl (lv_at hl 0 rfl) ?_
        refine gX3_this_now hC hw dX3_mostNow_34 ?_
        refine lv_iload_n hx hb dX3_mostNow_37 rfl (lv_at hl 2 rfl) ?_
        obtain ⟨b1, hf⟩ := dk_c hf
        refine aX3_m_now hC hw b1 dX3_mostNow_38 ?_
        refine lv_bipush (v := 10) hx hb dX3_mostNow_39 rfl ?_
        refine lv_idiv hx hb dX3_mostNow_41 (by decide) ?_
        refine lv_istore_n (lv' := [(3, .int ((m_now v2.toNatClampNeg) / 10)), (0, .ref (h 0)), (1, .int v1), (2, .int v2)]) hx hb dX3_mostNow_42 rfl hl (by decide) rfl (fun ls hl => ?_)
        refine lv_aload_n hx hb dX3_mostNow_43 rfl (lv_at hl 1 rfl) ?_
        refine gX3_this_byCell hC hw dX3_mostNow_44 ?_
        refine lv_iload_n hx hb dX3_mostNow_47 rfl (lv_at hl 0 rfl) ?_
        refine lv_dup2_11 hx hb dX3_mostNow_48 rfl rfl ?_
        obtain ⟨b2, hf⟩ := dk_c hf
        refine aX3_m_byCell hC hw b2 dX3_mostNow_49 ?_
        refine lv_iconst (v := 1) hx hb dX3_mostNow_50 rfl ?_
        refine lv_iadd hx hb dX3_mostNow_51 ?_
        obtain ⟨b3, hf⟩ := dk_c hf
        refine sX3_m_byCell hC hw b3 dX3_mostNow_52 (fun H locs hw => ?_)
        refine lv_aload_n hx hb dX3_mostNow_53 rfl (lv_at hl 1 rfl) ?_
        refine gX3_this_byCell hC hw dX3_mostNow_54 ?_
        refine lv_iload_n hx hb dX3_mostNow_57 rfl (lv_at hl 0 rfl) ?_
        obtain ⟨b4, hf⟩ := dk_c hf
        refine aX3_m_byCell hC hw b4 dX3_mostNow_58 ?_
        refine lv_iload_n hx hb dX3_mostNow_59 rfl (lv_at hl 2 rfl) ?_
        refine lv_icmp_le (tgt := 72) hx hb dX3_mostNow_60 rfl (fun c8 => ?_) (fun c8 => ?_)
        · have hf := dk_t c8 hf
          refine lv_iload_n hx hb dX3_mostNow_72 rfl (lv_at hl 2 rfl) ?_
          exact L73 (fun y0 y1 y2 y3 => fX3_mostNow_L25 m_fitMany n y0 y1 y2 y3) ih v2 v1 m_now (upd m_byCell ((m_now v2.toNatClampNeg) / 10).toNatClampNeg ((m_byCell ((m_now v2.toNatClampNeg) / 10).toNatClampNeg) + 1)) _ _ _ hw (lv_sub hl [1, 3] rfl) hf
        · have hf := dk_f c8 hf
          refine lv_aload_n hx hb dX3_mostNow_63 rfl (lv_at hl 1 rfl) ?_
          refine gX3_this_byCell hC hw dX3_mostNow_64 ?_
          refine lv_iload_n hx hb dX3_mostNow_67 rfl (lv_at hl 0 rfl) ?_
          obtain ⟨b7, hf⟩ := dk_c hf
          refine aX3_m_byCell hC hw b7 dX3_mostNow_68 ?_
          refine lv_goto (tgt := 73) hx hb dX3_mostNow_69 rfl ?_
          exact L73 (fun y0 y1 y2 y3 => fX3_mostNow_L25 m_fitMany n y0 y1 y2 y3) ih v2 ((upd m_byCell ((m_now v2.toNatClampNeg) / 10).toNatClampNeg ((m_byCell ((m_now v2.toNatClampNeg) / 10).toNatClampNeg) + 1)) ((m_now v2.toNatClampNeg) / 10).toNatClampNeg) m_now (upd m_byCell ((m_now v2.toNatClampNeg) / 10).toNatClampNeg ((m_byCell ((m_now v2.toNatClampNeg) / 10).toNatClampNeg) + 1)) _ _ _ hw (lv_sub hl [1, 3] rfl) hf
  have L4 : ∀ (n : Nat), ∀ (v1 : Int32) (v2 : Int32) (m_now : Nat → Int32) (m_byCell : Nat → Int32) (H : Heap) (locs : List Loc) (ls : Array Slot), Wo D A s.heap H locs (WX3 h E m_cell m_points m_fouls m_evening m_sightStep m_sightCell m_sights m_pad m_padMany m_act m_which m_whither m_hard m_acts m_moving m_goes m_left m_touches m_cushions m_cushionsThen m_touchedFirst m_stepsThen m_downNow m_touchedMany m_cushionMany m_were m_had m_badAct m_badWhy m_foulAct m_met m_far m_fit m_now m_fitMany m_byCell m_wins m_chance m_kept m_isKept m_keptAt m_isWriting) → lv_has ls 4 [(0, .ref (h 0)), (1, .int v1), (2, .int v2)] → fX3_mostNow_L4 m_fitMany  n v1 v2 m_now m_byCell = some res → W p l e (rmN 3) s m args below meth c H locs 0 0 Q (F0 m 4 ls []) := by
    intro  n
    induction n with
    | zero =>
      intro v1 v2 m_now m_byCell H locs ls hw hl hf
      exact dk_n hf
    | succ n ih =>
      intro v1 v2 m_now m_byCell H locs ls hw hl hf
      refine lv_iload_n hx hb dX3_mostNow_4 rfl (lv_at hl 2 rfl) ?_
      refine lv_bipush (v := 45) hx hb dX3_mostNow_5 rfl ?_
      refine lv_icmp_ge (tgt := 23) hx hb dX3_mostNow_7 rfl (fun c11 => ?_) (fun c11 => ?_)
      · have hf := dk_t c11 hf
        refine lv_iconst (v := 0) hx hb dX3_mostNow_23 rfl ?_
        refine lv_istore_n (lv' := [(2, .int 0), (0, .ref (h 0)), (1, .int v1)]) hx hb dX3_mostNow_24 rfl hl (by decide) rfl (fun ls hl => ?_)
        exact L25 FU v1 0 m_now m_byCell _ _ _ hw (lv_sub hl [1, 2, 0] rfl) hf
      · have hf := dk_f c11 hf
        refine lv_aload_n hx hb dX3_mostNow_10 rfl (lv_at hl 0 rfl) ?_
        refine gX3_this_byCell hC hw dX3_mostNow_11 ?_
        refine lv_iload_n hx hb dX3_mostNow_14 rfl (lv_at hl 2 rfl) ?_
        refine lv_iconst (v := 0) hx hb dX3_mostNow_15 rfl ?_
        obtain ⟨b10, hf⟩ := dk_c hf
        refine sX3_m_byCell hC hw b10 dX3_mostNow_16 (fun H locs hw => ?_)
        refine lv_iinc (v := (v2 + 1)) (lv' := [(2, .int (v2 + 1)), (0, .ref (h 0)), (1, .int v1)]) hx hb dX3_mostNow_17 hl (k := 2) rfl rfl (by decide) rfl (fun ls hl => ?_)
        refine lv_goto (tgt := 4) hx hb dX3_mostNow_20 rfl ?_
        exact ih v1 (v2 + 1) m_now (upd m_byCell v2.toNatClampNeg 0) _ _ _ hw (lv_sub hl [1, 2, 0] rfl) hf
  refine lv_iconst (v := 0) hx hb dX3_mostNow_0 rfl ?_
  refine lv_istore_n (lv' := [(1, .int 0), (0, .ref (h 0))]) hx hb dX3_mostNow_1 rfl hl (by decide) rfl (fun ls hl => ?_)
  refine lv_iconst (v := 0) hx hb dX3_mostNow_2 rfl ?_
  refine lv_istore_n (lv' := [(2, .int 0), (1, .int 0), (0, .ref (h 0))]) hx hb dX3_mostNow_3 rfl hl (by decide) rfl (fun ls hl => ?_)
  exact L4 FU 0 0 m_now m_byCell _ _ _ hw (lv_sub hl [2, 1, 0] rfl) hf
set_option maxHeartbeats 4000000 in
set_option maxRecDepth 100000 in
theorem metX3_ask {v1 : Int32} {res : Int32 × (Nat → Int32) × (Nat → Int32) × Int32 × (Nat → Int32)} (hf : fX3_ask v1 m_sightStep m_sightCell m_sights m_fit m_now m_fitMany m_byCell = some res) : CtI l yX3_ask cX3_ask 6 .int 6 D E sz [.ref (h 0), .int v1] (WX3 h E m_cell m_points m_fouls m_evening m_sightStep m_sightCell m_sights m_pad m_padMany m_act m_which m_whither m_hard m_acts m_moving m_goes m_left m_touches m_cushions m_cushionsThen m_touchedFirst m_stepsThen m_downNow m_touchedMany m_cushionMany m_were m_had m_badAct m_badWhy m_foulAct m_met m_far m_fit m_now m_fitMany m_byCell m_wins m_chance m_kept m_isKept m_keptAt m_isWriting) (WX3 h E m_cell m_points m_fouls m_evening m_sightStep m_sightCell m_sights m_pad m_padMany m_act m_which m_whither m_hard m_acts m_moving m_goes m_left m_touches m_cushions m_cushionsThen m_touchedFirst m_stepsThen m_downNow m_touchedMany m_cushionMany m_were m_had m_badAct m_badWhy m_foulAct m_met m_far res.2.1 res.2.2.1 res.2.2.2.1 res.2.2.2.2 m_wins m_chance m_kept m_isKept m_keptAt m_isWriting) res.1 := by
  refine startI (own := RX3) (by decide) rfl (Nat.le_of_ble_eq_true rfl) ?_
  intro p e s m args below meth c A Q ls hC ret hl hw
  have hx := hC.1.1
  have hb := hC.1.2.1
  have hown := hC.1.2.2.2.1
  have hts := hC.1.2.2.2.2
  have hl : lv_has ls 6 [(0, .ref (h 0)), (1, .int v1)] := hl
  have L82 : ∀ (v2 : Int32) (v3 : Int32) (m_fit : Nat → Int32) (m_now : Nat → Int32) (m_fitMany : Int32) (m_byCell : Nat → Int32) (H : Heap) (locs : List Loc) (ls : Array Slot), Wo D A s.heap H locs (WX3 h E m_cell m_points m_fouls m_evening m_sightStep m_sightCell m_sights m_pad m_padMany m_act m_which m_whither m_hard m_acts m_moving m_goes m_left m_touches m_cushions m_cushionsThen m_touchedFirst m_stepsThen m_downNow m_touchedMany m_cushionMany m_were m_had m_badAct m_badWhy m_foulAct m_met m_far m_fit m_now m_fitMany m_byCell m_wins m_chance m_kept m_isKept m_keptAt m_isWriting) → lv_has ls 6 [(1, .int v1), (2, .int v2), (3, .int v3)] → fX3_ask_L82 v1 m_sightStep m_sightCell m_sights  v2 v3 m_fit m_now m_fitMany m_byCell = some res → W p l e (rmN 6) s m args below meth c H locs 0 0 Q (F0 m 82 ls []) := by
    intro  v2 v3 m_fit m_now m_fitMany m_byCell H locs ls hw hl hf
    refine lv_iload_n hx hb dX3_ask_82 rfl (lv_at hl 1 rfl) ?_
    refine lv_if_lt (tgt := 90) hx hb dX3_ask_83 rfl (fun c3 => ?_) (fun c3 => ?_)
    · have hf := dk_t c3 hf
      refine lv_iload_n hx hb dX3_ask_90 rfl (lv_at hl 1 rfl) ?_
      refine lv_goto (tgt := 95) hx hb dX3_ask_91 rfl ?_
      obtain rfl := Option.some.inj hf
      exact ret _ _ _ _ _ dX3_ask_95 rfl rfl hw
    · have hf := dk_f c3 hf
      refine lv_iload_n hx hb dX3_ask_86 rfl (lv_at hl 0 rfl) ?_
      refine lv_if_ne (tgt := 94) hx hb dX3_ask_87 rfl (fun c2 => ?_) (fun c2 => ?_)
      · have hf := dk_f c2 hf
        refine lv_iload_n hx hb dX3_ask_94 rfl (lv_at hl 2 rfl) ?_
        obtain rfl := Option.some.inj hf
        exact ret _ _ _ _ _ dX3_ask_95 rfl rfl hw
      · have hf := dk_t c2 hf
        refine lv_iload_n hx hb dX3_ask_90 rfl (lv_at hl 1 rfl) ?_
        refine lv_goto (tgt := 95) hx hb dX3_ask_91 rfl ?_
        obtain rfl := Option.some.inj hf
        exact ret _ _ _ _ _ dX3_ask_95 rfl rfl hw
  have L62 : ∀ (k30c : Int32 → Int32 → Int32 → (Nat → Int32) → (Nat → Int32) → Int32 → (Nat → Int32) → Option (Int32 × (Nat → Int32) × (Nat → Int32) × Int32 × (Nat → Int32))) (hk30 : ∀ (v2 : Int32) (v3 : Int32) (v4 : Int32) (m_fit : Nat → Int32) (m_now : Nat → Int32) (m_fitMany : Int32) (m_byCell : Nat → Int32) (H : Heap) (locs : List Loc) (ls : Array Slot), Wo D A s.heap H locs (WX3 h E m_cell m_points m_fouls m_evening m_sightStep m_sightCell m_sights m_pad m_padMany m_act m_which m_whither m_hard m_acts m_moving m_goes m_left m_touches m_cushions m_cushionsThen m_touchedFirst m_stepsThen m_downNow m_touchedMany m_cushionMany m_were m_had m_badAct m_badWhy m_foulAct m_met m_far m_fit m_now m_fitMany m_byCell m_wins m_chance m_kept m_isKept m_keptAt m_isWriting) → lv_has ls 6 [(0, .ref (h 0)), (1, .int v1), (2, .int v2), (3, .int v3), (4, .int v4)] → k30c v2 v3 v4 m_fit m_now m_fitMany m_byCell = some res → W p l e (rmN 6) s m args below meth c H locs 0 0 Q (F0 m 30 ls [])) (v3 : Int32) (v4 : Int32) (v5 : Int32) (k0 : Int32) (m_fit : Nat → Int32) (m_now : Nat → Int32) (m_fitMany : Int32) (m_byCell : Nat → Int32) (H : Heap) (locs : List Loc) (ls : Array Slot), Wo D A s.heap H locs (WX3 h E m_cell m_points m_fouls m_evening m_sightStep m_sightCell m_sights m_pad m_padMany m_act m_which m_whither m_hard m_acts m_moving m_goes m_left m_touches m_cushions m_cushionsThen m_touchedFirst m_stepsThen m_downNow m_touchedMany m_cushionMany m_were m_had m_badAct m_badWhy m_foulAct m_met m_far m_fit m_now m_fitMany m_byCell m_wins m_chance m_kept m_isKept m_keptAt m_isWriting) → lv_has ls 6 [(0, .ref (h 0)), (1, .int v1), (3, .int v3), (4, .int v4), (5, .int v5)] → fX3_ask_L62 v1 m_sightStep m_sightCell m_sights k30c v3 v4 v5 k0 m_fit m_now m_fitMany m_byCell = some res → W p l e (rmN 6) s m args below meth c H locs 0 0 Q (F0 m 62 ls [.int k0]) := by
    intro k30c hk30 v3 v4 v5 k0 m_fit m_now m_fitMany m_byCell H locs ls hw hl hf
    refine lv_istore_n (lv' := [(2, .int k0), (0, .ref (h 0)), (1, .int v1), (3, .int v3), (4, .int v4), (5, .int v5)]) hx hb dX3_ask_62 rfl hl (by decide) rfl (fun ls hl => ?_)
    refine lv_iload hx hb dX3_ask_63 (lv_at hl 5 rfl) ?_
    refine lv_iload_n hx hb dX3_ask_65 rfl (lv_at hl 3 rfl) ?_
    refine lv_icmp_ge (tgt := 74) hx hb dX3_ask_66 rfl (fun c5 => ?_) (fun c5 => ?_)
    · have hf := dk_t c5 hf
      refine lv_iload_n hx hb dX3_ask_74 rfl (lv_at hl 3 rfl) ?_
      refine lv_istore_n (lv' := [(3, .int v3), (2, .int k0), (0, .ref (h 0)), (1, .int v1), (4, .int v4), (5, .int v5)]) hx hb dX3_ask_75 rfl hl (by decide) rfl (fun ls hl => ?_)
      refine lv_iinc (v := (v4 + 1)) (lv' := [(4, .int (v4 + 1)), (3, .int v3), (2, .int k0), (0, .ref (h 0)), (1, .int v1), (5, .int v5)]) hx hb dX3_ask_76 hl (k := 4) rfl rfl (by decide) rfl (fun ls hl => ?_)
      refine lv_goto (tgt := 30) hx hb dX3_ask_79 rfl ?_
      exact hk30 k0 v3 (v4 + 1) m_fit m_now m_fitMany m_byCell _ _ _ hw (lv_sub hl [3, 4, 2, 1, 0] rfl) hf
    · have hf := dk_f c5 hf
      refine lv_iload hx hb dX3_ask_69 (lv_at hl 5 rfl) ?_
      refine lv_goto (tgt := 75) hx hb dX3_ask_71 rfl ?_
      refine lv_istore_n (lv' := [(3, .int v5), (2, .int k0), (0, .ref (h 0)), (1, .int v1), (4, .int v4), (5, .int v5)]) hx hb dX3_ask_75 rfl hl (by decide) rfl (fun ls hl => ?_)
      refine lv_iinc (v := (v4 + 1)) (lv' := [(4, .int (v4 + 1)), (3, .int v5), (2, .int k0), (0, .ref (h 0)), (1, .int v1), (5, .int v5)]) hx hb dX3_ask_76 hl (k := 4) rfl rfl (by decide) rfl (fun ls hl => ?_)
      refine lv_goto (tgt := 30) hx hb dX3_ask_79 rfl ?_
      exact hk30 k0 v5 (v4 + 1) m_fit m_now m_fitMany m_byCell _ _ _ hw (lv_sub hl [3, 4, 2, 1, 0] rfl) hf
  have L30 : ∀ (n : Nat), ∀ (v2 : Int32) (v3 : Int32) (v4 : Int32) (m_fit : Nat → Int32) (m_now : Nat → Int32) (m_fitMany : Int32) (m_byCell : Nat → Int32) (H : Heap) (locs : List Loc) (ls : Array Slot), Wo D A s.heap H locs (WX3 h E m_cell m_points m_fouls m_evening m_sightStep m_sightCell m_sights m_pad m_padMany m_act m_which m_whither m_hard m_acts m_moving m_goes m_left m_touches m_cushions m_cushionsThen m_touchedFirst m_stepsThen m_downNow m_touchedMany m_cushionMany m_were m_had m_badAct m_badWhy m_foulAct m_met m_far m_fit m_now m_fitMany m_byCell m_wins m_chance m_kept m_isKept m_keptAt m_isWriting) → lv_has ls 6 [(0, .ref (h 0)), (1, .int v1), (2, .int v2), (3, .int v3), (4, .int v4)] → fX3_ask_L30 v1 m_sightStep m_sightCell m_sights  n v2 v3 v4 m_fit m_now m_fitMany m_byCell = some res → W p l e (rmN 6) s m args below meth c H locs 0 0 Q (F0 m 30 ls []) := by
    intro  n
    induction n with
    | zero =>
      intro v2 v3 v4 m_fit m_now m_fitMany m_byCell H locs ls hw hl hf
      exact dk_n hf
    | succ n ih =>
      intro v2 v3 v4 m_fit m_now m_fitMany m_byCell H locs ls hw hl hf
      refine lv_iload hx hb dX3_ask_30 (lv_at hl 4 rfl) ?_
      refine lv_bipush (v := 60) hx hb dX3_ask_32 rfl ?_
      refine lv_icmp_gt (tgt := 82) hx hb dX3_ask_34 rfl (fun c8 => ?_) (fun c8 => ?_)
      · have hf := dk_t c8 hf
        exact L82 v2 v3 m_fit m_now m_fitMany m_byCell _ _ _ hw (lv_sub hl [1, 2, 3] rfl) hf
      · have hf := dk_f c8 hf
        refine lv_aload_n hx hb dX3_ask_37 rfl (lv_at hl 0 rfl) ?_
        refine gX3_this_fitMany hC hw dX3_ask_38 ?_
        refine lv_if_le (tgt := 82) hx hb dX3_ask_41 rfl (fun c7 => ?_) (fun c7 => ?_)
        · have hf := dk_t c7 hf
          exact L82 v2 v3 m_fit m_now m_fitMany m_byCell _ _ _ hw (lv_sub hl [1, 2, 3] rfl) hf
        · have hf := dk_f c7 hf
          refine lv_aload_n hx hb dX3_ask_44 rfl (lv_at hl 0 rfl) ?_
          obtain ⟨z4, hz4, hf⟩ := dk_b hf
          refine callVI (rest := []) 0 _ 3 hC hw (sm1 _) (metX3_mostNow hz4) mi_X3_mostNow q811 (rm_ok (by decide) (by decide)) rfl rfl rfl hl.1 rfl (Nat.le_of_ble_eq_true rfl) dX3_ask_45 ⟨Nat.zero_le _, Nat.zero_le _⟩ (sm2 _ _) (fun H locs hw => ?_)
          refine lv_istore (lv' := [(5, .int z4.1), (0, .ref (h 0)), (1, .int v1), (2, .int v2), (3, .int v3), (4, .int v4)]) hx hb dX3_ask_48 hl (by decide) rfl (fun ls hl => ?_)
          refine lv_iload hx hb dX3_ask_50 (lv_at hl 0 rfl) ?_
          refine lv_iload_n hx hb dX3_ask_52 rfl (lv_at hl 4 rfl) ?_
          refine lv_icmp_ge (tgt := 61) hx hb dX3_ask_53 rfl (fun c6 => ?_) (fun c6 => ?_)
          · have hf := dk_t c6 hf
            refine lv_iload_n hx hb dX3_ask_61 rfl (lv_at hl 3 rfl) ?_
            exact L62 (fun y0 y1 y2 y3 y4 y5 y6 => fX3_ask_L30 v1 m_sightStep m_sightCell m_sights n y0 y1 y2 y3 y4 y5 y6) ih v3 v4 z4.1 v2 m_fit z4.2.1 m_fitMany z4.2.2 _ _ _ hw (lv_sub hl [1, 2, 4, 5, 0] rfl) hf
          · have hf := dk_f c6 hf
            refine lv_iload hx hb dX3_ask_56 (lv_at hl 5 rfl) ?_
            refine lv_goto (tgt := 62) hx hb dX3_ask_58 rfl ?_
            exact L62 (fun y0 y1 y2 y3 y4 y5 y6 => fX3_ask_L30 v1 m_sightStep m_sightCell m_sights n y0 y1 y2 y3 y4 y5 y6) ih v3 v4 z4.1 v4 m_fit z4.2.1 m_fitMany z4.2.2 _ _ _ hw (lv_sub hl [1, 2, 4, 5, 0] rfl) hf
  refine lv_iload_n hx hb dX3_ask_0 rfl (lv_at hl 1 rfl) ?_
  refine lv_i2l (v := (v1.toInt64)) hx hb dX3_ask_1 rfl ?_
  refine lv_lconst (v := 0) hx hb dX3_ask_2 rfl ?_
  refine lv_lconst (v := 1) hx hb dX3_ask_3 rfl ?_
  refine callSI (rest := []) 0 0 hC hw (st1 _) (metX3_in rfl) mi_X3_in q590 (rm_ok (by decide) (by decide)) rfl hl.1 rfl (Nat.le_of_ble_eq_true rfl) dX3_ask_4 ⟨Nat.zero_le _, Nat.zero_le _⟩ (st2 _) (fun H locs hw => ?_)
  refine lv_if_ne (tgt := 13) hx hb dX3_ask_7 rfl (fun c9 => ?_) (fun c9 => ?_)
  · have hf := dk_f c9 hf
    refine lv_aload_n hx hb dX3_ask_13 rfl (lv_at hl 0 rfl) ?_
    obtain ⟨z1, hz1, hf⟩ := dk_b hf
    refine callVV (rest := []) 0 _ 3 hC hw (sm1 _) (metX3_findFits hz1) mi_X3_findFits q799 (rm_ok (by decide) (by decide)) rfl rfl rfl hl.1 rfl (Nat.le_of_ble_eq_true rfl) dX3_ask_14 ⟨Nat.zero_le _, Nat.zero_le _⟩ (sm2 _ _) (fun H locs hw => ?_)
    refine lv_bipush (v := (-6)) hx hb dX3_ask_17 rfl ?_
    refine lv_istore_n (lv' := [(2, .int (-6)), (0, .ref (h 0)), (1, .int v1)]) hx hb dX3_ask_19 rfl hl (by decide) rfl (fun ls hl => ?_)
    refine lv_aload_n hx hb dX3_ask_20 rfl (lv_at hl 1 rfl) ?_
    refine gX3_this_fitMany hC hw dX3_ask_21 ?_
    refine lv_iconst (v := 1) hx hb dX3_ask_24 rfl ?_
    refine lv_iadd hx hb dX3_ask_25 ?_
    refine lv_istore_n (lv' := [(3, .int (z1.2.2 + 1)), (2, .int (-6)), (0, .ref (h 0)), (1, .int v1)]) hx hb dX3_ask_26 rfl hl (by decide) rfl (fun ls hl => ?_)
    refine lv_iconst (v := 0) hx hb dX3_ask_27 rfl ?_
    refine lv_istore (lv' := [(4, .int 0), (3, .int (z1.2.2 + 1)), (2, .int (-6)), (0, .ref (h 0)), (1, .int v1)]) hx hb dX3_ask_28 hl (by decide) rfl (fun ls hl => ?_)
    exact L30 FU (-6) (z1.2.2 + 1) 0 z1.1 z1.2.1 z1.2.2 m_byCell _ _ _ hw (lv_sub hl [3, 4, 2, 1, 0] rfl) hf
  · have hf := dk_t c9 hf
    refine lv_bipush (v := (-2)) hx hb dX3_ask_10 rfl ?_
    obtain rfl := Option.some.inj hf
    exact ret _ _ _ _ _ dX3_ask_12 rfl rfl hw
set_option maxHeartbeats 4000000 in
set_option maxRecDepth 100000 in
theorem metX3_leastTake {v1 : Int32} {v2 : Int32} {res : Int32} (hf : fX3_leastTake v1 v2 m_wins = some res) : CtI l yX3_leastTake cX3_leastTake 7 .int 1 D E sz [.ref (h 0), .int v1, .int v2] (WX3 h E m_cell m_points m_fouls m_evening m_sightStep m_sightCell m_sights m_pad m_padMany m_act m_which m_whither m_hard m_acts m_moving m_goes m_left m_touches m_cushions m_cushionsThen m_touchedFirst m_stepsThen m_downNow m_touchedMany m_cushionMany m_were m_had m_badAct m_badWhy m_foulAct m_met m_far m_fit m_now m_fitMany m_byCell m_wins m_chance m_kept m_isKept m_keptAt m_isWriting) (WX3 h E m_cell m_points m_fouls m_evening m_sightStep m_sightCell m_sights m_pad m_padMany m_act m_which m_whither m_hard m_acts m_moving m_goes m_left m_touches m_cushions m_cushionsThen m_touchedFirst m_stepsThen m_downNow m_touchedMany m_cushionMany m_were m_had m_badAct m_badWhy m_foulAct m_met m_far m_fit m_now m_fitMany m_byCell m_wins m_chance m_kept m_isKept m_keptAt m_isWriting) res := by
  refine startI (own := RX3) (by decide) rfl (Nat.le_of_ble_eq_true rfl) ?_
  intro p e s m args below meth c A Q ls hC ret hl hw
  have hx := hC.1.1
  have hb := hC.1.2.1
  have hown := hC.1.2.2.2.1
  have hts := hC.1.2.2.2.2
  have hl : lv_has ls 7 [(0, .ref (h 0)), (1, .int v1), (2, .int v2)] := hl
  have L44 : ∀ (k31c : Int32 → Int32 → Option (Int32)) (hk31 : ∀ (v3 : Int32) (v4 : Int32) (H : Heap) (locs : List Loc) (ls : Array Slot), Wo D A s.heap H locs (WX3 h E m_cell m_points m_fouls m_evening m_sightStep m_sightCell m_sights m_pad m_padMany m_act m_which m_whither m_hard m_acts m_moving m_goes m_left m_touches m_cushions m_cushionsThen m_touchedFirst m_stepsThen m_downNow m_touchedMany m_cushionMany m_were m_had m_badAct m_badWhy m_foulAct m_met m_far m_fit m_now m_fitMany m_byCell m_wins m_chance m_kept m_isKept m_keptAt m_isWriting) → lv_has ls 7 [(0, .ref (h 0)), (1, .int v1), (2, .int v2), (3, .int v3), (4, .int v4)] → k31c v3 v4 = some res → W p l e (rmN 1) s m args below meth c H locs 0 0 Q (F0 m 31 ls [])) (n : Nat), ∀ (v3 : Int32) (v4 : Int32) (v5 : Int32) (H : Heap) (locs : List Loc) (ls : Array Slot), Wo D A s.heap H locs (WX3 h E m_cell m_points m_fouls m_evening m_sightStep m_sightCell m_sights m_pad m_padMany m_act m_which m_whither m_hard m_acts m_moving m_goes m_left m_touches m_cushions m_cushionsThen m_touchedFirst m_stepsThen m_downNow m_touchedMany m_cushionMany m_were m_had m_badAct m_badWhy m_foulAct m_met m_far m_fit m_now m_fitMany m_byCell m_wins m_chance m_kept m_isKept m_keptAt m_isWriting) → lv_has ls 7 [(0, .ref (h 0)), (1, .int v1), (2, .int v2), (3, .int v3), (4, .int v4), (5, .int v5)] → fX3_leastTake_L44 v1 v2 m_wins k31c n v3 v4 v5 = some res → W p l e (rmN 1) s m args below meth c H locs 0 0 Q (F0 m 44 ls []) := by
    intro k31c hk31 n
    induction n with
    | zero =>
      intro v3 v4 v5 H locs ls hw hl hf
      exact dk_n hf
    | succ n ih =>
      intro v3 v4 v5 H locs ls hw hl hf
      refine lv_iload hx hb dX3_leastTake_44 (lv_at hl 5 rfl) ?_
      refine lv_if_le (tgt := 94) hx hb dX3_leastTake_46 rfl (fun c3 => ?_) (fun c3 => ?_)
      · have hf := dk_t c3 hf
        refine lv_iinc (v := (v4 + (-1))) (lv' := [(4, .int (v4 + (-1))), (0, .ref (h 0)), (1, .int v1), (2, .int v2), (3, .int v3), (5, .int v5)]) hx hb dX3_leastTake_94 hl (k := 4) rfl rfl (by decide) rfl (fun ls hl => ?_)
        refine lv_goto (tgt := 31) hx hb dX3_leastTake_97 rfl ?_
        exact hk31 v3 (v4 + (-1)) _ _ _ hw (lv_sub hl [1, 2, 3, 4, 0] rfl) hf
      · have hf := dk_f c3 hf
        refine lv_iload_n hx hb dX3_leastTake_49 rfl (lv_at hl 1 rfl) ?_
        refine lv_iload hx hb dX3_leastTake_50 (lv_at hl 5 rfl) ?_
        refine lv_iload hx hb dX3_leastTake_52 (lv_at hl 4 rfl) ?_
        refine callSI (rest := [.int v5, .int v1]) 0 0 hC hw (st1 _) (metX3_tenTo rfl) mi_X3_tenTo q827 (rm_ok (by decide) (by decide)) rfl hl.1 rfl (Nat.le_of_ble_eq_true rfl) dX3_leastTake_54 ⟨Nat.zero_le _, Nat.zero_le _⟩ (st2 _) (fun H locs hw => ?_)
        refine lv_imul hx hb dX3_leastTake_57 ?_
        refine lv_isub hx hb dX3_leastTake_58 ?_
        refine lv_istore (lv' := [(6, .int (v1 - (v5 * (fX3_tenTo v4)))), (0, .ref (h 0)), (1, .int v1), (2, .int v2), (3, .int v3), (4, .int v4), (5, .int v5)]) hx hb dX3_leastTake_59 hl (by decide) rfl (fun ls hl => ?_)
        refine lv_aload_n hx hb dX3_leastTake_61 rfl (lv_at hl 1 rfl) ?_
        refine gX3_this_wins hC hw dX3_leastTake_62 ?_
        refine lv_iconst (v := 2) hx hb dX3_leastTake_65 rfl ?_
        refine lv_iload hx hb dX3_leastTake_66 (lv_at hl 0 rfl) ?_
        refine lv_imul hx hb dX3_leastTake_68 ?_
        refine lv_iload_n hx hb dX3_leastTake_69 rfl (lv_at hl 3 rfl) ?_
        refine lv_iadd hx hb dX3_leastTake_70 ?_
        obtain ⟨b1, hf⟩ := dk_c hf
        refine aX3_m_wins hC hw b1 dX3_leastTake_71 ?_
        refine lv_if_eq (tgt := 79) hx hb dX3_leastTake_72 rfl (fun c2 => ?_) (fun c2 => ?_)
        · have hf := dk_t c2 hf
          refine lv_bipush (v := 10) hx hb dX3_leastTake_79 rfl ?_
          refine lv_iload hx hb dX3_leastTake_81 (lv_at hl 5 rfl) ?_
          refine lv_imul hx hb dX3_leastTake_83 ?_
          refine lv_iload hx hb dX3_leastTake_84 (lv_at hl 6 rfl) ?_
          refine lv_iadd hx hb dX3_leastTake_86 ?_
          refine lv_istore_n (lv' := [(3, .int (((10 : Int32) * v4) + v5)), (6, .int (v1 - (v5 * (fX3_tenTo v4)))), (0, .ref (h 0)), (1, .int v1), (2, .int v2), (4, .int v4), (5, .int v5)]) hx hb dX3_leastTake_87 rfl hl (by decide) rfl (fun ls hl => ?_)
          refine lv_iinc (v := (v5 + (-1))) (lv' := [(5, .int (v5 + (-1))), (3, .int (((10 : Int32) * v4) + v5)), (6, .int (v1 - (v5 * (fX3_tenTo v4)))), (0, .ref (h 0)), (1, .int v1), (2, .int v2), (4, .int v4)]) hx hb dX3_leastTake_88 hl (k := 6) rfl rfl (by decide) rfl (fun ls hl => ?_)
          refine lv_goto (tgt := 44) hx hb dX3_leastTake_91 rfl ?_
          exact ih (((10 : Int32) * v4) + v5) v4 (v5 + (-1)) _ _ _ hw (lv_sub hl [3, 4, 5, 1, 6, 0] rfl) hf
        · have hf := dk_f c2 hf
          refine lv_iload_n hx hb dX3_leastTake_75 rfl (lv_at hl 4 rfl) ?_
          refine lv_goto (tgt := 87) hx hb dX3_leastTake_76 rfl ?_
          refine lv_istore_n (lv' := [(3, .int v3), (6, .int (v1 - (v5 * (fX3_tenTo v4)))), (0, .ref (h 0)), (1, .int v1), (2, .int v2), (4, .int v4), (5, .int v5)]) hx hb dX3_leastTake_87 rfl hl (by decide) rfl (fun ls hl => ?_)
          refine lv_iinc (v := (v5 + (-1))) (lv' := [(5, .int (v5 + (-1))), (3, .int v3), (6, .int (v1 - (v5 * (fX3_tenTo v4)))), (0, .ref (h 0)), (1, .int v1), (2, .int v2), (4, .int v4)]) hx hb dX3_leastTake_88 hl (k := 6) rfl rfl (by decide) rfl (fun ls hl => ?_)
          refine lv_goto (tgt := 44) hx hb dX3_leastTake_91 rfl ?_
          exact ih v3 v4 (v5 + (-1)) _ _ _ hw (lv_sub hl [3, 4, 5, 1, 6, 0] rfl) hf
  have L31 : ∀ (n : Nat), ∀ (v3 : Int32) (v4 : Int32) (H : Heap) (locs : List Loc) (ls : Array Slot), Wo D A s.heap H locs (WX3 h E m_cell m_points m_fouls m_evening m_sightStep m_sightCell m_sights m_pad m_padMany m_act m_which m_whither m_hard m_acts m_moving m_goes m_left m_touches m_cushions m_cushionsThen m_touchedFirst m_stepsThen m_downNow m_touchedMany m_cushionMany m_were m_had m_badAct m_badWhy m_foulAct m_met m_far m_fit m_now m_fitMany m_byCell m_wins m_chance m_kept m_isKept m_keptAt m_isWriting) → lv_has ls 7 [(0, .ref (h 0)), (1, .int v1), (2, .int v2), (3, .int v3), (4, .int v4)] → fX3_leastTake_L31 v1 v2 m_wins  n v3 v4 = some res → W p l e (rmN 1) s m args below meth c H locs 0 0 Q (F0 m 31 ls []) := by
    intro  n
    induction n with
    | zero =>
      intro v3 v4 H locs ls hw hl hf
      exact dk_n hf
    | succ n ih =>
      intro v3 v4 H locs ls hw hl hf
      refine lv_iload hx hb dX3_leastTake_31 (lv_at hl 4 rfl) ?_
      refine lv_if_lt (tgt := 100) hx hb dX3_leastTake_33 rfl (fun c4 => ?_) (fun c4 => ?_)
      · have hf := dk_t c4 hf
        refine lv_iload_n hx hb dX3_leastTake_100 rfl (lv_at hl 3 rfl) ?_
        exact ret _ _ _ _ _ dX3_leastTake_101 rfl (Option.some.inj hf) hw
      · have hf := dk_f c4 hf
        refine lv_iload_n hx hb dX3_leastTake_36 rfl (lv_at hl 1 rfl) ?_
        refine lv_iload hx hb dX3_leastTake_37 (lv_at hl 4 rfl) ?_
        refine callSI (rest := []) 0 0 hC hw (st1 _) (metX3_digit rfl) mi_X3_digit q824 (rm_ok (by decide) (by decide)) rfl hl.1 rfl (Nat.le_of_ble_eq_true rfl) dX3_leastTake_39 ⟨Nat.zero_le _, Nat.zero_le _⟩ (st2 _) (fun H locs hw => ?_)
        refine lv_istore (lv' := [(5, .int (fX3_digit v1 v4)), (0, .ref (h 0)), (1, .int v1), (2, .int v2), (3, .int v3), (4, .int v4)]) hx hb dX3_leastTake_42 hl (by decide) rfl (fun ls hl => ?_)
        exact L44 (fun y0 y1 => fX3_leastTake_L31 v1 v2 m_wins n y0 y1) ih FU v3 v4 (fX3_digit v1 v4) _ _ _ hw (lv_sub hl [1, 2, 3, 4, 5, 0] rfl) hf
  refine lv_iload_n hx hb dX3_leastTake_0 rfl (lv_at hl 2 rfl) ?_
  refine lv_iconst (v := 1) hx hb dX3_leastTake_1 rfl ?_
  refine lv_icmp_ne (tgt := 25) hx hb dX3_leastTake_2 rfl (fun c8 => ?_) (fun c8 => ?_)
  · have hf := dk_f c8 hf
    refine lv_bipush (v := (-6)) hx hb dX3_leastTake_25 rfl ?_
    refine lv_istore_n (lv' := [(3, .int (-6)), (0, .ref (h 0)), (1, .int v1), (2, .int v2)]) hx hb dX3_leastTake_27 rfl hl (by decide) rfl (fun ls hl => ?_)
    refine lv_iconst (v := 2) hx hb dX3_leastTake_28 rfl ?_
    refine lv_istore (lv' := [(4, .int 2), (3, .int (-6)), (0, .ref (h 0)), (1, .int v1), (2, .int v2)]) hx hb dX3_leastTake_29 hl (by decide) rfl (fun ls hl => ?_)
    exact L31 FU (-6) 2 _ _ _ hw (lv_sub hl [2, 3, 4, 1, 0] rfl) hf
  · have hf := dk_t c8 hf
    refine lv_iload_n hx hb dX3_leastTake_5 rfl (lv_at hl 1 rfl) ?_
    refine lv_if_le (tgt := 25) hx hb dX3_leastTake_6 rfl (fun c7 => ?_) (fun c7 => ?_)
    · have hf := dk_t c7 hf
      refine lv_bipush (v := (-6)) hx hb dX3_leastTake_25 rfl ?_
      refine lv_istore_n (lv' := [(3, .int (-6)), (0, .ref (h 0)), (1, .int v1), (2, .int v2)]) hx hb dX3_leastTake_27 rfl hl (by decide) rfl (fun ls hl => ?_)
      refine lv_iconst (v := 2) hx hb dX3_leastTake_28 rfl ?_
      refine lv_istore (lv' := [(4, .int 2), (3, .int (-6)), (0, .ref (h 0)), (1, .int v1), (2, .int v2)]) hx hb dX3_leastTake_29 hl (by decide) rfl (fun ls hl => ?_)
      exact L31 FU (-6) 2 _ _ _ hw (lv_sub hl [2, 3, 4, 1, 0] rfl) hf
    · have hf := dk_f c7 hf
      refine lv_aload_n hx hb dX3_leastTake_9 rfl (lv_at hl 0 rfl) ?_
      refine gX3_this_wins hC hw dX3_leastTake_10 ?_
      refine lv_iconst (v := 2) hx hb dX3_leastTake_13 rfl ?_
      refine lv_iload_n hx hb dX3_leastTake_14 rfl (lv_at hl 1 rfl) ?_
      refine lv_imul hx hb dX3_leastTake_15 ?_
      obtain ⟨b5, hf⟩ := dk_c hf
      refine aX3_m_wins hC hw b5 dX3_leastTake_16 ?_
      refine lv_if_ne (tgt := 25) hx hb dX3_leastTake_17 rfl (fun c6 => ?_) (fun c6 => ?_)
      · have hf := dk_f c6 hf
        refine lv_bipush (v := (-6)) hx hb dX3_leastTake_25 rfl ?_
        refine lv_istore_n (lv' := [(3, .int (-6)), (0, .ref (h 0)), (1, .int v1), (2, .int v2)]) hx hb dX3_leastTake_27 rfl hl (by decide) rfl (fun ls hl => ?_)
        refine lv_iconst (v := 2) hx hb dX3_leastTake_28 rfl ?_
        refine lv_istore (lv' := [(4, .int 2), (3, .int (-6)), (0, .ref (h 0)), (1, .int v1), (2, .int v2)]) hx hb dX3_leastTake_29 hl (by decide) rfl (fun ls hl => ?_)
        exact L31 FU (-6) 2 _ _ _ hw (lv_sub hl [2, 3, 4, 1, 0] rfl) hf
      · have hf := dk_t c6 hf
        refine lv_bipush (v := 99) hx hb dX3_leastTake_20 rfl ?_
        refine lv_goto (tgt := 27) hx hb dX3_leastTake_22 rfl ?_
        refine lv_istore_n (lv' := [(3, .int 99), (0, .ref (h 0)), (1, .int v1), (2, .int v2)]) hx hb dX3_leastTake_27 rfl hl (by decide) rfl (fun ls hl => ?_)
        refine lv_iconst (v := 2) hx hb dX3_leastTake_28 rfl ?_
        refine lv_istore (lv' := [(4, .int 2), (3, .int 99), (0, .ref (h 0)), (1, .int v1), (2, .int v2)]) hx hb dX3_leastTake_29 hl (by decide) rfl (fun ls hl => ?_)
        exact L31 FU 99 2 _ _ _ hw (lv_sub hl [2, 3, 4, 1, 0] rfl) hf
set_option maxHeartbeats 4000000 in
set_option maxRecDepth 100000 in
theorem metX3_chalk {v1 : Int32} {v2 : Int32} {v3 : Int32} {res : Int32 × (Nat → Int32)} (hf : fX3_chalk v1 v2 v3 m_wins = some res) : CtI l yX3_chalk cX3_chalk 5 .int 2 D E sz [.ref (h 0), .int v1, .int v2, .int v3] (WX3 h E m_cell m_points m_fouls m_evening m_sightStep m_sightCell m_sights m_pad m_padMany m_act m_which m_whither m_hard m_acts m_moving m_goes m_left m_touches m_cushions m_cushionsThen m_touchedFirst m_stepsThen m_downNow m_touchedMany m_cushionMany m_were m_had m_badAct m_badWhy m_foulAct m_met m_far m_fit m_now m_fitMany m_byCell m_wins m_chance m_kept m_isKept m_keptAt m_isWriting) (WX3 h E m_cell m_points m_fouls m_evening m_sightStep m_sightCell m_sights m_pad m_padMany m_act m_which m_whither m_hard m_acts m_moving m_goes m_left m_touches m_cushions m_cushionsThen m_touchedFirst m_stepsThen m_downNow m_touchedMany m_cushionMany m_were m_had m_badAct m_badWhy m_foulAct m_met m_far m_fit m_now m_fitMany m_byCell res.2 m_chance m_kept m_isKept m_keptAt m_isWriting) res.1 := by
  refine startI (own := RX3) (by decide) rfl (Nat.le_of_ble_eq_true rfl) ?_
  intro p e s m args below meth c A Q ls hC ret hl hw
  have hx := hC.1.1
  have hb := hC.1.2.1
  have hown := hC.1.2.2.2.1
  have hts := hC.1.2.2.2.2
  have hl : lv_has ls 5 [(0, .ref (h 0)), (1, .int v1), (2, .int v2), (3, .int v3)] := hl
  have L67 : ∀ (k38c : Int32 → (Nat → Int32) → Option (Int32 × (Nat → Int32))) (hk38 : ∀ (v4 : Int32) (m_wins : Nat → Int32) (H : Heap) (locs : List Loc) (ls : Array Slot), Wo D A s.heap H locs (WX3 h E m_cell m_points m_fouls m_evening m_sightStep m_sightCell m_sights m_pad m_padMany m_act m_which m_whither m_hard m_acts m_moving m_goes m_left m_touches m_cushions m_cushionsThen m_touchedFirst m_stepsThen m_downNow m_touchedMany m_cushionMany m_were m_had m_badAct m_badWhy m_foulAct m_met m_far m_fit m_now m_fitMany m_byCell m_wins m_chance m_kept m_isKept m_keptAt m_isWriting) → lv_has ls 5 [(0, .ref (h 0)), (1, .int v1), (2, .int v2), (3, .int v3), (4, .int v4)] → k38c v4 m_wins = some res → W p l e (rmN 2) s m args below meth c H locs 0 0 Q (F0 m 38 ls [])) (v4 : Int32) (k1 : Int32) (k2 : Int32) (m_wins : Nat → Int32) (H : Heap) (locs : List Loc) (ls : Array Slot), Wo D A s.heap H locs (WX3 h E m_cell m_points m_fouls m_evening m_sightStep m_sightCell m_sights m_pad m_padMany m_act m_which m_whither m_hard m_acts m_moving m_goes m_left m_touches m_cushions m_cushionsThen m_touchedFirst m_stepsThen m_downNow m_touchedMany m_cushionMany m_were m_had m_badAct m_badWhy m_foulAct m_met m_far m_fit m_now m_fitMany m_byCell m_wins m_chance m_kept m_isKept m_keptAt m_isWriting) → lv_has ls 5 [(0, .ref (h 0)), (1, .int v1), (2, .int v2), (3, .int v3), (4, .int v4)] → fX3_chalk_L67 v1 v2 v3 k38c v4 k1 k2 m_wins = some res → W p l e (rmN 2) s m args below meth c H locs 0 0 Q (F0 m 67 ls [.int k2, .int k1, .ref (h 16)]) := by
    intro k38c hk38 v4 k1 k2 m_wins H locs ls hw hl hf
    obtain ⟨b5, hf⟩ := dk_c hf
    refine sX3_m_wins hC hw b5 dX3_chalk_67 (fun H locs hw => ?_)
    refine lv_aload_n hx hb dX3_chalk_68 rfl (lv_at hl 0 rfl) ?_
    refine gX3_this_wins hC hw dX3_chalk_69 ?_
    refine lv_iconst (v := 2) hx hb dX3_chalk_72 rfl ?_
    refine lv_iload hx hb dX3_chalk_73 (lv_at hl 4 rfl) ?_
    refine lv_imul hx hb dX3_chalk_75 ?_
    refine lv_iconst (v := 1) hx hb dX3_chalk_76 rfl ?_
    refine lv_iadd hx hb dX3_chalk_77 ?_
    refine lv_aload_n hx hb dX3_chalk_78 rfl (lv_at hl 0 rfl) ?_
    refine lv_iload hx hb dX3_chalk_79 (lv_at hl 4 rfl) ?_
    refine lv_iconst (v := 1) hx hb dX3_chalk_81 rfl ?_
    obtain ⟨z6, hz6, hf⟩ := dk_b hf
    refine callVI (rest := [.int (((2 : Int32) * v4) + 1), .ref (h 16)]) 0 _ 3 hC hw (sm1 _) (metX3_leastTake hz6) mi_X3_leastTake q820 (rm_ok (by decide) (by decide)) rfl rfl rfl hl.1 rfl (Nat.le_of_ble_eq_true rfl) dX3_chalk_82 ⟨Nat.zero_le _, Nat.zero_le _⟩ (sm2 _ _) (fun H locs hw => ?_)
    refine lv_if_lt (tgt := 92) hx hb dX3_chalk_85 rfl (fun c9 => ?_) (fun c9 => ?_)
    · have hf := dk_t c9 hf
      refine lv_iconst (v := 0) hx hb dX3_chalk_92 rfl ?_
      obtain ⟨b7, hf⟩ := dk_c hf
      refine sX3_m_wins hC hw b7 dX3_chalk_93 (fun H locs hw => ?_)
      refine lv_iinc (v := (v4 + 1)) (lv' := [(4, .int (v4 + 1)), (0, .ref (h 0)), (1, .int v1), (2, .int v2), (3, .int v3)]) hx hb dX3_chalk_94 hl (k := 4) rfl rfl (by decide) rfl (fun ls hl => ?_)
      refine lv_goto (tgt := 38) hx hb dX3_chalk_97 rfl ?_
      exact hk38 (v4 + 1) (upd (upd m_wins k1.toNatClampNeg (vp_nar .boolean k2)) (((2 : Int32) * v4) + 1).toNatClampNeg (vp_nar .boolean 0)) _ _ _ hw (lv_sub hl [1, 2, 3, 4, 0] rfl) hf
    · have hf := dk_f c9 hf
      refine lv_iconst (v := 1) hx hb dX3_chalk_88 rfl ?_
      refine lv_goto (tgt := 93) hx hb dX3_chalk_89 rfl ?_
      obtain ⟨b8, hf⟩ := dk_c hf
      refine sX3_m_wins hC hw b8 dX3_chalk_93 (fun H locs hw => ?_)
      refine lv_iinc (v := (v4 + 1)) (lv' := [(4, .int (v4 + 1)), (0, .ref (h 0)), (1, .int v1), (2, .int v2), (3, .int v3)]) hx hb dX3_chalk_94 hl (k := 4) rfl rfl (by decide) rfl (fun ls hl => ?_)
      refine lv_goto (tgt := 38) hx hb dX3_chalk_97 rfl ?_
      exact hk38 (v4 + 1) (upd (upd m_wins k1.toNatClampNeg (vp_nar .boolean k2)) (((2 : Int32) * v4) + 1).toNatClampNeg (vp_nar .boolean 1)) _ _ _ hw (lv_sub hl [1, 2, 3, 4, 0] rfl) hf
  have L38 : ∀ (n : Nat), ∀ (v4 : Int32) (m_wins : Nat → Int32) (H : Heap) (locs : List Loc) (ls : Array Slot), Wo D A s.heap H locs (WX3 h E m_cell m_points m_fouls m_evening m_sightStep m_sightCell m_sights m_pad m_padMany m_act m_which m_whither m_hard m_acts m_moving m_goes m_left m_touches m_cushions m_cushionsThen m_touchedFirst m_stepsThen m_downNow m_touchedMany m_cushionMany m_were m_had m_badAct m_badWhy m_foulAct m_met m_far m_fit m_now m_fitMany m_byCell m_wins m_chance m_kept m_isKept m_keptAt m_isWriting) → lv_has ls 5 [(0, .ref (h 0)), (1, .int v1), (2, .int v2), (3, .int v3), (4, .int v4)] → fX3_chalk_L38 v1 v2 v3  n v4 m_wins = some res → W p l e (rmN 2) s m args below meth c H locs 0 0 Q (F0 m 38 ls []) := by
    intro  n
    induction n with
    | zero =>
      intro v4 m_wins H locs ls hw hl hf
      exact dk_n hf
    | succ n ih =>
      intro v4 m_wins H locs ls hw hl hf
      refine lv_iload hx hb dX3_chalk_38 (lv_at hl 4 rfl) ?_
      refine lv_iload_n hx hb dX3_chalk_40 rfl (lv_at hl 1 rfl) ?_
      refine lv_icmp_gt (tgt := 100) hx hb dX3_chalk_41 rfl (fun c11 => ?_) (fun c11 => ?_)
      · have hf := dk_t c11 hf
        refine lv_aload_n hx hb dX3_chalk_100 rfl (lv_at hl 0 rfl) ?_
        refine lv_iload_n hx hb dX3_chalk_101 rfl (lv_at hl 1 rfl) ?_
        refine lv_iload_n hx hb dX3_chalk_102 rfl (lv_at hl 2 rfl) ?_
        obtain ⟨z1, hz1, hf⟩ := dk_b hf
        refine callVI (rest := []) 0 _ 3 hC hw (sm1 _) (metX3_leastTake hz1) mi_X3_leastTake q820 (rm_ok (by decide) (by decide)) rfl rfl rfl hl.1 rfl (Nat.le_of_ble_eq_true rfl) dX3_chalk_103 ⟨Nat.zero_le _, Nat.zero_le _⟩ (sm2 _ _) (fun H locs hw => ?_)
        refine lv_istore (lv' := [(4, .int z1), (0, .ref (h 0)), (1, .int v1), (2, .int v2), (3, .int v3)]) hx hb dX3_chalk_106 hl (by decide) rfl (fun ls hl => ?_)
        refine lv_iload_n hx hb dX3_chalk_108 rfl (lv_at hl 4 rfl) ?_
        refine lv_iconst (v := 1) hx hb dX3_chalk_109 rfl ?_
        refine lv_icmp_ne (tgt := 118) hx hb dX3_chalk_110 rfl (fun c3 => ?_) (fun c3 => ?_)
        · have hf := dk_f c3 hf
          refine lv_iload hx hb dX3_chalk_118 (lv_at hl 0 rfl) ?_
          refine lv_if_ge (tgt := 127) hx hb dX3_chalk_120 rfl (fun c2 => ?_) (fun c2 => ?_)
          · have hf := dk_t c2 hf
            refine lv_iconst (v := 1) hx hb dX3_chalk_127 rfl ?_
            obtain rfl := Option.some.inj hf
            exact ret _ _ _ _ _ dX3_chalk_128 rfl rfl hw
          · have hf := dk_f c2 hf
            refine lv_iconst (v := 0) hx hb dX3_chalk_123 rfl ?_
            refine lv_goto (tgt := 128) hx hb dX3_chalk_124 rfl ?_
            obtain rfl := Option.some.inj hf
            exact ret _ _ _ _ _ dX3_chalk_128 rfl rfl hw
        · have hf := dk_t c3 hf
          refine lv_iload hx hb dX3_chalk_113 (lv_at hl 0 rfl) ?_
          refine lv_goto (tgt := 128) hx hb dX3_chalk_115 rfl ?_
          obtain rfl := Option.some.inj hf
          exact ret _ _ _ _ _ dX3_chalk_128 rfl rfl hw
      · have hf := dk_f c11 hf
        refine lv_aload_n hx hb dX3_chalk_44 rfl (lv_at hl 0 rfl) ?_
        refine gX3_this_wins hC hw dX3_chalk_45 ?_
        refine lv_iconst (v := 2) hx hb dX3_chalk_48 rfl ?_
        refine lv_iload hx hb dX3_chalk_49 (lv_at hl 4 rfl) ?_
        refine lv_imul hx hb dX3_chalk_51 ?_
        refine lv_aload_n hx hb dX3_chalk_52 rfl (lv_at hl 0 rfl) ?_
        refine lv_iload hx hb dX3_chalk_53 (lv_at hl 4 rfl) ?_
        refine lv_iconst (v := 0) hx hb dX3_chalk_55 rfl ?_
        obtain ⟨z4, hz4, hf⟩ := dk_b hf
        refine callVI (rest := [.int ((2 : Int32) * v4), .ref (h 16)]) 0 _ 3 hC hw (sm1 _) (metX3_leastTake hz4) mi_X3_leastTake q820 (rm_ok (by decide) (by decide)) rfl rfl rfl hl.1 rfl (Nat.le_of_ble_eq_true rfl) dX3_chalk_56 ⟨Nat.zero_le _, Nat.zero_le _⟩ (sm2 _ _) (fun H locs hw => ?_)
        refine lv_if_lt (tgt := 66) hx hb dX3_chalk_59 rfl (fun c10 => ?_) (fun c10 => ?_)
        · have hf := dk_t c10 hf
          refine lv_iconst (v := 0) hx hb dX3_chalk_66 rfl ?_
          exact L67 (fun y0 y1 => fX3_chalk_L38 v1 v2 v3 n y0 y1) ih v4 ((2 : Int32) * v4) 0 m_wins _ _ _ hw (lv_sub hl [0, 1, 2, 3, 4] rfl) hf
        · have hf := dk_f c10 hf
          refine lv_iconst (v := 1) hx hb dX3_chalk_62 rfl ?_
          refine lv_goto (tgt := 67) hx hb dX3_chalk_63 rfl ?_
          exact L67 (fun y0 y1 => fX3_chalk_L38 v1 v2 v3 n y0 y1) ih v4 ((2 : Int32) * v4) 1 m_wins _ _ _ hw (lv_sub hl [0, 1, 2, 3, 4] rfl) hf
  refine lv_iload_n hx hb dX3_chalk_0 rfl (lv_at hl 1 rfl) ?_
  refine lv_i2l (v := (v1.toInt64)) hx hb dX3_chalk_1 rfl ?_
  refine lv_lconst (v := 0) hx hb dX3_chalk_2 rfl ?_
  refine W.ldc2 (v := 999) hx hb hown (hts _ q819) rfl dX3_chalk_3 ?_
  refine callSI (rest := []) 0 0 hC hw (st1 _) (metX3_in rfl) mi_X3_in q590 (rm_ok (by decide) (by decide)) rfl hl.1 rfl (Nat.le_of_ble_eq_true rfl) dX3_chalk_6 ⟨Nat.zero_le _, Nat.zero_le _⟩ (st2 _) (fun H locs hw => ?_)
  refine lv_if_eq (tgt := 32) hx hb dX3_chalk_9 rfl (fun c14 => ?_) (fun c14 => ?_)
  · have hf := dk_t c14 hf
    refine lv_bipush (v := (-2)) hx hb dX3_chalk_32 rfl ?_
    obtain rfl := Option.some.inj hf
    exact ret _ _ _ _ _ dX3_chalk_34 rfl rfl hw
  · have hf := dk_f c14 hf
    refine lv_iload_n hx hb dX3_chalk_12 rfl (lv_at hl 2 rfl) ?_
    refine lv_i2l (v := (v2.toInt64)) hx hb dX3_chalk_13 rfl ?_
    refine lv_lconst (v := 0) hx hb dX3_chalk_14 rfl ?_
    refine lv_lconst (v := 1) hx hb dX3_chalk_15 rfl ?_
    refine callSI (rest := []) 0 0 hC hw (st1 _) (metX3_in rfl) mi_X3_in q590 (rm_ok (by decide) (by decide)) rfl hl.1 rfl (Nat.le_of_ble_eq_true rfl) dX3_chalk_16 ⟨Nat.zero_le _, Nat.zero_le _⟩ (st2 _) (fun H locs hw => ?_)
    refine lv_if_eq (tgt := 32) hx hb dX3_chalk_19 rfl (fun c13 => ?_) (fun c13 => ?_)
    · have hf := dk_t c13 hf
      refine lv_bipush (v := (-2)) hx hb dX3_chalk_32 rfl ?_
      obtain rfl := Option.some.inj hf
      exact ret _ _ _ _ _ dX3_chalk_34 rfl rfl hw
    · have hf := dk_f c13 hf
      refine lv_iload_n hx hb dX3_chalk_22 rfl (lv_at hl 3 rfl) ?_
      refine lv_i2l (v := (v3.toInt64)) hx hb dX3_chalk_23 rfl ?_
      refine lv_lconst (v := 0) hx hb dX3_chalk_24 rfl ?_
      refine lv_lconst (v := 1) hx hb dX3_chalk_25 rfl ?_
      refine callSI (rest := []) 0 0 hC hw (st1 _) (metX3_in rfl) mi_X3_in q590 (rm_ok (by decide) (by decide)) rfl hl.1 rfl (Nat.le_of_ble_eq_true rfl) dX3_chalk_26 ⟨Nat.zero_le _, Nat.zero_le _⟩ (st2 _) (fun H locs hw => ?_)
      refine lv_if_ne (tgt := 35) hx hb dX3_chalk_29 rfl (fun c12 => ?_) (fun c12 => ?_)
      · have hf := dk_f c12 hf
        refine lv_iconst (v := 0) hx hb dX3_chalk_35 rfl ?_
        refine lv_istore (lv' := [(4, .int 0), (0, .ref (h 0)), (1, .int v1), (2, .int v2), (3, .int v3)]) hx hb dX3_chalk_36 hl (by decide) rfl (fun ls hl => ?_)
        exact L38 FU 0 m_wins _ _ _ hw (lv_sub hl [1, 2, 3, 4, 0] rfl) hf
      · have hf := dk_t c12 hf
        refine lv_bipush (v := (-2)) hx hb dX3_chalk_32 rfl ?_
        obtain rfl := Option.some.inj hf
        exact ret _ _ _ _ _ dX3_chalk_34 rfl rfl hw
set_option maxHeartbeats 4000000 in
set_option maxRecDepth 100000 in
theorem metX3_findChance {v1 : Int32} {v2 : Int32} {v3 : Int32} {v4 : Int32} {res : (Nat → Int64)} (hf : fX3_findChance v1 v2 v3 v4 m_chance = some res) : CtV l yX3_findChance cX3_findChance 7 0 D E sz [.ref (h 0), .int v1, .int v2, .int v3, .int v4] (WX3 h E m_cell m_points m_fouls m_evening m_sightStep m_sightCell m_sights m_pad m_padMany m_act m_which m_whither m_hard m_acts m_moving m_goes m_left m_touches m_cushions m_cushionsThen m_touchedFirst m_stepsThen m_downNow m_touchedMany m_cushionMany m_were m_had m_badAct m_badWhy m_foulAct m_met m_far m_fit m_now m_fitMany m_byCell m_wins m_chance m_kept m_isKept m_keptAt m_isWriting) (WX3 h E m_cell m_points m_fouls m_evening m_sightStep m_sightCell m_sights m_pad m_padMany m_act m_which m_whither m_hard m_acts m_moving m_goes m_left m_touches m_cushions m_cushionsThen m_touchedFirst m_stepsThen m_downNow m_touchedMany m_cushionMany m_were m_had m_badAct m_badWhy m_foulAct m_met m_far m_fit m_now m_fitMany m_byCell m_wins res m_kept m_isKept m_keptAt m_isWriting) := by
  refine startV (own := RX3) (by decide) rfl (Nat.le_of_ble_eq_true rfl) ?_
  intro p e s m args below meth c A Q ls hC ret hl hw
  have hx := hC.1.1
  have hb := hC.1.2.1
  have hown := hC.1.2.2.2.1
  have hts := hC.1.2.2.2.2
  have hl : lv_has ls 7 [(0, .ref (h 0)), (1, .int v1), (2, .int v2), (3, .int v3), (4, .int v4)] := hl
  have L53 : ∀ (k43c : Int32 → (Nat → Int64) → Option ((Nat → Int64))) (hk43 : ∀ (v5 : Int32) (m_chance : Nat → Int64) (H : Heap) (locs : List Loc) (ls : Array Slot), Wo D A s.heap H locs (WX3 h E m_cell m_points m_fouls m_evening m_sightStep m_sightCell m_sights m_pad m_padMany m_act m_which m_whither m_hard m_acts m_moving m_goes m_left m_touches m_cushions m_cushionsThen m_touchedFirst m_stepsThen m_downNow m_touchedMany m_cushionMany m_were m_had m_badAct m_badWhy m_foulAct m_met m_far m_fit m_now m_fitMany m_byCell m_wins m_chance m_kept m_isKept m_keptAt m_isWriting) → lv_has ls 7 [(0, .ref (h 0)), (1, .int v1), (2, .int v2), (4, .int v4), (5, .int v5)] → k43c v5 m_chance = some res → W p l e (rmN 0) s m args below meth c H locs 0 0 Q (F0 m 43 ls [])) (n : Nat), ∀ (v5 : Int32) (v6 : Int32) (m_chance : Nat → Int64) (H : Heap) (locs : List Loc) (ls : Array Slot), Wo D A s.heap H locs (WX3 h E m_cell m_points m_fouls m_evening m_sightStep m_sightCell m_sights m_pad m_padMany m_act m_which m_whither m_hard m_acts m_moving m_goes m_left m_touches m_cushions m_cushionsThen m_touchedFirst m_stepsThen m_downNow m_touchedMany m_cushionMany m_were m_had m_badAct m_badWhy m_foulAct m_met m_far m_fit m_now m_fitMany m_byCell m_wins m_chance m_kept m_isKept m_keptAt m_isWriting) → lv_has ls 7 [(0, .ref (h 0)), (1, .int v1), (2, .int v2), (4, .int v4), (5, .int v5), (6, .int v6)] → fX3_findChance_L53 v1 v2 v3 v4 k43c n v5 v6 m_chance = some res → W p l e (rmN 0) s m args below meth c H locs 0 0 Q (F0 m 53 ls []) := by
    intro k43c hk43 n
    induction n with
    | zero =>
      intro v5 v6 m_chance H locs ls hw hl hf
      exact dk_n hf
    | succ n ih =>
      intro v5 v6 m_chance H locs ls hw hl hf
      refine lv_iload hx hb dX3_findChance_53 (lv_at hl 5 rfl) ?_
      refine lv_iload_n hx hb dX3_findChance_55 rfl (lv_at hl 1 rfl) ?_
      refine lv_icmp_ge (tgt := 137) hx hb dX3_findChance_56 rfl (fun c7 => ?_) (fun c7 => ?_)
      · have hf := dk_t c7 hf
        refine lv_iinc (v := (v5 + 1)) (lv' := [(5, .int (v5 + 1)), (0, .ref (h 0)), (1, .int v1), (2, .int v2), (4, .int v4), (6, .int v6)]) hx hb dX3_findChance_137 hl (k := 4) rfl rfl (by decide) rfl (fun ls hl => ?_)
        refine lv_goto (tgt := 43) hx hb dX3_findChance_140 rfl ?_
        exact hk43 (v5 + 1) m_chance _ _ _ hw (lv_sub hl [1, 2, 3, 4, 0] rfl) hf
      · have hf := dk_f c7 hf
        refine lv_aload_n hx hb dX3_findChance_59 rfl (lv_at hl 0 rfl) ?_
        refine gX3_this_chance hC hw dX3_findChance_60 ?_
        refine lv_bipush (v := 9) hx hb dX3_findChance_63 rfl ?_
        refine lv_iload hx hb dX3_findChance_65 (lv_at hl 4 rfl) ?_
        refine lv_iconst (v := 1) hx hb dX3_findChance_67 rfl ?_
        refine lv_iadd hx hb dX3_findChance_68 ?_
        refine lv_imul hx hb dX3_findChance_69 ?_
        refine lv_iload hx hb dX3_findChance_70 (lv_at hl 5 rfl) ?_
        refine lv_iadd hx hb dX3_findChance_72 ?_
        refine lv_dup2_11 hx hb dX3_findChance_73 rfl rfl ?_
        obtain ⟨b1, hf⟩ := dk_c hf
        refine aX3_m_chance hC hw b1 dX3_findChance_74 ?_
        refine lv_iload_n hx hb dX3_findChance_75 rfl (lv_at hl 2 rfl) ?_
        refine lv_i2l (v := (v2.toInt64)) hx hb dX3_findChance_76 rfl ?_
        refine lv_aload_n hx hb dX3_findChance_77 rfl (lv_at hl 0 rfl) ?_
        refine gX3_this_chance hC hw dX3_findChance_78 ?_
        refine lv_bipush (v := 9) hx hb dX3_findChance_81 rfl ?_
        refine lv_iload hx hb dX3_findChance_83 (lv_at hl 4 rfl) ?_
        refine lv_imul hx hb dX3_findChance_85 ?_
        refine lv_iload hx hb dX3_findChance_86 (lv_at hl 5 rfl) ?_
        refine lv_iadd hx hb dX3_findChance_88 ?_
        obtain ⟨b2, hf⟩ := dk_c hf
        refine aX3_m_chance hC hw b2 dX3_findChance_89 ?_
        refine lv_lmul hx hb dX3_findChance_90 ?_
        refine lv_ladd hx hb dX3_findChance_91 ?_
        obtain ⟨b3, hf⟩ := dk_c hf
        refine sX3_m_chance hC hw b3 dX3_findChance_92 (fun H locs hw => ?_)
        refine lv_aload_n hx hb dX3_findChance_93 rfl (lv_at hl 0 rfl) ?_
        refine gX3_this_chance hC hw dX3_findChance_94 ?_
        refine lv_bipush (v := 9) hx hb dX3_findChance_97 rfl ?_
        refine lv_iload hx hb dX3_findChance_99 (lv_at hl 4 rfl) ?_
        refine lv_imul hx hb dX3_findChance_101 ?_
        refine lv_iload hx hb dX3_findChance_102 (lv_at hl 5 rfl) ?_
        refine lv_iadd hx hb dX3_findChance_104 ?_
        refine lv_iconst (v := 1) hx hb dX3_findChance_105 rfl ?_
        refine lv_iadd hx hb dX3_findChance_106 ?_
        refine lv_dup2_11 hx hb dX3_findChance_107 rfl rfl ?_
        obtain ⟨b4, hf⟩ := dk_c hf
        refine aX3_m_chance hC hw b4 dX3_findChance_108 ?_
        refine W.ldc2 (v := 10) hx hb hown (hts _ q834) rfl dX3_findChance_109 ?_
        refine lv_iload_n hx hb dX3_findChance_112 rfl (lv_at hl 2 rfl) ?_
        refine lv_i2l (v := (v2.toInt64)) hx hb dX3_findChance_113 rfl ?_
        refine lv_lsub hx hb dX3_findChance_114 ?_
        refine lv_aload_n hx hb dX3_findChance_115 rfl (lv_at hl 0 rfl) ?_
        refine gX3_this_chance hC hw dX3_findChance_116 ?_
        refine lv_bipush (v := 9) hx hb dX3_findChance_119 rfl ?_
        refine lv_iload hx hb dX3_findChance_121 (lv_at hl 4 rfl) ?_
        refine lv_imul hx hb dX3_findChance_123 ?_
        refine lv_iload hx hb dX3_findChance_124 (lv_at hl 5 rfl) ?_
        refine lv_iadd hx hb dX3_findChance_126 ?_
        obtain ⟨b5, hf⟩ := dk_c hf
        refine aX3_m_chance hC hw b5 dX3_findChance_127 ?_
        refine lv_lmul hx hb dX3_findChance_128 ?_
        refine lv_ladd hx hb dX3_findChance_129 ?_
        obtain ⟨b6, hf⟩ := dk_c hf
        refine sX3_m_chance hC hw b6 dX3_findChance_130 (fun H locs hw => ?_)
        refine lv_iinc (v := (v6 + 1)) (lv' := [(6, .int (v6 + 1)), (0, .ref (h 0)), (1, .int v1), (2, .int v2), (4, .int v4), (5, .int v5)]) hx hb dX3_findChance_131 hl (k := 5) rfl rfl (by decide) rfl (fun ls hl => ?_)
        refine lv_goto (tgt := 53) hx hb dX3_findChance_134 rfl ?_
        exact ih v5 (v6 + 1) (vp_updL (vp_updL m_chance (((9 : Int32) * (v5 + 1)) + v6).toNatClampNeg ((m_chance (((9 : Int32) * (v5 + 1)) + v6).toNatClampNeg) + ((v2.toInt64) * (m_chance (((9 : Int32) * v5) + v6).toNatClampNeg)))) ((((9 : Int32) * v5) + v6) + 1).toNatClampNeg (((vp_updL m_chance (((9 : Int32) * (v5 + 1)) + v6).toNatClampNeg ((m_chance (((9 : Int32) * (v5 + 1)) + v6).toNatClampNeg) + ((v2.toInt64) * (m_chance (((9 : Int32) * v5) + v6).toNatClampNeg)))) ((((9 : Int32) * v5) + v6) + 1).toNatClampNeg) + (((10 : Int64) - (v2.toInt64)) * ((vp_updL m_chance (((9 : Int32) * (v5 + 1)) + v6).toNatClampNeg ((m_chance (((9 : Int32) * (v5 + 1)) + v6).toNatClampNeg) + ((v2.toInt64) * (m_chance (((9 : Int32) * v5) + v6).toNatClampNeg)))) (((9 : Int32) * v5) + v6).toNatClampNeg)))) _ _ _ hw (lv_sub hl [1, 2, 3, 4, 5, 0] rfl) hf
  have L43 : ∀ (n : Nat), ∀ (v5 : Int32) (m_chance : Nat → Int64) (H : Heap) (locs : List Loc) (ls : Array Slot), Wo D A s.heap H locs (WX3 h E m_cell m_points m_fouls m_evening m_sightStep m_sightCell m_sights m_pad m_padMany m_act m_which m_whither m_hard m_acts m_moving m_goes m_left m_touches m_cushions m_cushionsThen m_touchedFirst m_stepsThen m_downNow m_touchedMany m_cushionMany m_were m_had m_badAct m_badWhy m_foulAct m_met m_far m_fit m_now m_fitMany m_byCell m_wins m_chance m_kept m_isKept m_keptAt m_isWriting) → lv_has ls 7 [(0, .ref (h 0)), (1, .int v1), (2, .int v2), (4, .int v4), (5, .int v5)] → fX3_findChance_L43 v1 v2 v3 v4  n v5 m_chance = some res → W p l e (rmN 0) s m args below meth c H locs 0 0 Q (F0 m 43 ls []) := by
    intro  n
    induction n with
    | zero =>
      intro v5 m_chance H locs ls hw hl hf
      exact dk_n hf
    | succ n ih =>
      intro v5 m_chance H locs ls hw hl hf
      refine lv_iload hx hb dX3_findChance_43 (lv_at hl 4 rfl) ?_
      refine lv_iload_n hx hb dX3_findChance_45 rfl (lv_at hl 1 rfl) ?_
      refine lv_icmp_ge (tgt := 143) hx hb dX3_findChance_46 rfl (fun c8 => ?_) (fun c8 => ?_)
      · have hf := dk_t c8 hf
        obtain rfl := Option.some.inj hf
        exact ret _ _ _ _ dX3_findChance_143 hw
      · have hf := dk_f c8 hf
        refine lv_iload hx hb dX3_findChance_49 (lv_at hl 3 rfl) ?_
        refine lv_istore (lv' := [(6, .int v4), (0, .ref (h 0)), (1, .int v1), (2, .int v2), (4, .int v4), (5, .int v5)]) hx hb dX3_findChance_51 hl (by decide) rfl (fun ls hl => ?_)
        exact L53 (fun y0 y1 => fX3_findChance_L43 v1 v2 v3 v4 n y0 y1) ih FU v5 v4 m_chance _ _ _ hw (lv_sub hl [1, 2, 3, 4, 5, 0] rfl) hf
  have L3 : ∀ (n : Nat), ∀ (v5 : Int32) (m_chance : Nat → Int64) (H : Heap) (locs : List Loc) (ls : Array Slot), Wo D A s.heap H locs (WX3 h E m_cell m_points m_fouls m_evening m_sightStep m_sightCell m_sights m_pad m_padMany m_act m_which m_whither m_hard m_acts m_moving m_goes m_left m_touches m_cushions m_cushionsThen m_touchedFirst m_stepsThen m_downNow m_touchedMany m_cushionMany m_were m_had m_badAct m_badWhy m_foulAct m_met m_far m_fit m_now m_fitMany m_byCell m_wins m_chance m_kept m_isKept m_keptAt m_isWriting) → lv_has ls 7 [(0, .ref (h 0)), (1, .int v1), (2, .int v2), (3, .int v3), (4, .int v4), (5, .int v5)] → fX3_findChance_L3 v1 v2 v3 v4  n v5 m_chance = some res → W p l e (rmN 0) s m args below meth c H locs 0 0 Q (F0 m 3 ls []) := by
    intro  n
    induction n with
    | zero =>
      intro v5 m_chance H locs ls hw hl hf
      exact dk_n hf
    | succ n ih =>
      intro v5 m_chance H locs ls hw hl hf
      refine lv_iload hx hb dX3_findChance_3 (lv_at hl 5 rfl) ?_
      refine lv_bipush (v := 81) hx hb dX3_findChance_5 rfl ?_
      refine lv_icmp_ge (tgt := 40) hx hb dX3_findChance_7 rfl (fun c12 => ?_) (fun c12 => ?_)
      · have hf := dk_t c12 hf
        refine lv_iload_n hx hb dX3_findChance_40 rfl (lv_at hl 3 rfl) ?_
        refine lv_istore (lv' := [(5, .int v3), (0, .ref (h 0)), (1, .int v1), (2, .int v2), (3, .int v3), (4, .int v4)]) hx hb dX3_findChance_41 hl (by decide) rfl (fun ls hl => ?_)
        exact L43 FU v3 m_chance _ _ _ hw (lv_sub hl [1, 2, 3, 5, 0] rfl) hf
      · have hf := dk_f c12 hf
        refine lv_aload_n hx hb dX3_findChance_10 rfl (lv_at hl 0 rfl) ?_
        refine gX3_this_chance hC hw dX3_findChance_11 ?_
        refine lv_iload hx hb dX3_findChance_14 (lv_at hl 5 rfl) ?_
        refine lv_iload hx hb dX3_findChance_16 (lv_at hl 5 rfl) ?_
        refine lv_bipush (v := 9) hx hb dX3_findChance_18 rfl ?_
        refine lv_iload_n hx hb dX3_findChance_20 rfl (lv_at hl 3 rfl) ?_
        refine lv_imul hx hb dX3_findChance_21 ?_
        refine lv_iload hx hb dX3_findChance_22 (lv_at hl 4 rfl) ?_
        refine lv_iadd hx hb dX3_findChance_24 ?_
        refine lv_icmp_ne (tgt := 32) hx hb dX3_findChance_25 rfl (fun c11 => ?_) (fun c11 => ?_)
        · have hf := dk_f c11 hf
          refine lv_lconst (v := 0) hx hb dX3_findChance_32 rfl ?_
          obtain ⟨b9, hf⟩ := dk_c hf
          refine sX3_m_chance hC hw b9 dX3_findChance_33 (fun H locs hw => ?_)
          refine lv_iinc (v := (v5 + 1)) (lv' := [(5, .int (v5 + 1)), (0, .ref (h 0)), (1, .int v1), (2, .int v2), (3, .int v3), (4, .int v4)]) hx hb dX3_findChance_34 hl (k := 5) rfl rfl (by decide) rfl (fun ls hl => ?_)
          refine lv_goto (tgt := 3) hx hb dX3_findChance_37 rfl ?_
          exact ih (v5 + 1) (vp_updL m_chance v5.toNatClampNeg 0) _ _ _ hw (lv_sub hl [1, 2, 3, 4, 5, 0] rfl) hf
        · have hf := dk_t c11 hf
          refine lv_lconst (v := 1) hx hb dX3_findChance_28 rfl ?_
          refine lv_goto (tgt := 33) hx hb dX3_findChance_29 rfl ?_
          obtain ⟨b10, hf⟩ := dk_c hf
          refine sX3_m_chance hC hw b10 dX3_findChance_33 (fun H locs hw => ?_)
          refine lv_iinc (v := (v5 + 1)) (lv' := [(5, .int (v5 + 1)), (0, .ref (h 0)), (1, .int v1), (2, .int v2), (3, .int v3), (4, .int v4)]) hx hb dX3_findChance_34 hl (k := 5) rfl rfl (by decide) rfl (fun ls hl => ?_)
          refine lv_goto (tgt := 3) hx hb dX3_findChance_37 rfl ?_
          exact ih (v5 + 1) (vp_updL m_chance v5.toNatClampNeg 1) _ _ _ hw (lv_sub hl [1, 2, 3, 4, 5, 0] rfl) hf
  refine lv_iconst (v := 0) hx hb dX3_findChance_0 rfl ?_
  refine lv_istore (lv' := [(5, .int 0), (0, .ref (h 0)), (1, .int v1), (2, .int v2), (3, .int v3), (4, .int v4)]) hx hb dX3_findChance_1 hl (by decide) rfl (fun ls hl => ?_)
  exact L3 FU 0 m_chance _ _ _ hw (lv_sub hl [1, 2, 3, 4, 5, 0] rfl) hf
set_option maxHeartbeats 4000000 in
set_option maxRecDepth 100000 in
theorem metX3_match {v1 : Int32} {v2 : Int32} {v3 : Int32} {v4 : Int32} {v5 : Int32} {v6 : Int32} {res : Int64 × (Nat → Int64)} (hf : fX3_match v1 v2 v3 v4 v5 v6 m_chance = some res) : CtL l yX3_match cX3_match 14 1 D E sz [.ref (h 0), .int v1, .int v2, .int v3, .int v4, .int v5, .int v6] (WX3 h E m_cell m_points m_fouls m_evening m_sightStep m_sightCell m_sights m_pad m_padMany m_act m_which m_whither m_hard m_acts m_moving m_goes m_left m_touches m_cushions m_cushionsThen m_touchedFirst m_stepsThen m_downNow m_touchedMany m_cushionMany m_were m_had m_badAct m_badWhy m_foulAct m_met m_far m_fit m_now m_fitMany m_byCell m_wins m_chance m_kept m_isKept m_keptAt m_isWriting) (WX3 h E m_cell m_points m_fouls m_evening m_sightStep m_sightCell m_sights m_pad m_padMany m_act m_which m_whither m_hard m_acts m_moving m_goes m_left m_touches m_cushions m_cushionsThen m_touchedFirst m_stepsThen m_downNow m_touchedMany m_cushionMany m_were m_had m_badAct m_badWhy m_foulAct m_met m_far m_fit m_now m_fitMany m_byCell m_wins res.2 m_kept m_isKept m_keptAt m_isWriting) res.1 := by
  refine startL (own := RX3) (by decide) rfl (Nat.le_of_ble_eq_true rfl) ?_
  intro p e s m args below meth c A Q ls hC ret hl hw
  have hx := hC.1.1
  have hb := hC.1.2.1
  have hown := hC.1.2.2.2.1
  have hts := hC.1.2.2.2.2
  have hl : lv_has ls 14 [(0, .ref (h 0)), (1, .int v1), (2, .int v2), (3, .int v3), (4, .int v4), (5, .int v5), (6, .int v6)] := hl
  have L196 : ∀ (n : Nat), ∀ (v7 : Int32) (v8 : Int64) (v10 : Int64) (v12 : Int32) (m_chance : Nat → Int64) (H : Heap) (locs : List Loc) (ls : Array Slot), Wo D A s.heap H locs (WX3 h E m_cell m_points m_fouls m_evening m_sightStep m_sightCell m_sights m_pad m_padMany m_act m_which m_whither m_hard m_acts m_moving m_goes m_left m_touches m_cushions m_cushionsThen m_touchedFirst m_stepsThen m_downNow m_touchedMany m_cushionMany m_were m_had m_badAct m_badWhy m_foulAct m_met m_far m_fit m_now m_fitMany m_byCell m_wins m_chance m_kept m_isKept m_keptAt m_isWriting) → lv_has ls 14 [(0, .ref (h 0)), (1, .int v1), (3, .int v3), (4, .int v4), (5, .int v5), (6, .int v6), (7, .int v7), (8, .long v8), (10, .long v10), (12, .int v12)] → fX3_match_L196 v1 v2 v3 v4 v5 v6  n v7 v8 v10 v12 m_chance = some res → W p l e (rmN 1) s m args below meth c H locs 0 0 Q (F0 m 196 ls []) := by
    intro  n
    induction n with
    | zero =>
      intro v7 v8 v10 v12 m_chance H locs ls hw hl hf
      exact dk_n hf
    | succ n ih =>
      intro v7 v8 v10 v12 m_chance H locs ls hw hl hf
      refine lv_iload hx hb dX3_match_196 (lv_at hl 9 rfl) ?_
      refine lv_iload_n hx hb dX3_match_198 rfl (lv_at hl 1 rfl) ?_
      refine lv_icmp_ge (tgt := 252) hx hb dX3_match_199 rfl (fun c9 => ?_) (fun c9 => ?_)
      · have hf := dk_t c9 hf
        refine lv_iload hx hb dX3_match_252 (lv_at hl 4 rfl) ?_
        refine lv_if_ne (tgt := 262) hx hb dX3_match_254 rfl (fun c6 => ?_) (fun c6 => ?_)
        · have hf := dk_f c6 hf
          refine lv_lload hx hb dX3_match_262 (lv_at hl 8 rfl) ?_
          refine W.ldc2 (v := 10) hx hb hown (hts _ q834) rfl dX3_match_264 ?_
          refine lv_iload hx hb dX3_match_267 (lv_at hl 6 rfl) ?_
          obtain ⟨z2, hz2, hf⟩ := dk_b hf
          refine callSL (rest := [.long v10]) 0 0 hC hw (st1 _) (metX3_power hz2) mi_X3_power q840 (rm_ok (by decide) (by decide)) rfl hl.1 rfl (Nat.le_of_ble_eq_true rfl) dX3_match_269 ⟨Nat.zero_le _, Nat.zero_le _⟩ (st2 _) (fun H locs hw => ?_)
          refine lv_iload hx hb dX3_match_272 (lv_at hl 5 rfl) ?_
          obtain ⟨z3, hz3, hf⟩ := dk_b hf
          refine callSL (rest := []) 0 0 hC hw (st1 _) (metX3_lowest hz3) mi_X3_lowest q843 (rm_ok (by decide) (by decide)) rfl hl.1 rfl (Nat.le_of_ble_eq_true rfl) dX3_match_274 ⟨Nat.zero_le _, Nat.zero_le _⟩ (st2 _) (fun H locs hw => ?_)
          obtain rfl := Option.some.inj hf
          exact ret _ _ _ _ _ dX3_match_277 rfl hw
        · have hf := dk_t c6 hf
          refine lv_lload hx hb dX3_match_257 (lv_at hl 7 rfl) ?_
          refine lv_goto (tgt := 264) hx hb dX3_match_259 rfl ?_
          refine W.ldc2 (v := 10) hx hb hown (hts _ q834) rfl dX3_match_264 ?_
          refine lv_iload hx hb dX3_match_267 (lv_at hl 6 rfl) ?_
          obtain ⟨z4, hz4, hf⟩ := dk_b hf
          refine callSL (rest := [.long v8]) 0 0 hC hw (st1 _) (metX3_power hz4) mi_X3_power q840 (rm_ok (by decide) (by decide)) rfl hl.1 rfl (Nat.le_of_ble_eq_true rfl) dX3_match_269 ⟨Nat.zero_le _, Nat.zero_le _⟩ (st2 _) (fun H locs hw => ?_)
          refine lv_iload hx hb dX3_match_272 (lv_at hl 5 rfl) ?_
          obtain ⟨z5, hz5, hf⟩ := dk_b hf
          refine callSL (rest := []) 0 0 hC hw (st1 _) (metX3_lowest hz5) mi_X3_lowest q843 (rm_ok (by decide) (by decide)) rfl hl.1 rfl (Nat.le_of_ble_eq_true rfl) dX3_match_274 ⟨Nat.zero_le _, Nat.zero_le _⟩ (st2 _) (fun H locs hw => ?_)
          obtain rfl := Option.some.inj hf
          exact ret _ _ _ _ _ dX3_match_277 rfl hw
      · have hf := dk_f c9 hf
        refine lv_iload hx hb dX3_match_202 (lv_at hl 9 rfl) ?_
        refine lv_iload_n hx hb dX3_match_204 rfl (lv_at hl 2 rfl) ?_
        refine lv_isub hx hb dX3_match_205 ?_
        refine lv_iload_n hx hb dX3_match_206 rfl (lv_at hl 1 rfl) ?_
        refine lv_iadd hx hb dX3_match_207 ?_
        refine lv_iload hx hb dX3_match_208 (lv_at hl 3 rfl) ?_
        refine lv_isub hx hb dX3_match_210 ?_
        refine lv_istore (lv' := [(13, .int (((v12 - v3) + v1) - v4)), (0, .ref (h 0)), (1, .int v1), (3, .int v3), (4, .int v4), (5, .int v5), (6, .int v6), (7, .int v7), (8, .long v8), (10, .long v10), (12, .int v12)]) hx hb dX3_match_211 hl (by decide) rfl (fun ls hl => ?_)
        refine lv_lload hx hb dX3_match_213 (lv_at hl 9 rfl) ?_
        refine lv_iload hx hb dX3_match_215 (lv_at hl 0 rfl) ?_
        refine lv_i2l (v := ((((v12 - v3) + v1) - v4).toInt64)) hx hb dX3_match_217 rfl ?_
        refine lv_aload_n hx hb dX3_match_218 rfl (lv_at hl 1 rfl) ?_
        refine gX3_this_chance hC hw dX3_match_219 ?_
        refine lv_bipush (v := 9) hx hb dX3_match_222 rfl ?_
        refine lv_iload hx hb dX3_match_224 (lv_at hl 10 rfl) ?_
        refine lv_imul hx hb dX3_match_226 ?_
        refine lv_iload_n hx hb dX3_match_227 rfl (lv_at hl 2 rfl) ?_
        refine lv_iadd hx hb dX3_match_228 ?_
        obtain ⟨b7, hf⟩ := dk_c hf
        refine aX3_m_chance hC hw b7 dX3_match_229 ?_
        refine lv_lmul hx hb dX3_match_230 ?_
        refine W.ldc2 (v := 10) hx hb hown (hts _ q834) rfl dX3_match_231 ?_
        refine lv_iload hx hb dX3_match_234 (lv_at hl 7 rfl) ?_
        refine lv_iload hx hb dX3_match_236 (lv_at hl 0 rfl) ?_
        refine lv_isub hx hb dX3_match_238 ?_
        obtain ⟨z8, hz8, hf⟩ := dk_b hf
        refine callSL (rest := [.long (((((v12 - v3) + v1) - v4).toInt64) * (m_chance (((9 : Int32) * v12) + v1).toNatClampNeg)), .long v10]) 0 0 hC hw (st1 _) (metX3_power hz8) mi_X3_power q840 (rm_ok (by decide) (by decide)) rfl hl.1 rfl (Nat.le_of_ble_eq_true rfl) dX3_match_239 ⟨Nat.zero_le _, Nat.zero_le _⟩ (st2 _) (fun H locs hw => ?_)
        refine lv_lmul hx hb dX3_match_242 ?_
        refine lv_ladd hx hb dX3_match_243 ?_
        refine lv_lstore (lv' := [(10, .long (v10 + ((((((v12 - v3) + v1) - v4).toInt64) * (m_chance (((9 : Int32) * v12) + v1).toNatClampNeg)) * z8))), (13, .int (((v12 - v3) + v1) - v4)), (0, .ref (h 0)), (1, .int v1), (3, .int v3), (4, .int v4), (5, .int v5), (6, .int v6), (7, .int v7), (8, .long v8), (12, .int v12)]) hx hb dX3_match_244 hl (by decide) rfl (fun ls hl => ?_)
        refine lv_iinc (v := (v12 + 1)) (lv' := [(12, .int (v12 + 1)), (10, .long (v10 + ((((((v12 - v3) + v1) - v4).toInt64) * (m_chance (((9 : Int32) * v12) + v1).toNatClampNeg)) * z8))), (13, .int (((v12 - v3) + v1) - v4)), (0, .ref (h 0)), (1, .int v1), (3, .int v3), (4, .int v4), (5, .int v5), (6, .int v6), (7, .int v7), (8, .long v8)]) hx hb dX3_match_246 hl (k := 10) rfl rfl (by decide) rfl (fun ls hl => ?_)
        refine lv_goto (tgt := 196) hx hb dX3_match_249 rfl ?_
        exact ih v7 v8 (v10 + ((((((v12 - v3) + v1) - v4).toInt64) * (m_chance (((9 : Int32) * v12) + v1).toNatClampNeg)) * z8)) (v12 + 1) m_chance _ _ _ hw (lv_sub hl [3, 4, 5, 6, 7, 8, 9, 10, 1, 0] rfl) hf
  have L108 : ∀ (n : Nat), ∀ (v7 : Int32) (v8 : Int64) (v10 : Int64) (v12 : Int32) (m_chance : Nat → Int64) (H : Heap) (locs : List Loc) (ls : Array Slot), Wo D A s.heap H locs (WX3 h E m_cell m_points m_fouls m_evening m_sightStep m_sightCell m_sights m_pad m_padMany m_act m_which m_whither m_hard m_acts m_moving m_goes m_left m_touches m_cushions m_cushionsThen m_touchedFirst m_stepsThen m_downNow m_touchedMany m_cushionMany m_were m_had m_badAct m_badWhy m_foulAct m_met m_far m_fit m_now m_fitMany m_byCell m_wins m_chance m_kept m_isKept m_keptAt m_isWriting) → lv_has ls 14 [(0, .ref (h 0)), (1, .int v1), (3, .int v3), (4, .int v4), (5, .int v5), (6, .int v6), (7, .int v7), (8, .long v8), (10, .long v10), (12, .int v12)] → fX3_match_L108 v1 v2 v3 v4 v5 v6  n v7 v8 v10 v12 m_chance = some res → W p l e (rmN 1) s m args below meth c H locs 0 0 Q (F0 m 108 ls []) := by
    intro  n
    induction n with
    | zero =>
      intro v7 v8 v10 v12 m_chance H locs ls hw hl hf
      exact dk_n hf
    | succ n ih =>
      intro v7 v8 v10 v12 m_chance H locs ls hw hl hf
      refine lv_iload hx hb dX3_match_108 (lv_at hl 9 rfl) ?_
      refine lv_iload_n hx hb dX3_match_110 rfl (lv_at hl 1 rfl) ?_
      refine lv_icmp_ge (tgt := 193) hx hb dX3_match_111 rfl (fun c14 => ?_) (fun c14 => ?_)
      · have hf := dk_t c14 hf
        refine lv_iload_n hx hb dX3_match_193 rfl (lv_at hl 2 rfl) ?_
        refine lv_istore (lv' := [(12, .int v3), (0, .ref (h 0)), (1, .int v1), (3, .int v3), (4, .int v4), (5, .int v5), (6, .int v6), (7, .int v7), (8, .long v8), (10, .long v10)]) hx hb dX3_match_194 hl (by decide) rfl (fun ls hl => ?_)
        exact L196 FU v7 v8 v10 v3 m_chance _ _ _ hw (lv_sub hl [1, 2, 3, 4, 5, 6, 7, 8, 9, 0] rfl) hf
      · have hf := dk_f c14 hf
        refine lv_iload_n hx hb dX3_match_114 rfl (lv_at hl 1 rfl) ?_
        refine lv_iload_n hx hb dX3_match_115 rfl (lv_at hl 2 rfl) ?_
        refine lv_isub hx hb dX3_match_116 ?_
        refine lv_iload hx hb dX3_match_117 (lv_at hl 9 rfl) ?_
        refine lv_iadd hx hb dX3_match_119 ?_
        refine lv_iload hx hb dX3_match_120 (lv_at hl 3 rfl) ?_
        refine lv_isub hx hb dX3_match_122 ?_
        refine lv_istore (lv' := [(13, .int (((v1 - v3) + v12) - v4)), (0, .ref (h 0)), (1, .int v1), (3, .int v3), (4, .int v4), (5, .int v5), (6, .int v6), (7, .int v7), (8, .long v8), (10, .long v10), (12, .int v12)]) hx hb dX3_match_123 hl (by decide) rfl (fun ls hl => ?_)
        refine lv_lload hx hb dX3_match_125 (lv_at hl 8 rfl) ?_
        refine lv_aload_n hx hb dX3_match_127 rfl (lv_at hl 1 rfl) ?_
        refine gX3_this_chance hC hw dX3_match_128 ?_
        refine lv_bipush (v := 9) hx hb dX3_match_131 rfl ?_
        refine lv_iload_n hx hb dX3_match_133 rfl (lv_at hl 2 rfl) ?_
        refine lv_imul hx hb dX3_match_134 ?_
        refine lv_iload hx hb dX3_match_135 (lv_at hl 10 rfl) ?_
        refine lv_iadd hx hb dX3_match_137 ?_
        obtain ⟨b10, hf⟩ := dk_c hf
        refine aX3_m_chance hC hw b10 dX3_match_138 ?_
        refine W.ldc2 (v := 10) hx hb hown (hts _ q834) rfl dX3_match_139 ?_
        refine lv_iload hx hb dX3_match_142 (lv_at hl 7 rfl) ?_
        refine lv_iload hx hb dX3_match_144 (lv_at hl 0 rfl) ?_
        refine lv_isub hx hb dX3_match_146 ?_
        obtain ⟨z11, hz11, hf⟩ := dk_b hf
        refine callSL (rest := [.long (m_chance (((9 : Int32) * v1) + v12).toNatClampNeg), .long v8]) 0 0 hC hw (st1 _) (metX3_power hz11) mi_X3_power q840 (rm_ok (by decide) (by decide)) rfl hl.1 rfl (Nat.le_of_ble_eq_true rfl) dX3_match_147 ⟨Nat.zero_le _, Nat.zero_le _⟩ (st2 _) (fun H locs hw => ?_)
        refine lv_lmul hx hb dX3_match_150 ?_
        refine lv_ladd hx hb dX3_match_151 ?_
        refine lv_lstore (lv' := [(8, .long (v8 + ((m_chance (((9 : Int32) * v1) + v12).toNatClampNeg) * z11))), (13, .int (((v1 - v3) + v12) - v4)), (0, .ref (h 0)), (1, .int v1), (3, .int v3), (4, .int v4), (5, .int v5), (6, .int v6), (7, .int v7), (10, .long v10), (12, .int v12)]) hx hb dX3_match_152 hl (by decide) rfl (fun ls hl => ?_)
        refine lv_lload hx hb dX3_match_154 (lv_at hl 9 rfl) ?_
        refine lv_iload hx hb dX3_match_156 (lv_at hl 1 rfl) ?_
        refine lv_i2l (v := ((((v1 - v3) + v12) - v4).toInt64)) hx hb dX3_match_158 rfl ?_
        refine lv_aload_n hx hb dX3_match_159 rfl (lv_at hl 2 rfl) ?_
        refine gX3_this_chance hC hw dX3_match_160 ?_
        refine lv_bipush (v := 9) hx hb dX3_match_163 rfl ?_
        refine lv_iload_n hx hb dX3_match_165 rfl (lv_at hl 3 rfl) ?_
        refine lv_imul hx hb dX3_match_166 ?_
        refine lv_iload hx hb dX3_match_167 (lv_at hl 10 rfl) ?_
        refine lv_iadd hx hb dX3_match_169 ?_
        obtain ⟨b12, hf⟩ := dk_c hf
        refine aX3_m_chance hC hw b12 dX3_match_170 ?_
        refine lv_lmul hx hb dX3_match_171 ?_
        refine W.ldc2 (v := 10) hx hb hown (hts _ q834) rfl dX3_match_172 ?_
        refine lv_iload hx hb dX3_match_175 (lv_at hl 8 rfl) ?_
        refine lv_iload hx hb dX3_match_177 (lv_at hl 1 rfl) ?_
        refine lv_isub hx hb dX3_match_179 ?_
        obtain ⟨z13, hz13, hf⟩ := dk_b hf
        refine callSL (rest := [.long (((((v1 - v3) + v12) - v4).toInt64) * (m_chance (((9 : Int32) * v1) + v12).toNatClampNeg)), .long v10]) 0 0 hC hw (st1 _) (metX3_power hz13) mi_X3_power q840 (rm_ok (by decide) (by decide)) rfl hl.1 rfl (Nat.le_of_ble_eq_true rfl) dX3_match_180 ⟨Nat.zero_le _, Nat.zero_le _⟩ (st2 _) (fun H locs hw => ?_)
        refine lv_lmul hx hb dX3_match_183 ?_
        refine lv_ladd hx hb dX3_match_184 ?_
        refine lv_lstore (lv' := [(10, .long (v10 + ((((((v1 - v3) + v12) - v4).toInt64) * (m_chance (((9 : Int32) * v1) + v12).toNatClampNeg)) * z13))), (8, .long (v8 + ((m_chance (((9 : Int32) * v1) + v12).toNatClampNeg) * z11))), (13, .int (((v1 - v3) + v12) - v4)), (0, .ref (h 0)), (1, .int v1), (3, .int v3), (4, .int v4), (5, .int v5), (6, .int v6), (7, .int v7), (12, .int v12)]) hx hb dX3_match_185 hl (by decide) rfl (fun ls hl => ?_)
        refine lv_iinc (v := (v12 + 1)) (lv' := [(12, .int (v12 + 1)), (10, .long (v10 + ((((((v1 - v3) + v12) - v4).toInt64) * (m_chance (((9 : Int32) * v1) + v12).toNatClampNeg)) * z13))), (8, .long (v8 + ((m_chance (((9 : Int32) * v1) + v12).toNatClampNeg) * z11))), (13, .int (((v1 - v3) + v12) - v4)), (0, .ref (h 0)), (1, .int v1), (3, .int v3), (4, .int v4), (5, .int v5), (6, .int v6), (7, .int v7)]) hx hb dX3_match_187 hl (k := 10) rfl rfl (by decide) rfl (fun ls hl => ?_)
        refine lv_goto (tgt := 108) hx hb dX3_match_190 rfl ?_
        exact ih v7 (v8 + ((m_chance (((9 : Int32) * v1) + v12).toNatClampNeg) * z11)) (v10 + ((((((v1 - v3) + v12) - v4).toInt64) * (m_chance (((9 : Int32) * v1) + v12).toNatClampNeg)) * z13)) (v12 + 1) m_chance _ _ _ hw (lv_sub hl [4, 5, 6, 7, 8, 9, 10, 2, 1, 0] rfl) hf
  refine lv_iload_n hx hb dX3_match_0 rfl (lv_at hl 1 rfl) ?_
  refine lv_i2l (v := (v1.toInt64)) hx hb dX3_match_1 rfl ?_
  refine lv_lconst (v := 1) hx hb dX3_match_2 rfl ?_
  refine W.ldc2 (v := 8) hx hb hown (hts _ q699) rfl dX3_match_3 ?_
  refine callSI (rest := []) 0 0 hC hw (st1 _) (metX3_in rfl) mi_X3_in q590 (rm_ok (by decide) (by decide)) rfl hl.1 rfl (Nat.le_of_ble_eq_true rfl) dX3_match_6 ⟨Nat.zero_le _, Nat.zero_le _⟩ (st2 _) (fun H locs hw => ?_)
  refine lv_if_eq (tgt := 73) hx hb dX3_match_9 rfl (fun c20 => ?_) (fun c20 => ?_)
  · have hf := dk_t c20 hf
    refine W.ldc2 (v := (-1000000000000000002)) hx hb hown (hts _ q835) rfl dX3_match_73 ?_
    obtain rfl := Option.some.inj hf
    exact ret _ _ _ _ _ dX3_match_76 rfl hw
  · have hf := dk_f c20 hf
    refine lv_iload_n hx hb dX3_match_12 rfl (lv_at hl 2 rfl) ?_
    refine lv_i2l (v := (v2.toInt64)) hx hb dX3_match_13 rfl ?_
    refine lv_lconst (v := 0) hx hb dX3_match_14 rfl ?_
    refine W.ldc2 (v := 10) hx hb hown (hts _ q834) rfl dX3_match_15 ?_
    refine callSI (rest := []) 0 0 hC hw (st1 _) (metX3_in rfl) mi_X3_in q590 (rm_ok (by decide) (by decide)) rfl hl.1 rfl (Nat.le_of_ble_eq_true rfl) dX3_match_18 ⟨Nat.zero_le _, Nat.zero_le _⟩ (st2 _) (fun H locs hw => ?_)
    refine lv_if_eq (tgt := 73) hx hb dX3_match_21 rfl (fun c19 => ?_) (fun c19 => ?_)
    · have hf := dk_t c19 hf
      refine W.ldc2 (v := (-1000000000000000002)) hx hb hown (hts _ q835) rfl dX3_match_73 ?_
      obtain rfl := Option.some.inj hf
      exact ret _ _ _ _ _ dX3_match_76 rfl hw
    · have hf := dk_f c19 hf
      refine lv_iload_n hx hb dX3_match_24 rfl (lv_at hl 3 rfl) ?_
      refine lv_i2l (v := (v3.toInt64)) hx hb dX3_match_25 rfl ?_
      refine lv_lconst (v := 0) hx hb dX3_match_26 rfl ?_
      refine lv_iload_n hx hb dX3_match_27 rfl (lv_at hl 1 rfl) ?_
      refine lv_iconst (v := 1) hx hb dX3_match_28 rfl ?_
      refine lv_isub hx hb dX3_match_29 ?_
      refine lv_i2l (v := ((v1 - 1).toInt64)) hx hb dX3_match_30 rfl ?_
      refine callSI (rest := []) 0 0 hC hw (st1 _) (metX3_in rfl) mi_X3_in q590 (rm_ok (by decide) (by decide)) rfl hl.1 rfl (Nat.le_of_ble_eq_true rfl) dX3_match_31 ⟨Nat.zero_le _, Nat.zero_le _⟩ (st2 _) (fun H locs hw => ?_)
      refine lv_if_eq (tgt := 73) hx hb dX3_match_34 rfl (fun c18 => ?_) (fun c18 => ?_)
      · have hf := dk_t c18 hf
        refine W.ldc2 (v := (-1000000000000000002)) hx hb hown (hts _ q835) rfl dX3_match_73 ?_
        obtain rfl := Option.some.inj hf
        exact ret _ _ _ _ _ dX3_match_76 rfl hw
      · have hf := dk_f c18 hf
        refine lv_iload hx hb dX3_match_37 (lv_at hl 4 rfl) ?_
        refine lv_i2l (v := (v4.toInt64)) hx hb dX3_match_39 rfl ?_
        refine lv_lconst (v := 0) hx hb dX3_match_40 rfl ?_
        refine lv_iload_n hx hb dX3_match_41 rfl (lv_at hl 1 rfl) ?_
        refine lv_iconst (v := 1) hx hb dX3_match_42 rfl ?_
        refine lv_isub hx hb dX3_match_43 ?_
        refine lv_i2l (v := ((v1 - 1).toInt64)) hx hb dX3_match_44 rfl ?_
        refine callSI (rest := []) 0 0 hC hw (st1 _) (metX3_in rfl) mi_X3_in q590 (rm_ok (by decide) (by decide)) rfl hl.1 rfl (Nat.le_of_ble_eq_true rfl) dX3_match_45 ⟨Nat.zero_le _, Nat.zero_le _⟩ (st2 _) (fun H locs hw => ?_)
        refine lv_if_eq (tgt := 73) hx hb dX3_match_48 rfl (fun c17 => ?_) (fun c17 => ?_)
        · have hf := dk_t c17 hf
          refine W.ldc2 (v := (-1000000000000000002)) hx hb hown (hts _ q835) rfl dX3_match_73 ?_
          obtain rfl := Option.some.inj hf
          exact ret _ _ _ _ _ dX3_match_76 rfl hw
        · have hf := dk_f c17 hf
          refine lv_iload hx hb dX3_match_51 (lv_at hl 5 rfl) ?_
          refine lv_i2l (v := (v5.toInt64)) hx hb dX3_match_53 rfl ?_
          refine lv_lconst (v := 0) hx hb dX3_match_54 rfl ?_
          refine lv_lconst (v := 1) hx hb dX3_match_55 rfl ?_
          refine callSI (rest := []) 0 0 hC hw (st1 _) (metX3_in rfl) mi_X3_in q590 (rm_ok (by decide) (by decide)) rfl hl.1 rfl (Nat.le_of_ble_eq_true rfl) dX3_match_56 ⟨Nat.zero_le _, Nat.zero_le _⟩ (st2 _) (fun H locs hw => ?_)
          refine lv_if_eq (tgt := 73) hx hb dX3_match_59 rfl (fun c16 => ?_) (fun c16 => ?_)
          · have hf := dk_t c16 hf
            refine W.ldc2 (v := (-1000000000000000002)) hx hb hown (hts _ q835) rfl dX3_match_73 ?_
            obtain rfl := Option.some.inj hf
            exact ret _ _ _ _ _ dX3_match_76 rfl hw
          · have hf := dk_f c16 hf
            refine lv_iload hx hb dX3_match_62 (lv_at hl 6 rfl) ?_
            refine lv_i2l (v := (v6.toInt64)) hx hb dX3_match_64 rfl ?_
            refine lv_lconst (v := 0) hx hb dX3_match_65 rfl ?_
            refine lv_lconst (v := 1) hx hb dX3_match_66 rfl ?_
            refine callSI (rest := []) 0 0 hC hw (st1 _) (metX3_in rfl) mi_X3_in q590 (rm_ok (by decide) (by decide)) rfl hl.1 rfl (Nat.le_of_ble_eq_true rfl) dX3_match_67 ⟨Nat.zero_le _, Nat.zero_le _⟩ (st2 _) (fun H locs hw => ?_)
            refine lv_if_ne (tgt := 77) hx hb dX3_match_70 rfl (fun c15 => ?_) (fun c15 => ?_)
            · have hf := dk_f c15 hf
              refine lv_aload_n hx hb dX3_match_77 rfl (lv_at hl 0 rfl) ?_
              refine lv_iload_n hx hb dX3_match_78 rfl (lv_at hl 1 rfl) ?_
              refine lv_iload_n hx hb dX3_match_79 rfl (lv_at hl 2 rfl) ?_
              refine lv_iload_n hx hb dX3_match_80 rfl (lv_at hl 3 rfl) ?_
              refine lv_iload hx hb dX3_match_81 (lv_at hl 4 rfl) ?_
              obtain ⟨z1, hz1, hf⟩ := dk_b hf
              refine callVV (rest := []) 0 _ 3 hC hw (sm1 _) (metX3_findChance hz1) mi_X3_findChance q836 (rm_ok (by decide) (by decide)) rfl rfl rfl hl.1 rfl (Nat.le_of_ble_eq_true rfl) dX3_match_83 ⟨Nat.zero_le _, Nat.zero_le _⟩ (sm2 _ _) (fun H locs hw => ?_)
              refine lv_iload_n hx hb dX3_match_86 rfl (lv_at hl 1 rfl) ?_
              refine lv_iload_n hx hb dX3_match_87 rfl (lv_at hl 3 rfl) ?_
              refine lv_isub hx hb dX3_match_88 ?_
              refine lv_iload_n hx hb dX3_match_89 rfl (lv_at hl 1 rfl) ?_
              refine lv_iadd hx hb dX3_match_90 ?_
              refine lv_iload hx hb dX3_match_91 (lv_at hl 4 rfl) ?_
              refine lv_isub hx hb dX3_match_93 ?_
              refine lv_iconst (v := 1) hx hb dX3_match_94 rfl ?_
              refine lv_isub hx hb dX3_match_95 ?_
              refine lv_istore (lv' := [(7, .int ((((v1 - v3) + v1) - v4) - 1)), (0, .ref (h 0)), (1, .int v1), (2, .int v2), (3, .int v3), (4, .int v4), (5, .int v5), (6, .int v6)]) hx hb dX3_match_96 hl (by decide) rfl (fun ls hl => ?_)
              refine lv_lconst (v := 0) hx hb dX3_match_98 rfl ?_
              refine lv_lstore (lv' := [(8, .long 0), (7, .int ((((v1 - v3) + v1) - v4) - 1)), (0, .ref (h 0)), (1, .int v1), (2, .int v2), (3, .int v3), (4, .int v4), (5, .int v5), (6, .int v6)]) hx hb dX3_match_99 hl (by decide) rfl (fun ls hl => ?_)
              refine lv_lconst (v := 0) hx hb dX3_match_101 rfl ?_
              refine lv_lstore (lv' := [(10, .long 0), (8, .long 0), (7, .int ((((v1 - v3) + v1) - v4) - 1)), (0, .ref (h 0)), (1, .int v1), (2, .int v2), (3, .int v3), (4, .int v4), (5, .int v5), (6, .int v6)]) hx hb dX3_match_102 hl (by decide) rfl (fun ls hl => ?_)
              refine lv_iload hx hb dX3_match_104 (lv_at hl 7 rfl) ?_
              refine lv_istore (lv' := [(12, .int v4), (10, .long 0), (8, .long 0), (7, .int ((((v1 - v3) + v1) - v4) - 1)), (0, .ref (h 0)), (1, .int v1), (2, .int v2), (3, .int v3), (4, .int v4), (5, .int v5), (6, .int v6)]) hx hb dX3_match_106 hl (by decide) rfl (fun ls hl => ?_)
              exact L108 FU ((((v1 - v3) + v1) - v4) - 1) 0 0 v4 z1 _ _ _ hw (lv_sub hl [4, 5, 7, 8, 9, 10, 3, 2, 1, 0] rfl) hf
            · have hf := dk_t c15 hf
              refine W.ldc2 (v := (-1000000000000000002)) hx hb hown (hts _ q835) rfl dX3_match_73 ?_
              obtain rfl := Option.some.inj hf
              exact ret _ _ _ _ _ dX3_match_76 rfl hw
set_option maxHeartbeats 4000000 in
set_option maxRecDepth 100000 in
theorem metX3_season {v1 : Int32} {v2 : Int32} {v3 : Int32} {res : Int32 × (Nat → Int32) × Int32 × Int32 × Int32 × Int32 × Int32 × Int32 × Int32 × Int32 × Int32 × Int32 × Int32 × Int32 × Int32 × Int32 × (Nat → Int32) × (Nat → Int32)} (hf : fX3_season v1 v2 v3 m_cell m_points m_fouls m_evening m_moving m_goes m_left m_touches m_cushions m_cushionsThen m_touchedFirst m_stepsThen m_downNow m_touchedMany m_cushionMany m_were m_had = some res) : CtI l yX3_season cX3_season 8 .int 6 D E sz [.ref (h 0), .int v1, .int v2, .int v3] (WX3 h E m_cell m_points m_fouls m_evening m_sightStep m_sightCell m_sights m_pad m_padMany m_act m_which m_whither m_hard m_acts m_moving m_goes m_left m_touches m_cushions m_cushionsThen m_touchedFirst m_stepsThen m_downNow m_touchedMany m_cushionMany m_were m_had m_badAct m_badWhy m_foulAct m_met m_far m_fit m_now m_fitMany m_byCell m_wins m_chance m_kept m_isKept m_keptAt m_isWriting) (WX3 h E res.2.1 res.2.2.1 res.2.2.2.1 res.2.2.2.2.1 m_sightStep m_sightCell m_sights m_pad m_padMany m_act m_which m_whither m_hard m_acts res.2.2.2.2.2.1 res.2.2.2.2.2.2.1 res.2.2.2.2.2.2.2.1 res.2.2.2.2.2.2.2.2.1 res.2.2.2.2.2.2.2.2.2.1 res.2.2.2.2.2.2.2.2.2.2.1 res.2.2.2.2.2.2.2.2.2.2.2.1 res.2.2.2.2.2.2.2.2.2.2.2.2.1 res.2.2.2.2.2.2.2.2.2.2.2.2.2.1 res.2.2.2.2.2.2.2.2.2.2.2.2.2.2.1 res.2.2.2.2.2.2.2.2.2.2.2.2.2.2.2.1 res.2.2.2.2.2.2.2.2.2.2.2.2.2.2.2.2.1 res.2.2.2.2.2.2.2.2.2.2.2.2.2.2.2.2.2 m_badAct m_badWhy m_foulAct m_met m_far m_fit m_now m_fitMany m_byCell m_wins m_chance m_kept m_isKept m_keptAt m_isWriting) res.1 := by
  refine startI (own := RX3) (by decide) rfl (Nat.le_of_ble_eq_true rfl) ?_
  intro p e s m args below meth c A Q ls hC ret hl hw
  have hx := hC.1.1
  have hb := hC.1.2.1
  have hown := hC.1.2.2.2.1
  have hts := hC.1.2.2.2.2
  have hl : lv_has ls 8 [(0, .ref (h 0)), (1, .int v1), (2, .int v2), (3, .int v3)] := hl
  have L49 : ∀ (n : Nat), ∀ (v4 : Int32) (v5 : Int32) (m_cell : Nat → Int32) (m_points : Int32) (m_fouls : Int32) (m_evening : Int32) (m_moving : Int32) (m_goes : Int32) (m_left : Int32) (m_touches : Int32) (m_cushions : Int32) (m_cushionsThen : Int32) (m_touchedFirst : Int32) (m_stepsThen : Int32) (m_downNow : Int32) (m_touchedMany : Int32) (m_cushionMany : Int32) (m_were : Nat → Int32) (m_had : Nat → Int32) (H : Heap) (locs : List Loc) (ls : Array Slot), Wo D A s.heap H locs (WX3 h E m_cell m_points m_fouls m_evening m_sightStep m_sightCell m_sights m_pad m_padMany m_act m_which m_whither m_hard m_acts m_moving m_goes m_left m_touches m_cushions m_cushionsThen m_touchedFirst m_stepsThen m_downNow m_touchedMany m_cushionMany m_were m_had m_badAct m_badWhy m_foulAct m_met m_far m_fit m_now m_fitMany m_byCell m_wins m_chance m_kept m_isKept m_keptAt m_isWriting) → lv_has ls 8 [(0, .ref (h 0)), (2, .int v2), (3, .int v3), (4, .int v4), (5, .int v5)] → fX3_season_L49 v1 v2 v3  n v4 v5 m_cell m_points m_fouls m_evening m_moving m_goes m_left m_touches m_cushions m_cushionsThen m_touchedFirst m_stepsThen m_downNow m_touchedMany m_cushionMany m_were m_had = some res → W p l e (rmN 6) s m args below meth c H locs 0 0 Q (F0 m 49 ls []) := by
    intro  n
    induction n with
    | zero =>
      intro v4 v5 m_cell m_points m_fouls m_evening m_moving m_goes m_left m_touches m_cushions m_cushionsThen m_touchedFirst m_stepsThen m_downNow m_touchedMany m_cushionMany m_were m_had H locs ls hw hl hf
      exact dk_n hf
    | succ n ih =>
      intro v4 v5 m_cell m_points m_fouls m_evening m_moving m_goes m_left m_touches m_cushions m_cushionsThen m_touchedFirst m_stepsThen m_downNow m_touchedMany m_cushionMany m_were m_had H locs ls hw hl hf
      refine lv_iload hx hb dX3_season_49 (lv_at hl 4 rfl) ?_
      refine lv_iload_n hx hb dX3_season_51 rfl (lv_at hl 1 rfl) ?_
      refine lv_icmp_ge (tgt := 136) hx hb dX3_season_52 rfl (fun c11 => ?_) (fun c11 => ?_)
      · have hf := dk_t c11 hf
        refine lv_aload_n hx hb dX3_season_136 rfl (lv_at hl 0 rfl) ?_
        refine lv_iload_n hx hb dX3_season_137 rfl (lv_at hl 2 rfl) ?_
        refine lv_if_ne (tgt := 148) hx hb dX3_season_138 rfl (fun c7 => ?_) (fun c7 => ?_)
        · have hf := dk_f c7 hf
          refine lv_iload_n hx hb dX3_season_148 rfl (lv_at hl 2 rfl) ?_
          refine lv_iconst (v := 1) hx hb dX3_season_149 rfl ?_
          refine lv_icmp_ne (tgt := 160) hx hb dX3_season_150 rfl (fun c5 => ?_) (fun c5 => ?_)
          · have hf := dk_f c5 hf
            refine lv_aload_n hx hb dX3_season_160 rfl (lv_at hl 0 rfl) ?_
            obtain ⟨z2, hz2, hf⟩ := dk_b hf
            refine callVI (rest := [.ref (h 0)]) 0 _ 3 hC hw (sm1 _) (metX3_downMany hz2) mi_X3_downMany q731 (rm_ok (by decide) (by decide)) rfl rfl rfl hl.1 rfl (Nat.le_of_ble_eq_true rfl) dX3_season_161 ⟨Nat.zero_le _, Nat.zero_le _⟩ (sm2 _ _) (fun H locs hw => ?_)
            obtain ⟨z3, hz3, hf⟩ := dk_b hf
            refine callVI (rest := []) 0 _ 3 hC hw (sm1 _) (metX3_back hz3) mi_X3_back q718 (rm_ok (by decide) (by decide)) rfl rfl rfl hl.1 rfl (Nat.le_of_ble_eq_true rfl) dX3_season_164 ⟨Nat.zero_le _, Nat.zero_le _⟩ (sm2 _ _) (fun H locs hw => ?_)
            obtain rfl := Option.some.inj hf
            exact ret _ _ _ _ _ dX3_season_167 rfl rfl hw
          · have hf := dk_t c5 hf
            refine lv_aload_n hx hb dX3_season_153 rfl (lv_at hl 0 rfl) ?_
            refine gX3_this_fouls hC hw dX3_season_154 ?_
            refine lv_goto (tgt := 164) hx hb dX3_season_157 rfl ?_
            obtain ⟨z4, hz4, hf⟩ := dk_b hf
            refine callVI (rest := []) 0 _ 3 hC hw (sm1 _) (metX3_back hz4) mi_X3_back q718 (rm_ok (by decide) (by decide)) rfl rfl rfl hl.1 rfl (Nat.le_of_ble_eq_true rfl) dX3_season_164 ⟨Nat.zero_le _, Nat.zero_le _⟩ (sm2 _ _) (fun H locs hw => ?_)
            obtain rfl := Option.some.inj hf
            exact ret _ _ _ _ _ dX3_season_167 rfl rfl hw
        · have hf := dk_t c7 hf
          refine lv_aload_n hx hb dX3_season_141 rfl (lv_at hl 0 rfl) ?_
          refine gX3_this_points hC hw dX3_season_142 ?_
          refine lv_goto (tgt := 164) hx hb dX3_season_145 rfl ?_
          obtain ⟨z6, hz6, hf⟩ := dk_b hf
          refine callVI (rest := []) 0 _ 3 hC hw (sm1 _) (metX3_back hz6) mi_X3_back q718 (rm_ok (by decide) (by decide)) rfl rfl rfl hl.1 rfl (Nat.le_of_ble_eq_true rfl) dX3_season_164 ⟨Nat.zero_le _, Nat.zero_le _⟩ (sm2 _ _) (fun H locs hw => ?_)
          obtain rfl := Option.some.inj hf
          exact ret _ _ _ _ _ dX3_season_167 rfl rfl hw
      · have hf := dk_f c11 hf
        refine W.ldc2 (v := 75) hx hb hown (hts _ q851) rfl dX3_season_55 ?_
        refine lv_iload hx hb dX3_season_58 (lv_at hl 3 rfl) ?_
        refine lv_i2l (v := (v4.toInt64)) hx hb dX3_season_60 rfl ?_
        refine lv_lmul hx hb dX3_season_61 ?_
        refine W.ldc2 (v := 74) hx hb hown (hts _ q852) rfl dX3_season_62 ?_
        refine lv_ladd hx hb dX3_season_65 ?_
        refine W.ldc2 (v := 65537) hx hb hown (hts _ q853) rfl dX3_season_66 ?_
        refine lv_lrem hx hb dX3_season_69 (by decide) ?_
        refine lv_l2i (v := (((((75 : Int64) * (v4.toInt64)) + 74) - (((75 : Int64) * (v4.toInt64)) + 74) / 65537 * 65537).toInt32)) hx hb dX3_season_70 rfl ?_
        refine lv_istore (lv' := [(4, .int (((((75 : Int64) * (v4.toInt64)) + 74) - (((75 : Int64) * (v4.toInt64)) + 74) / 65537 * 65537).toInt32)), (0, .ref (h 0)), (2, .int v2), (3, .int v3), (5, .int v5)]) hx hb dX3_season_71 hl (by decide) rfl (fun ls hl => ?_)
        refine lv_iload hx hb dX3_season_73 (lv_at hl 0 rfl) ?_
        refine lv_iconst (v := 3) hx hb dX3_season_75 rfl ?_
        refine lv_idiv hx hb dX3_season_76 (by decide) ?_
        refine lv_bipush (v := 8) hx hb dX3_season_77 rfl ?_
        refine lv_irem hx hb dX3_season_79 (by decide) ?_
        refine callSI (rest := []) 0 0 hC hw (st1 _) (metX3_actBy rfl) mi_X3_actBy q854 (rm_ok (by decide) (by decide)) rfl hl.1 rfl (Nat.le_of_ble_eq_true rfl) dX3_season_80 ⟨Nat.zero_le _, Nat.zero_le _⟩ (st2 _) (fun H locs hw => ?_)
        refine lv_istore (lv' := [(6, .int (fX3_actBy (((((((75 : Int64) * (v4.toInt64)) + 74) - (((75 : Int64) * (v4.toInt64)) + 74) / 65537 * 65537).toInt32) / 3) - ((((((75 : Int64) * (v4.toInt64)) + 74) - (((75 : Int64) * (v4.toInt64)) + 74) / 65537 * 65537).toInt32) / 3) / 8 * 8))), (4, .int (((((75 : Int64) * (v4.toInt64)) + 74) - (((75 : Int64) * (v4.toInt64)) + 74) / 65537 * 65537).toInt32)), (0, .ref (h 0)), (2, .int v2), (3, .int v3), (5, .int v5)]) hx hb dX3_season_83 hl (by decide) rfl (fun ls hl => ?_)
        refine lv_iload hx hb dX3_season_85 (lv_at hl 1 rfl) ?_
        refine lv_bipush (v := 24) hx hb dX3_season_87 rfl ?_
        refine lv_idiv hx hb dX3_season_89 (by decide) ?_
        refine lv_istore (lv' := [(7, .int ((((((75 : Int64) * (v4.toInt64)) + 74) - (((75 : Int64) * (v4.toInt64)) + 74) / 65537 * 65537).toInt32) / 24)), (6, .int (fX3_actBy (((((((75 : Int64) * (v4.toInt64)) + 74) - (((75 : Int64) * (v4.toInt64)) + 74) / 65537 * 65537).toInt32) / 3) - ((((((75 : Int64) * (v4.toInt64)) + 74) - (((75 : Int64) * (v4.toInt64)) + 74) / 65537 * 65537).toInt32) / 3) / 8 * 8))), (4, .int (((((75 : Int64) * (v4.toInt64)) + 74) - (((75 : Int64) * (v4.toInt64)) + 74) / 65537 * 65537).toInt32)), (0, .ref (h 0)), (2, .int v2), (3, .int v3), (5, .int v5)]) hx hb dX3_season_90 hl (by decide) rfl (fun ls hl => ?_)
        refine lv_aload_n hx hb dX3_season_92 rfl (lv_at hl 3 rfl) ?_
        refine lv_iload hx hb dX3_season_93 (lv_at hl 1 rfl) ?_
        refine lv_iload hx hb dX3_season_95 (lv_at hl 2 rfl) ?_
        refine lv_iconst (v := 3) hx hb dX3_season_97 rfl ?_
        refine lv_irem hx hb dX3_season_98 (by decide) ?_
        obtain ⟨z8, hz8, hf⟩ := dk_b hf
        refine callVI (rest := []) 0 _ 3 hC hw (sm1 _) (metX3_whyNot hz8) mi_X3_whyNot q669 (rm_ok (by decide) (by decide)) rfl rfl rfl hl.1 rfl (Nat.le_of_ble_eq_true rfl) dX3_season_99 ⟨Nat.zero_le _, Nat.zero_le _⟩ (sm2 _ _) (fun H locs hw => ?_)
        refine lv_if_ne (tgt := 130) hx hb dX3_season_102 rfl (fun c10 => ?_) (fun c10 => ?_)
        · have hf := dk_f c10 hf
          refine lv_iinc (v := (v5 + 1)) (lv' := [(5, .int (v5 + 1)), (7, .int ((((((75 : Int64) * (v4.toInt64)) + 74) - (((75 : Int64) * (v4.toInt64)) + 74) / 65537 * 65537).toInt32) / 24)), (6, .int (fX3_actBy (((((((75 : Int64) * (v4.toInt64)) + 74) - (((75 : Int64) * (v4.toInt64)) + 74) / 65537 * 65537).toInt32) / 3) - ((((((75 : Int64) * (v4.toInt64)) + 74) - (((75 : Int64) * (v4.toInt64)) + 74) / 65537 * 65537).toInt32) / 3) / 8 * 8))), (4, .int (((((75 : Int64) * (v4.toInt64)) + 74) - (((75 : Int64) * (v4.toInt64)) + 74) / 65537 * 65537).toInt32)), (0, .ref (h 0)), (2, .int v2), (3, .int v3)]) hx hb dX3_season_130 hl (k := 6) rfl rfl (by decide) rfl (fun ls hl => ?_)
          refine lv_goto (tgt := 49) hx hb dX3_season_133 rfl ?_
          exact ih (((((75 : Int64) * (v4.toInt64)) + 74) - (((75 : Int64) * (v4.toInt64)) + 74) / 65537 * 65537).toInt32) (v5 + 1) m_cell m_points m_fouls m_evening m_moving m_goes m_left m_touches m_cushions m_cushionsThen m_touchedFirst m_stepsThen m_downNow m_touchedMany m_cushionMany m_were m_had _ _ _ hw (lv_sub hl [4, 5, 6, 3, 0] rfl) hf
        · have hf := dk_t c10 hf
          refine lv_aload_n hx hb dX3_season_105 rfl (lv_at hl 3 rfl) ?_
          refine lv_iload hx hb dX3_season_106 (lv_at hl 1 rfl) ?_
          refine lv_iload hx hb dX3_season_108 (lv_at hl 2 rfl) ?_
          refine lv_iconst (v := 3) hx hb dX3_season_110 rfl ?_
          refine lv_irem hx hb dX3_season_111 (by decide) ?_
          refine lv_iload hx hb dX3_season_112 (lv_at hl 0 rfl) ?_
          refine lv_bipush (v := 8) hx hb dX3_season_114 rfl ?_
          refine lv_irem hx hb dX3_season_116 (by decide) ?_
          refine lv_iconst (v := 1) hx hb dX3_season_117 rfl ?_
          refine lv_iload hx hb dX3_season_118 (lv_at hl 0 rfl) ?_
          refine lv_bipush (v := 8) hx hb dX3_season_120 rfl ?_
          refine lv_idiv hx hb dX3_season_122 (by decide) ?_
          refine lv_bipush (v := 9) hx hb dX3_season_123 rfl ?_
          refine lv_irem hx hb dX3_season_125 (by decide) ?_
          refine lv_iadd hx hb dX3_season_126 ?_
          obtain ⟨z9, hz9, hf⟩ := dk_b hf
          refine callVV (rest := []) 0 _ 3 hC hw (sm1 _) (metX3_happen hz9) mi_X3_happen q673 (rm_ok (by decide) (by decide)) rfl rfl rfl hl.1 rfl (Nat.le_of_ble_eq_true rfl) dX3_season_127 ⟨Nat.zero_le _, Nat.zero_le _⟩ (sm2 _ _) (fun H locs hw => ?_)
          refine lv_iinc (v := (v5 + 1)) (lv' := [(5, .int (v5 + 1)), (7, .int ((((((75 : Int64) * (v4.toInt64)) + 74) - (((75 : Int64) * (v4.toInt64)) + 74) / 65537 * 65537).toInt32) / 24)), (6, .int (fX3_actBy (((((((75 : Int64) * (v4.toInt64)) + 74) - (((75 : Int64) * (v4.toInt64)) + 74) / 65537 * 65537).toInt32) / 3) - ((((((75 : Int64) * (v4.toInt64)) + 74) - (((75 : Int64) * (v4.toInt64)) + 74) / 65537 * 65537).toInt32) / 3) / 8 * 8))), (4, .int (((((75 : Int64) * (v4.toInt64)) + 74) - (((75 : Int64) * (v4.toInt64)) + 74) / 65537 * 65537).toInt32)), (0, .ref (h 0)), (2, .int v2), (3, .int v3)]) hx hb dX3_season_130 hl (k := 6) rfl rfl (by decide) rfl (fun ls hl => ?_)
          refine lv_goto (tgt := 49) hx hb dX3_season_133 rfl ?_
          exact ih (((((75 : Int64) * (v4.toInt64)) + 74) - (((75 : Int64) * (v4.toInt64)) + 74) / 65537 * 65537).toInt32) (v5 + 1) z9.1 z9.2.1 z9.2.2.1 z9.2.2.2.1 z9.2.2.2.2.1 z9.2.2.2.2.2.1 z9.2.2.2.2.2.2.1 z9.2.2.2.2.2.2.2.1 z9.2.2.2.2.2.2.2.2.1 z9.2.2.2.2.2.2.2.2.2.1 z9.2.2.2.2.2.2.2.2.2.2.1 z9.2.2.2.2.2.2.2.2.2.2.2.1 z9.2.2.2.2.2.2.2.2.2.2.2.2.1 z9.2.2.2.2.2.2.2.2.2.2.2.2.2.1 z9.2.2.2.2.2.2.2.2.2.2.2.2.2.2.1 z9.2.2.2.2.2.2.2.2.2.2.2.2.2.2.2 m_had _ _ _ hw (lv_sub hl [4, 5, 6, 3, 0] rfl) hf
  refine lv_iload_n hx hb dX3_season_0 rfl (lv_at hl 1 rfl) ?_
  refine lv_i2l (v := (v1.toInt64)) hx hb dX3_season_1 rfl ?_
  refine lv_lconst (v := 0) hx hb dX3_season_2 rfl ?_
  refine W.ldc2 (v := 9999) hx hb hown (hts _ q850) rfl dX3_season_3 ?_
  refine callSI (rest := []) 0 0 hC hw (st1 _) (metX3_in rfl) mi_X3_in q590 (rm_ok (by decide) (by decide)) rfl hl.1 rfl (Nat.le_of_ble_eq_true rfl) dX3_season_6 ⟨Nat.zero_le _, Nat.zero_le _⟩ (st2 _) (fun H locs hw => ?_)
  refine lv_if_eq (tgt := 36) hx hb dX3_season_9 rfl (fun c14 => ?_) (fun c14 => ?_)
  · have hf := dk_t c14 hf
    refine lv_bipush (v := (-2)) hx hb dX3_season_36 rfl ?_
    obtain rfl := Option.some.inj hf
    exact ret _ _ _ _ _ dX3_season_38 rfl rfl hw
  · have hf := dk_f c14 hf
    refine lv_iload_n hx hb dX3_season_12 rfl (lv_at hl 2 rfl) ?_
    refine lv_i2l (v := (v2.toInt64)) hx hb dX3_season_13 rfl ?_
    refine lv_lconst (v := 1) hx hb dX3_season_14 rfl ?_
    refine W.ldc2 (v := 99) hx hb hown (hts _ q611) rfl dX3_season_15 ?_
    refine callSI (rest := []) 0 0 hC hw (st1 _) (metX3_in rfl) mi_X3_in q590 (rm_ok (by decide) (by decide)) rfl hl.1 rfl (Nat.le_of_ble_eq_true rfl) dX3_season_18 ⟨Nat.zero_le _, Nat.zero_le _⟩ (st2 _) (fun H locs hw => ?_)
    refine lv_if_eq (tgt := 36) hx hb dX3_season_21 rfl (fun c13 => ?_) (fun c13 => ?_)
    · have hf := dk_t c13 hf
      refine lv_bipush (v := (-2)) hx hb dX3_season_36 rfl ?_
      obtain rfl := Option.some.inj hf
      exact ret _ _ _ _ _ dX3_season_38 rfl rfl hw
    · have hf := dk_f c13 hf
      refine lv_iload_n hx hb dX3_season_24 rfl (lv_at hl 3 rfl) ?_
      refine lv_i2l (v := (v3.toInt64)) hx hb dX3_season_25 rfl ?_
      refine lv_lconst (v := 0) hx hb dX3_season_26 rfl ?_
      refine W.ldc2 (v := 2) hx hb hown (hts _ q589) rfl dX3_season_27 ?_
      refine callSI (rest := []) 0 0 hC hw (st1 _) (metX3_in rfl) mi_X3_in q590 (rm_ok (by decide) (by decide)) rfl hl.1 rfl (Nat.le_of_ble_eq_true rfl) dX3_season_30 ⟨Nat.zero_le _, Nat.zero_le _⟩ (st2 _) (fun H locs hw => ?_)
      refine lv_if_ne (tgt := 39) hx hb dX3_season_33 rfl (fun c12 => ?_) (fun c12 => ?_)
      · have hf := dk_f c12 hf
        refine lv_aload_n hx hb dX3_season_39 rfl (lv_at hl 0 rfl) ?_
        obtain ⟨z1, hz1, hf⟩ := dk_b hf
        refine callVV (rest := []) 0 _ 3 hC hw (sm1 _) (metX3_keepNow hz1) mi_X3_keepNow q660 (rm_ok (by decide) (by decide)) rfl rfl rfl hl.1 rfl (Nat.le_of_ble_eq_true rfl) dX3_season_40 ⟨Nat.zero_le _, Nat.zero_le _⟩ (sm2 _ _) (fun H locs hw => ?_)
        refine lv_iload_n hx hb dX3_season_43 rfl (lv_at hl 1 rfl) ?_
        refine lv_istore (lv' := [(4, .int v1), (0, .ref (h 0)), (1, .int v1), (2, .int v2), (3, .int v3)]) hx hb dX3_season_44 hl (by decide) rfl (fun ls hl => ?_)
        refine lv_iconst (v := 0) hx hb dX3_season_46 rfl ?_
        refine lv_istore (lv' := [(5, .int 0), (4, .int v1), (0, .ref (h 0)), (1, .int v1), (2, .int v2), (3, .int v3)]) hx hb dX3_season_47 hl (by decide) rfl (fun ls hl => ?_)
        exact L49 FU v1 0 m_cell m_points m_fouls m_evening m_moving m_goes m_left m_touches m_cushions m_cushionsThen m_touchedFirst m_stepsThen m_downNow m_touchedMany m_cushionMany m_were z1 _ _ _ hw (lv_sub hl [2, 4, 5, 1, 0] rfl) hf
      · have hf := dk_t c12 hf
        refine lv_bipush (v := (-2)) hx hb dX3_season_36 rfl ?_
        obtain rfl := Option.some.inj hf
        exact ret _ _ _ _ _ dX3_season_38 rfl rfl hw
set_option maxHeartbeats 4000000 in
set_option maxRecDepth 100000 in
theorem metX3_pass {v1 : Int32} {res : Int32 × (Nat → Int32) × Int32} (hf : fX3_pass v1 m_kept m_keptAt m_isWriting = some res) : CtI l yX3_pass cX3_pass 3 .int 0 D E sz [.ref (h 0), .int v1] (WX3 h E m_cell m_points m_fouls m_evening m_sightStep m_sightCell m_sights m_pad m_padMany m_act m_which m_whither m_hard m_acts m_moving m_goes m_left m_touches m_cushions m_cushionsThen m_touchedFirst m_stepsThen m_downNow m_touchedMany m_cushionMany m_were m_had m_badAct m_badWhy m_foulAct m_met m_far m_fit m_now m_fitMany m_byCell m_wins m_chance m_kept m_isKept m_keptAt m_isWriting) (WX3 h E m_cell m_points m_fouls m_evening m_sightStep m_sightCell m_sights m_pad m_padMany m_act m_which m_whither m_hard m_acts m_moving m_goes m_left m_touches m_cushions m_cushionsThen m_touchedFirst m_stepsThen m_downNow m_touchedMany m_cushionMany m_were m_had m_badAct m_badWhy m_foulAct m_met m_far m_fit m_now m_fitMany m_byCell m_wins m_chance res.2.1 m_isKept res.2.2 m_isWriting) res.1 := by
  refine startI (own := RX3) (by decide) rfl (Nat.le_of_ble_eq_true rfl) ?_
  intro p e s m args below meth c A Q ls hC ret hl hw
  have hx := hC.1.1
  have hb := hC.1.2.1
  have hown := hC.1.2.2.2.1
  have hts := hC.1.2.2.2.2
  have hl : lv_has ls 3 [(0, .ref (h 0)), (1, .int v1)] := hl
  have L20 : ∀ (k0 : Int32) (m_kept : Nat → Int32) (m_keptAt : Int32) (H : Heap) (locs : List Loc) (ls : Array Slot), Wo D A s.heap H locs (WX3 h E m_cell m_points m_fouls m_evening m_sightStep m_sightCell m_sights m_pad m_padMany m_act m_which m_whither m_hard m_acts m_moving m_goes m_left m_touches m_cushions m_cushionsThen m_touchedFirst m_stepsThen m_downNow m_touchedMany m_cushionMany m_were m_had m_badAct m_badWhy m_foulAct m_met m_far m_fit m_now m_fitMany m_byCell m_wins m_chance m_kept m_isKept m_keptAt m_isWriting) → lv_has ls 3 [(0, .ref (h 0))] → fX3_pass_L20 v1 m_isWriting  k0 m_kept m_keptAt = some res → W p l e (rmN 0) s m args below meth c H locs 0 0 Q (F0 m 20 ls [.int k0]) := by
    intro  k0 m_kept m_keptAt H locs ls hw hl hf
    refine lv_istore_n (lv' := [(2, .int k0), (0, .ref (h 0))]) hx hb dX3_pass_20 rfl hl (by decide) rfl (fun ls hl => ?_)
    refine lv_aload_n hx hb dX3_pass_21 rfl (lv_at hl 1 rfl) ?_
    refine gX3_this_kept hC hw dX3_pass_22 ?_
    refine lv_aload_n hx hb dX3_pass_25 rfl (lv_at hl 1 rfl) ?_
    refine gX3_this_keptAt hC hw dX3_pass_26 ?_
    refine lv_iload_n hx hb dX3_pass_29 rfl (lv_at hl 0 rfl) ?_
    obtain ⟨b2, hf⟩ := dk_c hf
    refine sX3_m_kept hC hw b2 dX3_pass_30 (fun H locs hw => ?_)
    refine lv_aload_n hx hb dX3_pass_31 rfl (lv_at hl 1 rfl) ?_
    refine lv_dup hx hb dX3_pass_32 rfl ?_
    refine gX3_this_keptAt hC hw dX3_pass_33 ?_
    refine lv_iconst (v := 1) hx hb dX3_pass_36 rfl ?_
    refine lv_iadd hx hb dX3_pass_37 ?_
    refine pX3_this_keptAt hC hw dX3_pass_38 (fun H locs hw => ?_)
    refine lv_iload_n hx hb dX3_pass_41 rfl (lv_at hl 0 rfl) ?_
    obtain rfl := Option.some.inj hf
    exact ret _ _ _ _ _ dX3_pass_42 rfl rfl hw
  refine lv_aload_n hx hb dX3_pass_0 rfl (lv_at hl 0 rfl) ?_
  refine gX3_this_isWriting hC hw dX3_pass_1 ?_
  refine lv_if_eq (tgt := 11) hx hb dX3_pass_4 rfl (fun c3 => ?_) (fun c3 => ?_)
  · have hf := dk_t c3 hf
    refine lv_aload_n hx hb dX3_pass_11 rfl (lv_at hl 0 rfl) ?_
    refine gX3_this_kept hC hw dX3_pass_12 ?_
    refine lv_aload_n hx hb dX3_pass_15 rfl (lv_at hl 0 rfl) ?_
    refine gX3_this_keptAt hC hw dX3_pass_16 ?_
    obtain ⟨b1, hf⟩ := dk_c hf
    refine aX3_m_kept hC hw b1 dX3_pass_19 ?_
    exact L20 (m_kept m_keptAt.toNatClampNeg) m_kept m_keptAt _ _ _ hw (lv_sub hl [0] rfl) hf
  · have hf := dk_f c3 hf
    refine lv_iload_n hx hb dX3_pass_7 rfl (lv_at hl 1 rfl) ?_
    refine lv_goto (tgt := 20) hx hb dX3_pass_8 rfl ?_
    exact L20 v1 m_kept m_keptAt _ _ _ hw (lv_sub hl [0] rfl) hf
set_option maxHeartbeats 4000000 in
set_option maxRecDepth 100000 in
theorem metX3_passRow_m_cell {v2 : Int32} {res : (Nat → Int32) × (Nat → Int32) × Int32} (hf : fX3_passRow_m_cell v2 m_cell m_kept m_keptAt m_isWriting = some res) : CtV l yX3_passRow cX3_passRow 4 1 D E sz [.ref (h 0), .ref (h 1), .int v2] (WX3 h E m_cell m_points m_fouls m_evening m_sightStep m_sightCell m_sights m_pad m_padMany m_act m_which m_whither m_hard m_acts m_moving m_goes m_left m_touches m_cushions m_cushionsThen m_touchedFirst m_stepsThen m_downNow m_touchedMany m_cushionMany m_were m_had m_badAct m_badWhy m_foulAct m_met m_far m_fit m_now m_fitMany m_byCell m_wins m_chance m_kept m_isKept m_keptAt m_isWriting) (WX3 h E res.1 m_points m_fouls m_evening m_sightStep m_sightCell m_sights m_pad m_padMany m_act m_which m_whither m_hard m_acts m_moving m_goes m_left m_touches m_cushions m_cushionsThen m_touchedFirst m_stepsThen m_downNow m_touchedMany m_cushionMany m_were m_had m_badAct m_badWhy m_foulAct m_met m_far m_fit m_now m_fitMany m_byCell m_wins m_chance res.2.1 m_isKept res.2.2 m_isWriting) := by
  refine startV (own := RX3) (by decide) rfl (Nat.le_of_ble_eq_true rfl) ?_
  intro p e s m args below meth c A Q ls hC ret hl hw
  have hx := hC.1.1
  have hb := hC.1.2.1
  have hown := hC.1.2.2.2.1
  have hts := hC.1.2.2.2.2
  have hl : lv_has ls 4 [(0, .ref (h 0)), (1, .ref (h 1)), (2, .int v2)] := hl
  have L2 : ∀ (n : Nat), ∀ (v3 : Int32) (m_cell : Nat → Int32) (m_kept : Nat → Int32) (m_keptAt : Int32) (H : Heap) (locs : List Loc) (ls : Array Slot), Wo D A s.heap H locs (WX3 h E m_cell m_points m_fouls m_evening m_sightStep m_sightCell m_sights m_pad m_padMany m_act m_which m_whither m_hard m_acts m_moving m_goes m_left m_touches m_cushions m_cushionsThen m_touchedFirst m_stepsThen m_downNow m_touchedMany m_cushionMany m_were m_had m_badAct m_badWhy m_foulAct m_met m_far m_fit m_now m_fitMany m_byCell m_wins m_chance m_kept m_isKept m_keptAt m_isWriting) → lv_has ls 4 [(0, .ref (h 0)), (1, .ref (h 1)), (2, .int v2), (3, .int v3)] → fX3_passRow_m_cell_L2 v2 m_isWriting  n v3 m_cell m_kept m_keptAt = some res → W p l e (rmN 1) s m args below meth c H locs 0 0 Q (F0 m 2 ls []) := by
    intro  n
    induction n with
    | zero =>
      intro v3 m_cell m_kept m_keptAt H locs ls hw hl hf
      exact dk_n hf
    | succ n ih =>
      intro v3 m_cell m_kept m_keptAt H locs ls hw hl hf
      refine lv_iload_n hx hb dX3_passRow_2 rfl (lv_at hl 3 rfl) ?_
      refine lv_iload_n hx hb dX3_passRow_3 rfl (lv_at hl 2 rfl) ?_
      refine lv_icmp_ge (tgt := 23) hx hb dX3_passRow_4 rfl (fun c4 => ?_) (fun c4 => ?_)
      · have hf := dk_t c4 hf
        obtain rfl := Option.some.inj hf
        exact ret _ _ _ _ dX3_passRow_23 hw
      · have hf := dk_f c4 hf
        refine lv_aload_n hx hb dX3_passRow_7 rfl (lv_at hl 1 rfl) ?_
        refine lv_iload_n hx hb dX3_passRow_8 rfl (lv_at hl 3 rfl) ?_
        refine lv_aload_n hx hb dX3_passRow_9 rfl (lv_at hl 0 rfl) ?_
        refine lv_aload_n hx hb dX3_passRow_10 rfl (lv_at hl 1 rfl) ?_
        refine lv_iload_n hx hb dX3_passRow_11 rfl (lv_at hl 3 rfl) ?_
        obtain ⟨b1, hf⟩ := dk_c hf
        refine aX3_m_cell hC hw b1 dX3_passRow_12 ?_
        obtain ⟨z2, hz2, hf⟩ := dk_b hf
        refine callVI (rest := [.int v3, .ref (h 1)]) 0 _ 3 hC hw (sm1 _) (metX3_pass hz2) mi_X3_pass q865 (rm_ok (by decide) (by decide)) rfl rfl rfl hl.1 rfl (Nat.le_of_ble_eq_true rfl) dX3_passRow_13 ⟨Nat.zero_le _, Nat.zero_le _⟩ (sm2 _ _) (fun H locs hw => ?_)
        obtain ⟨b3, hf⟩ := dk_c hf
        refine sX3_m_cell hC hw b3 dX3_passRow_16 (fun H locs hw => ?_)
        refine lv_iinc (v := (v3 + 1)) (lv' := [(3, .int (v3 + 1)), (0, .ref (h 0)), (1, .ref (h 1)), (2, .int v2)]) hx hb dX3_passRow_17 hl (k := 3) rfl rfl (by decide) rfl (fun ls hl => ?_)
        refine lv_goto (tgt := 2) hx hb dX3_passRow_20 rfl ?_
        exact ih (v3 + 1) (upd m_cell v3.toNatClampNeg z2.1) z2.2.1 z2.2.2 _ _ _ hw (lv_sub hl [1, 2, 3, 0] rfl) hf
  refine lv_iconst (v := 0) hx hb dX3_passRow_0 rfl ?_
  refine lv_istore_n (lv' := [(3, .int 0), (0, .ref (h 0)), (1, .ref (h 1)), (2, .int v2)]) hx hb dX3_passRow_1 rfl hl (by decide) rfl (fun ls hl => ?_)
  exact L2 FU 0 m_cell m_kept m_keptAt _ _ _ hw (lv_sub hl [1, 2, 3, 0] rfl) hf
set_option maxHeartbeats 4000000 in
set_option maxRecDepth 100000 in
theorem metX3_passRow_m_sightStep {v2 : Int32} {res : (Nat → Int32) × (Nat → Int32) × Int32} (hf : fX3_passRow_m_sightStep v2 m_sightStep m_kept m_keptAt m_isWriting = some res) : CtV l yX3_passRow cX3_passRow 4 1 D E sz [.ref (h 0), .ref (h 2), .int v2] (WX3 h E m_cell m_points m_fouls m_evening m_sightStep m_sightCell m_sights m_pad m_padMany m_act m_which m_whither m_hard m_acts m_moving m_goes m_left m_touches m_cushions m_cushionsThen m_touchedFirst m_stepsThen m_downNow m_touchedMany m_cushionMany m_were m_had m_badAct m_badWhy m_foulAct m_met m_far m_fit m_now m_fitMany m_byCell m_wins m_chance m_kept m_isKept m_keptAt m_isWriting) (WX3 h E m_cell m_points m_fouls m_evening res.1 m_sightCell m_sights m_pad m_padMany m_act m_which m_whither m_hard m_acts m_moving m_goes m_left m_touches m_cushions m_cushionsThen m_touchedFirst m_stepsThen m_downNow m_touchedMany m_cushionMany m_were m_had m_badAct m_badWhy m_foulAct m_met m_far m_fit m_now m_fitMany m_byCell m_wins m_chance res.2.1 m_isKept res.2.2 m_isWriting) := by
  refine startV (own := RX3) (by decide) rfl (Nat.le_of_ble_eq_true rfl) ?_
  intro p e s m args below meth c A Q ls hC ret hl hw
  have hx := hC.1.1
  have hb := hC.1.2.1
  have hown := hC.1.2.2.2.1
  have hts := hC.1.2.2.2.2
  have hl : lv_has ls 4 [(0, .ref (h 0)), (1, .ref (h 2)), (2, .int v2)] := hl
  have L2 : ∀ (n : Nat), ∀ (v3 : Int32) (m_sightStep : Nat → Int32) (m_kept : Nat → Int32) (m_keptAt : Int32) (H : Heap) (locs : List Loc) (ls : Array Slot), Wo D A s.heap H locs (WX3 h E m_cell m_points m_fouls m_evening m_sightStep m_sightCell m_sights m_pad m_padMany m_act m_which m_whither m_hard m_acts m_moving m_goes m_left m_touches m_cushions m_cushionsThen m_touchedFirst m_stepsThen m_downNow m_touchedMany m_cushionMany m_were m_had m_badAct m_badWhy m_foulAct m_met m_far m_fit m_now m_fitMany m_byCell m_wins m_chance m_kept m_isKept m_keptAt m_isWriting) → lv_has ls 4 [(0, .ref (h 0)), (1, .ref (h 2)), (2, .int v2), (3, .int v3)] → fX3_passRow_m_sightStep_L2 v2 m_isWriting  n v3 m_sightStep m_kept m_keptAt = some res → W p l e (rmN 1) s m args below meth c H locs 0 0 Q (F0 m 2 ls []) := by
    intro  n
    induction n with
    | zero =>
      intro v3 m_sightStep m_kept m_keptAt H locs ls hw hl hf
      exact dk_n hf
    | succ n ih =>
      intro v3 m_sightStep m_kept m_keptAt H locs ls hw hl hf
      refine lv_iload_n hx hb dX3_passRow_2 rfl (lv_at hl 3 rfl) ?_
      refine lv_iload_n hx hb dX3_passRow_3 rfl (lv_at hl 2 rfl) ?_
      refine lv_icmp_ge (tgt := 23) hx hb dX3_passRow_4 rfl (fun c4 => ?_) (fun c4 => ?_)
      · have hf := dk_t c4 hf
        obtain rfl := Option.some.inj hf
        exact ret _ _ _ _ dX3_passRow_23 hw
      · have hf := dk_f c4 hf
        refine lv_aload_n hx hb dX3_passRow_7 rfl (lv_at hl 1 rfl) ?_
        refine lv_iload_n hx hb dX3_passRow_8 rfl (lv_at hl 3 rfl) ?_
        refine lv_aload_n hx hb dX3_passRow_9 rfl (lv_at hl 0 rfl) ?_
        refine lv_aload_n hx hb dX3_passRow_10 rfl (lv_at hl 1 rfl) ?_
        refine lv_iload_n hx hb dX3_passRow_11 rfl (lv_at hl 3 rfl) ?_
        obtain ⟨b1, hf⟩ := dk_c hf
        refine aX3_m_sightStep hC hw b1 dX3_passRow_12 ?_
        obtain ⟨z2, hz2, hf⟩ := dk_b hf
        refine callVI (rest := [.int v3, .ref (h 2)]) 0 _ 3 hC hw (sm1 _) (metX3_pass hz2) mi_X3_pass q865 (rm_ok (by decide) (by decide)) rfl rfl rfl hl.1 rfl (Nat.le_of_ble_eq_true rfl) dX3_passRow_13 ⟨Nat.zero_le _, Nat.zero_le _⟩ (sm2 _ _) (fun H locs hw => ?_)
        obtain ⟨b3, hf⟩ := dk_c hf
        refine sX3_m_sightStep hC hw b3 dX3_passRow_16 (fun H locs hw => ?_)
        refine lv_iinc (v := (v3 + 1)) (lv' := [(3, .int (v3 + 1)), (0, .ref (h 0)), (1, .ref (h 2)), (2, .int v2)]) hx hb dX3_passRow_17 hl (k := 3) rfl rfl (by decide) rfl (fun ls hl => ?_)
        refine lv_goto (tgt := 2) hx hb dX3_passRow_20 rfl ?_
        exact ih (v3 + 1) (upd m_sightStep v3.toNatClampNeg z2.1) z2.2.1 z2.2.2 _ _ _ hw (lv_sub hl [1, 2, 3, 0] rfl) hf
  refine lv_iconst (v := 0) hx hb dX3_passRow_0 rfl ?_
  refine lv_istore_n (lv' := [(3, .int 0), (0, .ref (h 0)), (1, .ref (h 2)), (2, .int v2)]) hx hb dX3_passRow_1 rfl hl (by decide) rfl (fun ls hl => ?_)
  exact L2 FU 0 m_sightStep m_kept m_keptAt _ _ _ hw (lv_sub hl [1, 2, 3, 0] rfl) hf
set_option maxHeartbeats 4000000 in
set_option maxRecDepth 100000 in
theorem metX3_passRow_m_sightCell {v2 : Int32} {res : (Nat → Int32) × (Nat → Int32) × Int32} (hf : fX3_passRow_m_sightCell v2 m_sightCell m_kept m_keptAt m_isWriting = some res) : CtV l yX3_passRow cX3_passRow 4 1 D E sz [.ref (h 0), .ref (h 3), .int v2] (WX3 h E m_cell m_points m_fouls m_evening m_sightStep m_sightCell m_sights m_pad m_padMany m_act m_which m_whither m_hard m_acts m_moving m_goes m_left m_touches m_cushions m_cushionsThen m_touchedFirst m_stepsThen m_downNow m_touchedMany m_cushionMany m_were m_had m_badAct m_badWhy m_foulAct m_met m_far m_fit m_now m_fitMany m_byCell m_wins m_chance m_kept m_isKept m_keptAt m_isWriting) (WX3 h E m_cell m_points m_fouls m_evening m_sightStep res.1 m_sights m_pad m_padMany m_act m_which m_whither m_hard m_acts m_moving m_goes m_left m_touches m_cushions m_cushionsThen m_touchedFirst m_stepsThen m_downNow m_touchedMany m_cushionMany m_were m_had m_badAct m_badWhy m_foulAct m_met m_far m_fit m_now m_fitMany m_byCell m_wins m_chance res.2.1 m_isKept res.2.2 m_isWriting) := by
  refine startV (own := RX3) (by decide) rfl (Nat.le_of_ble_eq_true rfl) ?_
  intro p e s m args below meth c A Q ls hC ret hl hw
  have hx := hC.1.1
  have hb := hC.1.2.1
  have hown := hC.1.2.2.2.1
  have hts := hC.1.2.2.2.2
  have hl : lv_has ls 4 [(0, .ref (h 0)), (1, .ref (h 3)), (2, .int v2)] := hl
  have L2 : ∀ (n : Nat), ∀ (v3 : Int32) (m_sightCell : Nat → Int32) (m_kept : Nat → Int32) (m_keptAt : Int32) (H : Heap) (locs : List Loc) (ls : Array Slot), Wo D A s.heap H locs (WX3 h E m_cell m_points m_fouls m_evening m_sightStep m_sightCell m_sights m_pad m_padMany m_act m_which m_whither m_hard m_acts m_moving m_goes m_left m_touches m_cushions m_cushionsThen m_touchedFirst m_stepsThen m_downNow m_touchedMany m_cushionMany m_were m_had m_badAct m_badWhy m_foulAct m_met m_far m_fit m_now m_fitMany m_byCell m_wins m_chance m_kept m_isKept m_keptAt m_isWriting) → lv_has ls 4 [(0, .ref (h 0)), (1, .ref (h 3)), (2, .int v2), (3, .int v3)] → fX3_passRow_m_sightCell_L2 v2 m_isWriting  n v3 m_sightCell m_kept m_keptAt = some res → W p l e (rmN 1) s m args below meth c H locs 0 0 Q (F0 m 2 ls []) := by
    intro  n
    induction n with
    | zero =>
      intro v3 m_sightCell m_kept m_keptAt H locs ls hw hl hf
      exact dk_n hf
    | succ n ih =>
      intro v3 m_sightCell m_kept m_keptAt H locs ls hw hl hf
      refine lv_iload_n hx hb dX3_passRow_2 rfl (lv_at hl 3 rfl) ?_
      refine lv_iload_n hx hb dX3_passRow_3 rfl (lv_at hl 2 rfl) ?_
      refine lv_icmp_ge (tgt := 23) hx hb dX3_passRow_4 rfl (fun c4 => ?_) (fun c4 => ?_)
      · have hf := dk_t c4 hf
        obtain rfl := Option.some.inj hf
        exact ret _ _ _ _ dX3_passRow_23 hw
      · have hf := dk_f c4 hf
        refine lv_aload_n hx hb dX3_passRow_7 rfl (lv_at hl 1 rfl) ?_
        refine lv_iload_n hx hb dX3_passRow_8 rfl (lv_at hl 3 rfl) ?_
        refine lv_aload_n hx hb dX3_passRow_9 rfl (lv_at hl 0 rfl) ?_
        refine lv_aload_n hx hb dX3_passRow_10 rfl (lv_at hl 1 rfl) ?_
        refine lv_iload_n hx hb dX3_passRow_11 rfl (lv_at hl 3 rfl) ?_
        obtain ⟨b1, hf⟩ := dk_c hf
        refine aX3_m_sightCell hC hw b1 dX3_passRow_12 ?_
        obtain ⟨z2, hz2, hf⟩ := dk_b hf
        refine callVI (rest := [.int v3, .ref (h 3)]) 0 _ 3 hC hw (sm1 _) (metX3_pass hz2) mi_X3_pass q865 (rm_ok (by decide) (by decide)) rfl rfl rfl hl.1 rfl (Nat.le_of_ble_eq_true rfl) dX3_passRow_13 ⟨Nat.zero_le _, Nat.zero_le _⟩ (sm2 _ _) (fun H locs hw => ?_)
        obtain ⟨b3, hf⟩ := dk_c hf
        refine sX3_m_sightCell hC hw b3 dX3_passRow_16 (fun H locs hw => ?_)
        refine lv_iinc (v := (v3 + 1)) (lv' := [(3, .int (v3 + 1)), (0, .ref (h 0)), (1, .ref (h 3)), (2, .int v2)]) hx hb dX3_passRow_17 hl (k := 3) rfl rfl (by decide) rfl (fun ls hl => ?_)
        refine lv_goto (tgt := 2) hx hb dX3_passRow_20 rfl ?_
        exact ih (v3 + 1) (upd m_sightCell v3.toNatClampNeg z2.1) z2.2.1 z2.2.2 _ _ _ hw (lv_sub hl [1, 2, 3, 0] rfl) hf
  refine lv_iconst (v := 0) hx hb dX3_passRow_0 rfl ?_
  refine lv_istore_n (lv' := [(3, .int 0), (0, .ref (h 0)), (1, .ref (h 3)), (2, .int v2)]) hx hb dX3_passRow_1 rfl hl (by decide) rfl (fun ls hl => ?_)
  exact L2 FU 0 m_sightCell m_kept m_keptAt _ _ _ hw (lv_sub hl [1, 2, 3, 0] rfl) hf
set_option maxHeartbeats 4000000 in
set_option maxRecDepth 100000 in
theorem metX3_passAll  {res : (Nat → Int32) × Int32 × Int32 × Int32 × (Nat → Int32) × (Nat → Int32) × Int32 × (Nat → Int32) × Int32} (hf : fX3_passAll m_cell m_points m_fouls m_evening m_sightStep m_sightCell m_sights m_kept m_keptAt m_isWriting = some res) : CtV l yX3_passAll cX3_passAll 1 2 D E sz [.ref (h 0)] (WX3 h E m_cell m_points m_fouls m_evening m_sightStep m_sightCell m_sights m_pad m_padMany m_act m_which m_whither m_hard m_acts m_moving m_goes m_left m_touches m_cushions m_cushionsThen m_touchedFirst m_stepsThen m_downNow m_touchedMany m_cushionMany m_were m_had m_badAct m_badWhy m_foulAct m_met m_far m_fit m_now m_fitMany m_byCell m_wins m_chance m_kept m_isKept m_keptAt m_isWriting) (WX3 h E res.1 res.2.1 res.2.2.1 res.2.2.2.1 res.2.2.2.2.1 res.2.2.2.2.2.1 res.2.2.2.2.2.2.1 m_pad m_padMany m_act m_which m_whither m_hard m_acts m_moving m_goes m_left m_touches m_cushions m_cushionsThen m_touchedFirst m_stepsThen m_downNow m_touchedMany m_cushionMany m_were m_had m_badAct m_badWhy m_foulAct m_met m_far m_fit m_now m_fitMany m_byCell m_wins m_chance res.2.2.2.2.2.2.2.1 m_isKept res.2.2.2.2.2.2.2.2 m_isWriting) := by
  refine startV (own := RX3) (by decide) rfl (Nat.le_of_ble_eq_true rfl) ?_
  intro p e s m args below meth c A Q ls hC ret hl hw
  have hx := hC.1.1
  have hb := hC.1.2.1
  have hown := hC.1.2.2.2.1
  have hts := hC.1.2.2.2.2
  have hl : lv_has ls 1 [(0, .ref (h 0))] := hl
  refine lv_aload_n hx hb dX3_passAll_0 rfl (lv_at hl 0 rfl) ?_
  refine lv_aload_n hx hb dX3_passAll_1 rfl (lv_at hl 0 rfl) ?_
  refine lv_aload_n hx hb dX3_passAll_2 rfl (lv_at hl 0 rfl) ?_
  refine gX3_this_points hC hw dX3_passAll_3 ?_
  obtain ⟨z1, hz1, hf⟩ := dk_b hf
  refine callVI (rest := [.ref (h 0)]) 0 _ 3 hC hw (sm1 _) (metX3_pass hz1) mi_X3_pass q865 (rm_ok (by decide) (by decide)) rfl rfl rfl hl.1 rfl (Nat.le_of_ble_eq_true rfl) dX3_passAll_6 ⟨Nat.zero_le _, Nat.zero_le _⟩ (sm2 _ _) (fun H locs hw => ?_)
  refine pX3_this_points hC hw dX3_passAll_9 (fun H locs hw => ?_)
  refine lv_aload_n hx hb dX3_passAll_12 rfl (lv_at hl 0 rfl) ?_
  refine lv_aload_n hx hb dX3_passAll_13 rfl (lv_at hl 0 rfl) ?_
  refine lv_aload_n hx hb dX3_passAll_14 rfl (lv_at hl 0 rfl) ?_
  refine gX3_this_fouls hC hw dX3_passAll_15 ?_
  obtain ⟨z2, hz2, hf⟩ := dk_b hf
  refine callVI (rest := [.ref (h 0)]) 0 _ 3 hC hw (sm1 _) (metX3_pass hz2) mi_X3_pass q865 (rm_ok (by decide) (by decide)) rfl rfl rfl hl.1 rfl (Nat.le_of_ble_eq_true rfl) dX3_passAll_18 ⟨Nat.zero_le _, Nat.zero_le _⟩ (sm2 _ _) (fun H locs hw => ?_)
  refine pX3_this_fouls hC hw dX3_passAll_21 (fun H locs hw => ?_)
  refine lv_aload_n hx hb dX3_passAll_24 rfl (lv_at hl 0 rfl) ?_
  refine lv_aload_n hx hb dX3_passAll_25 rfl (lv_at hl 0 rfl) ?_
  refine lv_aload_n hx hb dX3_passAll_26 rfl (lv_at hl 0 rfl) ?_
  refine gX3_this_evening hC hw dX3_passAll_27 ?_
  obtain ⟨z3, hz3, hf⟩ := dk_b hf
  refine callVI (rest := [.ref (h 0)]) 0 _ 3 hC hw (sm1 _) (metX3_pass hz3) mi_X3_pass q865 (rm_ok (by decide) (by decide)) rfl rfl rfl hl.1 rfl (Nat.le_of_ble_eq_true rfl) dX3_passAll_30 ⟨Nat.zero_le _, Nat.zero_le _⟩ (sm2 _ _) (fun H locs hw => ?_)
  refine pX3_this_evening hC hw dX3_passAll_33 (fun H locs hw => ?_)
  refine lv_aload_n hx hb dX3_passAll_36 rfl (lv_at hl 0 rfl) ?_
  refine lv_aload_n hx hb dX3_passAll_37 rfl (lv_at hl 0 rfl) ?_
  refine lv_aload_n hx hb dX3_passAll_38 rfl (lv_at hl 0 rfl) ?_
  refine gX3_this_sights hC hw dX3_passAll_39 ?_
  obtain ⟨z4, hz4, hf⟩ := dk_b hf
  refine callVI (rest := [.ref (h 0)]) 0 _ 3 hC hw (sm1 _) (metX3_pass hz4) mi_X3_pass q865 (rm_ok (by decide) (by decide)) rfl rfl rfl hl.1 rfl (Nat.le_of_ble_eq_true rfl) dX3_passAll_42 ⟨Nat.zero_le _, Nat.zero_le _⟩ (sm2 _ _) (fun H locs hw => ?_)
  refine pX3_this_sights hC hw dX3_passAll_45 (fun H locs hw => ?_)
  refine lv_aload_n hx hb dX3_passAll_48 rfl (lv_at hl 0 rfl) ?_
  refine lv_aload_n hx hb dX3_passAll_49 rfl (lv_at hl 0 rfl) ?_
  refine gX3_this_cell hC hw dX3_passAll_50 ?_
  refine lv_iconst (v := 3) hx hb dX3_passAll_53 rfl ?_
  obtain ⟨z5, hz5, hf⟩ := dk_b hf
  refine callVV (rest := []) 0 _ 3 hC hw (sm1 _) (metX3_passRow_m_cell hz5) mi_X3_passRow q869 (rm_ok (by decide) (by decide)) rfl rfl rfl hl.1 rfl (Nat.le_of_ble_eq_true rfl) dX3_passAll_54 ⟨Nat.zero_le _, Nat.zero_le _⟩ (sm2 _ _) (fun H locs hw => ?_)
  refine lv_aload_n hx hb dX3_passAll_57 rfl (lv_at hl 0 rfl) ?_
  refine lv_aload_n hx hb dX3_passAll_58 rfl (lv_at hl 0 rfl) ?_
  refine gX3_this_sightStep hC hw dX3_passAll_59 ?_
  refine lv_bipush (v := 8) hx hb dX3_passAll_62 rfl ?_
  obtain ⟨z6, hz6, hf⟩ := dk_b hf
  refine callVV (rest := []) 0 _ 3 hC hw (sm1 _) (metX3_passRow_m_sightStep hz6) mi_X3_passRow q869 (rm_ok (by decide) (by decide)) rfl rfl rfl hl.1 rfl (Nat.le_of_ble_eq_true rfl) dX3_passAll_64 ⟨Nat.zero_le _, Nat.zero_le _⟩ (sm2 _ _) (fun H locs hw => ?_)
  refine lv_aload_n hx hb dX3_passAll_67 rfl (lv_at hl 0 rfl) ?_
  refine lv_aload_n hx hb dX3_passAll_68 rfl (lv_at hl 0 rfl) ?_
  refine gX3_this_sightCell hC hw dX3_passAll_69 ?_
  refine lv_bipush (v := 8) hx hb dX3_passAll_72 rfl ?_
  obtain ⟨z7, hz7, hf⟩ := dk_b hf
  refine callVV (rest := []) 0 _ 3 hC hw (sm1 _) (metX3_passRow_m_sightCell hz7) mi_X3_passRow q869 (rm_ok (by decide) (by decide)) rfl rfl rfl hl.1 rfl (Nat.le_of_ble_eq_true rfl) dX3_passAll_74 ⟨Nat.zero_le _, Nat.zero_le _⟩ (sm2 _ _) (fun H locs hw => ?_)
  obtain rfl := Option.some.inj hf
  exact ret _ _ _ _ dX3_passAll_77 hw
set_option maxHeartbeats 4000000 in
set_option maxRecDepth 100000 in
theorem metX3_image {v1 : Int32} {res : Int32 × (Nat → Int32) × Int32 × Int32 × Int32 × (Nat → Int32) × (Nat → Int32) × Int32 × (Nat → Int32) × (Nat → Int32) × Int32 × Int32} (hf : fX3_image v1 m_cell m_points m_fouls m_evening m_sightStep m_sightCell m_sights m_kept m_isKept m_keptAt m_isWriting = some res) : CtI l yX3_image cX3_image 2 .int 3 D E sz [.ref (h 0), .int v1] (WX3 h E m_cell m_points m_fouls m_evening m_sightStep m_sightCell m_sights m_pad m_padMany m_act m_which m_whither m_hard m_acts m_moving m_goes m_left m_touches m_cushions m_cushionsThen m_touchedFirst m_stepsThen m_downNow m_touchedMany m_cushionMany m_were m_had m_badAct m_badWhy m_foulAct m_met m_far m_fit m_now m_fitMany m_byCell m_wins m_chance m_kept m_isKept m_keptAt m_isWriting) (WX3 h E res.2.1 res.2.2.1 res.2.2.2.1 res.2.2.2.2.1 res.2.2.2.2.2.1 res.2.2.2.2.2.2.1 res.2.2.2.2.2.2.2.1 m_pad m_padMany m_act m_which m_whither m_hard m_acts m_moving m_goes m_left m_touches m_cushions m_cushionsThen m_touchedFirst m_stepsThen m_downNow m_touchedMany m_cushionMany m_were m_had m_badAct m_badWhy m_foulAct m_met m_far m_fit m_now m_fitMany m_byCell m_wins m_chance res.2.2.2.2.2.2.2.2.1 res.2.2.2.2.2.2.2.2.2.1 res.2.2.2.2.2.2.2.2.2.2.1 res.2.2.2.2.2.2.2.2.2.2.2) res.1 := by
  refine startI (own := RX3) (by decide) rfl (Nat.le_of_ble_eq_true rfl) ?_
  intro p e s m args below meth c A Q ls hC ret hl hw
  have hx := hC.1.1
  have hb := hC.1.2.1
  have hown := hC.1.2.2.2.1
  have hts := hC.1.2.2.2.2
  have hl : lv_has ls 2 [(0, .ref (h 0)), (1, .int v1)] := hl
  refine lv_iload_n hx hb dX3_image_0 rfl (lv_at hl 1 rfl) ?_
  refine lv_i2l (v := (v1.toInt64)) hx hb dX3_image_1 rfl ?_
  refine lv_lconst (v := 0) hx hb dX3_image_2 rfl ?_
  refine lv_lconst (v := 1) hx hb dX3_image_3 rfl ?_
  refine callSI (rest := []) 0 0 hC hw (st1 _) (metX3_in rfl) mi_X3_in q590 (rm_ok (by decide) (by decide)) rfl hl.1 rfl (Nat.le_of_ble_eq_true rfl) dX3_image_4 ⟨Nat.zero_le _, Nat.zero_le _⟩ (st2 _) (fun H locs hw => ?_)
  refine lv_if_ne (tgt := 13) hx hb dX3_image_7 rfl (fun c3 => ?_) (fun c3 => ?_)
  · have hf := dk_f c3 hf
    refine lv_aload_n hx hb dX3_image_13 rfl (lv_at hl 0 rfl) ?_
    refine lv_bipush (v := 30) hx hb dX3_image_14 rfl ?_
    refine lv_iload_n hx hb dX3_image_16 rfl (lv_at hl 1 rfl) ?_
    refine lv_imul hx hb dX3_image_17 ?_
    refine pX3_this_keptAt hC hw dX3_image_18 (fun H locs hw => ?_)
    refine lv_aload_n hx hb dX3_image_21 rfl (lv_at hl 0 rfl) ?_
    refine lv_iconst (v := 1) hx hb dX3_image_22 rfl ?_
    refine pX3_this_isWriting_1 hC hw dX3_image_23 (fun H locs hw => ?_)
    refine lv_aload_n hx hb dX3_image_26 rfl (lv_at hl 0 rfl) ?_
    obtain ⟨z1, hz1, hf⟩ := dk_b hf
    refine callVV (rest := []) 0 _ 3 hC hw (sm1 _) (metX3_passAll hz1) mi_X3_passAll q861 (rm_ok (by decide) (by decide)) rfl rfl rfl hl.1 rfl (Nat.le_of_ble_eq_true rfl) dX3_image_27 ⟨Nat.zero_le _, Nat.zero_le _⟩ (sm2 _ _) (fun H locs hw => ?_)
    refine lv_aload_n hx hb dX3_image_30 rfl (lv_at hl 0 rfl) ?_
    refine gX3_this_isKept hC hw dX3_image_31 ?_
    refine lv_iload_n hx hb dX3_image_34 rfl (lv_at hl 1 rfl) ?_
    refine lv_iconst (v := 1) hx hb dX3_image_35 rfl ?_
    obtain ⟨b2, hf⟩ := dk_c hf
    refine sX3_m_isKept hC hw b2 dX3_image_36 (fun H locs hw => ?_)
    refine lv_iconst (v := 1) hx hb dX3_image_37 rfl ?_
    obtain rfl := Option.some.inj hf
    exact ret _ _ _ _ _ dX3_image_38 rfl rfl hw
  · have hf := dk_t c3 hf
    refine lv_bipush (v := (-2)) hx hb dX3_image_10 rfl ?_
    obtain rfl := Option.some.inj hf
    exact ret _ _ _ _ _ dX3_image_12 rfl rfl hw
set_option maxHeartbeats 4000000 in
set_option maxRecDepth 100000 in
theorem metX3_restore {v1 : Int32} {res : Int32 × (Nat → Int32) × Int32 × Int32 × Int32 × (Nat → Int32) × (Nat → Int32) × Int32 × (Nat → Int32) × Int32 × Int32} (hf : fX3_restore v1 m_cell m_points m_fouls m_evening m_sightStep m_sightCell m_sights m_kept m_isKept m_keptAt m_isWriting = some res) : CtI l yX3_restore cX3_restore 2 .int 3 D E sz [.ref (h 0), .int v1] (WX3 h E m_cell m_points m_fouls m_evening m_sightStep m_sightCell m_sights m_pad m_padMany m_act m_which m_whither m_hard m_acts m_moving m_goes m_left m_touches m_cushions m_cushionsThen m_touchedFirst m_stepsThen m_downNow m_touchedMany m_cushionMany m_were m_had m_badAct m_badWhy m_foulAct m_met m_far m_fit m_now m_fitMany m_byCell m_wins m_chance m_kept m_isKept m_keptAt m_isWriting) (WX3 h E res.2.1 res.2.2.1 res.2.2.2.1 res.2.2.2.2.1 res.2.2.2.2.2.1 res.2.2.2.2.2.2.1 res.2.2.2.2.2.2.2.1 m_pad m_padMany m_act m_which m_whither m_hard m_acts m_moving m_goes m_left m_touches m_cushions m_cushionsThen m_touchedFirst m_stepsThen m_downNow m_touchedMany m_cushionMany m_were m_had m_badAct m_badWhy m_foulAct m_met m_far m_fit m_now m_fitMany m_byCell m_wins m_chance res.2.2.2.2.2.2.2.2.1 m_isKept res.2.2.2.2.2.2.2.2.2.1 res.2.2.2.2.2.2.2.2.2.2) res.1 := by
  refine startI (own := RX3) (by decide) rfl (Nat.le_of_ble_eq_true rfl) ?_
  intro p e s m args below meth c A Q ls hC ret hl hw
  have hx := hC.1.1
  have hb := hC.1.2.1
  have hown := hC.1.2.2.2.1
  have hts := hC.1.2.2.2.2
  have hl : lv_has ls 2 [(0, .ref (h 0)), (1, .int v1)] := hl
  refine lv_iload_n hx hb dX3_restore_0 rfl (lv_at hl 1 rfl) ?_
  refine lv_i2l (v := (v1.toInt64)) hx hb dX3_restore_1 rfl ?_
  refine lv_lconst (v := 0) hx hb dX3_restore_2 rfl ?_
  refine lv_lconst (v := 1) hx hb dX3_restore_3 rfl ?_
  refine callSI (rest := []) 0 0 hC hw (st1 _) (metX3_in rfl) mi_X3_in q590 (rm_ok (by decide) (by decide)) rfl hl.1 rfl (Nat.le_of_ble_eq_true rfl) dX3_restore_4 ⟨Nat.zero_le _, Nat.zero_le _⟩ (st2 _) (fun H locs hw => ?_)
  refine lv_if_ne (tgt := 13) hx hb dX3_restore_7 rfl (fun c4 => ?_) (fun c4 => ?_)
  · have hf := dk_f c4 hf
    refine lv_aload_n hx hb dX3_restore_13 rfl (lv_at hl 0 rfl) ?_
    refine gX3_this_isKept hC hw dX3_restore_14 ?_
    refine lv_iload_n hx hb dX3_restore_17 rfl (lv_at hl 1 rfl) ?_
    obtain ⟨b1, hf⟩ := dk_c hf
    refine aX3_m_isKept hC hw b1 dX3_restore_18 ?_
    refine lv_if_ne (tgt := 25) hx hb dX3_restore_19 rfl (fun c3 => ?_) (fun c3 => ?_)
    · have hf := dk_f c3 hf
      refine lv_aload_n hx hb dX3_restore_25 rfl (lv_at hl 0 rfl) ?_
      refine lv_bipush (v := 30) hx hb dX3_restore_26 rfl ?_
      refine lv_iload_n hx hb dX3_restore_28 rfl (lv_at hl 1 rfl) ?_
      refine lv_imul hx hb dX3_restore_29 ?_
      refine pX3_this_keptAt hC hw dX3_restore_30 (fun H locs hw => ?_)
      refine lv_aload_n hx hb dX3_restore_33 rfl (lv_at hl 0 rfl) ?_
      refine lv_iconst (v := 0) hx hb dX3_restore_34 rfl ?_
      refine pX3_this_isWriting_0 hC hw dX3_restore_35 (fun H locs hw => ?_)
      refine lv_aload_n hx hb dX3_restore_38 rfl (lv_at hl 0 rfl) ?_
      obtain ⟨z2, hz2, hf⟩ := dk_b hf
      refine callVV (rest := []) 0 _ 3 hC hw (sm1 _) (metX3_passAll hz2) mi_X3_passAll q861 (rm_ok (by decide) (by decide)) rfl rfl rfl hl.1 rfl (Nat.le_of_ble_eq_true rfl) dX3_restore_39 ⟨Nat.zero_le _, Nat.zero_le _⟩ (sm2 _ _) (fun H locs hw => ?_)
      refine lv_iconst (v := 1) hx hb dX3_restore_42 rfl ?_
      obtain rfl := Option.some.inj hf
      exact ret _ _ _ _ _ dX3_restore_43 rfl rfl hw
    · have hf := dk_t c3 hf
      refine lv_bipush (v := (-3)) hx hb dX3_restore_22 rfl ?_
      obtain rfl := Option.some.inj hf
      exact ret _ _ _ _ _ dX3_restore_24 rfl rfl hw
  · have hf := dk_t c4 hf
    refine lv_bipush (v := (-2)) hx hb dX3_restore_10 rfl ?_
    obtain rfl := Option.some.inj hf
    exact ret _ _ _ _ _ dX3_restore_12 rfl rfl hw
set_option maxHeartbeats 4000000 in
set_option maxRecDepth 100000 in
theorem metX3_told {v1 : Int32} {res : Int32} (hf : fX3_told v1 m_cell m_points m_fouls m_evening m_sights m_padMany = some res) : CtI l yX3_told cX3_told 2 .int 1 D E sz [.ref (h 0), .int v1] (WX3 h E m_cell m_points m_fouls m_evening m_sightStep m_sightCell m_sights m_pad m_padMany m_act m_which m_whither m_hard m_acts m_moving m_goes m_left m_touches m_cushions m_cushionsThen m_touchedFirst m_stepsThen m_downNow m_touchedMany m_cushionMany m_were m_had m_badAct m_badWhy m_foulAct m_met m_far m_fit m_now m_fitMany m_byCell m_wins m_chance m_kept m_isKept m_keptAt m_isWriting) (WX3 h E m_cell m_points m_fouls m_evening m_sightStep m_sightCell m_sights m_pad m_padMany m_act m_which m_whither m_hard m_acts m_moving m_goes m_left m_touches m_cushions m_cushionsThen m_touchedFirst m_stepsThen m_downNow m_touchedMany m_cushionMany m_were m_had m_badAct m_badWhy m_foulAct m_met m_far m_fit m_now m_fitMany m_byCell m_wins m_chance m_kept m_isKept m_keptAt m_isWriting) res := by
  refine startI (own := RX3) (by decide) rfl (Nat.le_of_ble_eq_true rfl) ?_
  intro p e s m args below meth c A Q ls hC ret hl hw
  have hx := hC.1.1
  have hb := hC.1.2.1
  have hown := hC.1.2.2.2.1
  have hts := hC.1.2.2.2.2
  have hl : lv_has ls 2 [(0, .ref (h 0)), (1, .int v1)] := hl
  refine lv_iload_n hx hb dX3_told_0 rfl (lv_at hl 1 rfl) ?_
  refine lv_i2l (v := (v1.toInt64)) hx hb dX3_told_1 rfl ?_
  refine W.ldc2 (v := 10) hx hb hown (hts _ q834) rfl dX3_told_2 ?_
  refine W.ldc2 (v := 12) hx hb hown (hts _ q881) rfl dX3_told_5 ?_
  refine callSI (rest := []) 0 0 hC hw (st1 _) (metX3_in rfl) mi_X3_in q590 (rm_ok (by decide) (by decide)) rfl hl.1 rfl (Nat.le_of_ble_eq_true rfl) dX3_told_8 ⟨Nat.zero_le _, Nat.zero_le _⟩ (st2 _) (fun H locs hw => ?_)
  refine lv_if_eq (tgt := 24) hx hb dX3_told_11 rfl (fun c7 => ?_) (fun c7 => ?_)
  · have hf := dk_t c7 hf
    refine lv_iload_n hx hb dX3_told_24 rfl (lv_at hl 1 rfl) ?_
    by_cases c1 : v1 = 0
    · have hf := dk_t c1 hf
      refine lv_tableIn (tgt := 60) hx hb dX3_told_25 (by rw [c1] <;> decide) (by rw [c1] <;> decide) (by rw [c1] <;> rfl) rfl ?_
      refine lv_aload_n hx hb dX3_told_60 rfl (lv_at hl 0 rfl) ?_
      refine gX3_this_padMany hC hw dX3_told_61 ?_
      exact ret _ _ _ _ _ dX3_told_64 rfl (Option.some.inj hf) hw
    · have hf := dk_f c1 hf
      by_cases c2 : v1 = 1
      · have hf := dk_t c2 hf
        refine lv_tableIn (tgt := 65) hx hb dX3_told_25 (by rw [c2] <;> decide) (by rw [c2] <;> decide) (by rw [c2] <;> rfl) rfl ?_
        refine lv_aload_n hx hb dX3_told_65 rfl (lv_at hl 0 rfl) ?_
        refine gX3_this_points hC hw dX3_told_66 ?_
        exact ret _ _ _ _ _ dX3_told_69 rfl (Option.some.inj hf) hw
      · have hf := dk_f c2 hf
        by_cases c3 : v1 = 2
        · have hf := dk_t c3 hf
          refine lv_tableIn (tgt := 70) hx hb dX3_told_25 (by rw [c3] <;> decide) (by rw [c3] <;> decide) (by rw [c3] <;> rfl) rfl ?_
          refine lv_aload_n hx hb dX3_told_70 rfl (lv_at hl 0 rfl) ?_
          refine gX3_this_fouls hC hw dX3_told_71 ?_
          exact ret _ _ _ _ _ dX3_told_74 rfl (Option.some.inj hf) hw
        · have hf := dk_f c3 hf
          by_cases c4 : v1 = 3
          · have hf := dk_t c4 hf
            refine lv_tableIn (tgt := 75) hx hb dX3_told_25 (by rw [c4] <;> decide) (by rw [c4] <;> decide) (by rw [c4] <;> rfl) rfl ?_
            refine lv_aload_n hx hb dX3_told_75 rfl (lv_at hl 0 rfl) ?_
            refine gX3_this_evening hC hw dX3_told_76 ?_
            exact ret _ _ _ _ _ dX3_told_79 rfl (Option.some.inj hf) hw
          · have hf := dk_f c4 hf
            by_cases c5 : v1 = 4
            · have hf := dk_t c5 hf
              refine lv_tableIn (tgt := 80) hx hb dX3_told_25 (by rw [c5] <;> decide) (by rw [c5] <;> decide) (by rw [c5] <;> rfl) rfl ?_
              refine lv_aload_n hx hb dX3_told_80 rfl (lv_at hl 0 rfl) ?_
              refine gX3_this_sights hC hw dX3_told_81 ?_
              exact ret _ _ _ _ _ dX3_told_84 rfl (Option.some.inj hf) hw
            · have hf := dk_f c5 hf
              refine lv_tableOut (tgt := 85) hx hb dX3_told_25 (by have e0 : v1.toInt ≠ 0 := fun h => c1 (Int32.toInt_inj.mp (h.trans (by decide))); have e1 : v1.toInt ≠ 1 := fun h => c2 (Int32.toInt_inj.mp (h.trans (by decide))); have e2 : v1.toInt ≠ 2 := fun h => c3 (Int32.toInt_inj.mp (h.trans (by decide))); have e3 : v1.toInt ≠ 3 := fun h => c4 (Int32.toInt_inj.mp (h.trans (by decide))); have e4 : v1.toInt ≠ 4 := fun h => c5 (Int32.toInt_inj.mp (h.trans (by decide))); omega) rfl ?_
              refine lv_bipush (v := (-2)) hx hb dX3_told_85 rfl ?_
              exact ret _ _ _ _ _ dX3_told_87 rfl (Option.some.inj hf) hw
  · have hf := dk_f c7 hf
    refine lv_aload_n hx hb dX3_told_14 rfl (lv_at hl 0 rfl) ?_
    refine gX3_this_cell hC hw dX3_told_15 ?_
    refine lv_iload_n hx hb dX3_told_18 rfl (lv_at hl 1 rfl) ?_
    refine lv_bipush (v := 10) hx hb dX3_told_19 rfl ?_
    refine lv_isub hx hb dX3_told_21 ?_
    obtain ⟨b6, hf⟩ := dk_c hf
    refine aX3_m_cell hC hw b6 dX3_told_22 ?_
    exact ret _ _ _ _ _ dX3_told_23 rfl (Option.some.inj hf) hw
end METX3
