set_option maxRecDepth 100000
theorem mi_X0_step : MiS yX0_step cX0_step 2 (some .int) 2 := ⟨q237, q43, q238, by decide +kernel, by decide⟩
theorem mi_X0_faultOf : MiV RX0 yX0_faultOf cX0_faultOf 3 (some .int) 0 := ⟨q234, qs0, q43, q235, by decide +kernel, by decide⟩
theorem mi_X1_pass : MiV RX1 yX1_pass cX1_pass 1 (some .int) 0 := ⟨q265, q266, q44, q267, by decide +kernel, by decide⟩
theorem mi_X1_nap : MiV RX1 yX1_nap cX1_nap 5 none 0 := ⟨q259, q260, q44, q261, by decide +kernel, by decide⟩
theorem mi_X1_stroke : MiV RX1 yX1_stroke cX1_stroke 9 (some .int) 3 := ⟨q273, q274, q44, q275, by decide +kernel, by decide⟩
theorem mi_X1_bringUp : MiV RX1 yX1_bringUp cX1_bringUp 2 (some .int) 1 := ⟨q269, q270, q44, q271, by decide +kernel, by decide⟩
theorem mi_X1_copy : MiV RX1 yX1_copy cX1_copy 2 none 1 := ⟨q248, q249, q44, q250, by decide +kernel, by decide⟩
theorem mi_X0_act : MiV RX0 yX0_act cX0_act 3 (some .int) 1 := ⟨q256, qs2, q43, q257, by decide +kernel, by decide⟩
theorem mi_X0_goCrises : MiV RX0 yX0_goCrises cX0_goCrises 3 (some .int) 0 := ⟨q245, qs1, q43, q246, by decide +kernel, by decide⟩
theorem mi_X0_barOfCrises : MiV RX0 yX0_barOfCrises cX0_barOfCrises 1 (some .int) 0 := ⟨q303, qs3, q43, q304, by decide +kernel, by decide⟩
theorem mi_X1_countDown : MiV RX1 yX1_countDown cX1_countDown 6 (some .int) 0 := ⟨q310, q311, q44, q312, by decide +kernel, by decide⟩
theorem mi_X0_forceBy : MiV RX0 yX0_forceBy cX0_forceBy 8 (some .int) 4 := ⟨q328, qs4, q43, q329, by decide +kernel, by decide⟩
theorem mi_X0_isOpen : MiS yX0_isOpen cX0_isOpen 1 (some .boolean) 1 := ⟨q341, q43, q342, by decide +kernel, by decide⟩
theorem mi_J1_fill : MiS yJ1_fill cJ1_fill 4 none 2 := ⟨q353, q49, q354, by decide +kernel, by decide⟩
theorem mi_X2_cell : MiV RX2 yX2_cell cX2_cell 1 (some .int) 0 := ⟨q349, q350, q45, q351, by decide +kernel, by decide⟩
theorem mi_X2_way : MiV RX2 yX2_way cX2_way 1 (some .int) 0 := ⟨q357, q358, q45, q359, by decide +kernel, by decide⟩
theorem mi_X0_walkAlone : MiV RX0 yX0_walkAlone cX0_walkAlone 6 none 3 := ⟨q346, qs5, q43, q347, by decide +kernel, by decide⟩
theorem mi_J1_fill_2 : MiS yJ1_fill_2 cJ1_fill_2 4 none 2 := ⟨q365, q49, q366, by decide +kernel, by decide⟩
theorem mi_X0_reachFrom : MiV RX0 yX0_reachFrom cX0_reachFrom 5 none 1 := ⟨q369, qs6, q43, q370, by decide +kernel, by decide⟩
theorem mi_X0_cellAfter : MiV RX0 yX0_cellAfter cX0_cellAfter 3 (some .int) 2 := ⟨q389, qs8, q43, q390, by decide +kernel, by decide⟩
theorem mi_X0_canBe : MiV RX0 yX0_canBe cX0_canBe 4 (some .boolean) 1 := ⟨q385, qs7, q43, q386, by decide +kernel, by decide⟩
theorem mi_X0_taken : MiS yX0_taken cX0_taken 4 (some .int) 3 := ⟨q407, q43, q408, by decide +kernel, by decide⟩
theorem mi_X0_firstOf : MiV RX0 yX0_firstOf cX0_firstOf 6 (some .int) 2 := ⟨q404, qs9, q43, q405, by decide +kernel, by decide⟩
theorem mi_J1_fill_3 : MiS yJ1_fill_3 cJ1_fill_3 5 none 2 := ⟨q415, q49, q416, by decide +kernel, by decide⟩
theorem mi_X0_power : MiS yX0_power cX0_power 4 (some .long) 1 := ⟨q418, q43, q419, by decide +kernel, by decide⟩
section ROWSX0
variable {p : Program} {l : Launch} {e : Env} {R : Room} {s : State} {m : MethodId} {args : Array Value} {below : List Frame} {meth : Method} {c : Code} {H : Heap} {locs : List Loc} {cel slo : Nat} {Q : State → Prop} {pc : Nat} {ls : Array Slot} {rest : List Value} {D : va_G} {E : Nat → ClassId} {A : Nat → Prop} {cc : ByteArray} {nL : Nat}
variable {h : Nat → Nat}
variable {t_cells t_seenStep t_seenCell n_cells n_seenStep n_seenCell i_cells i_seenStep i_seenCell j_cells j_seenStep j_seenCell x_sign x_met x_reached x_firstWay x_queue x_fitting x_byCell x_wins : Nat → Int32}
variable {t_points t_fouls t_evening t_sights t_isKept t_touches t_cushions t_p_row t_p_column t_p_down t_p_right t_p_cushions n_points n_fouls n_evening n_sights n_isKept n_touches n_cushions n_p_row n_p_column n_p_down n_p_right n_p_cushions i_points i_fouls i_evening i_sights i_isKept i_touches i_cushions i_p_row i_p_column i_p_down i_p_right i_p_cushions j_points j_fouls j_evening j_sights j_isKept j_touches j_cushions j_p_row j_p_column j_p_down j_p_right j_p_cushions x_signs x_reason x_acts x_candourAt p_row p_column p_down p_right p_cushions x_queued : Int32}
variable {x_ways : Nat → Int64}
theorem gX0_this_table (hC : Cx p m c cc nL s args RX0 D E A) (hw : Wo D A s.heap H locs (WX0 h E t_cells t_points t_fouls t_evening t_sights t_seenStep t_seenCell t_isKept t_touches t_cushions t_p_row t_p_column t_p_down t_p_right t_p_cushions n_cells n_points n_fouls n_evening n_sights n_seenStep n_seenCell n_isKept n_touches n_cushions n_p_row n_p_column n_p_down n_p_right n_p_cushions i_cells i_points i_fouls i_evening i_sights i_seenStep i_seenCell i_isKept i_touches i_cushions i_p_row i_p_column i_p_down i_p_right i_p_cushions j_cells j_points j_fouls j_evening j_sights j_seenStep j_seenCell j_isKept j_touches j_cushions j_p_row j_p_column j_p_down j_p_right j_p_cushions x_signs x_sign x_reason x_acts x_candourAt p_row p_column p_down p_right p_cushions x_met x_reached x_firstWay x_queue x_queued x_fitting x_byCell x_wins x_ways)) (hdg : decode cc pc = .ok (.getfield 16, 3)) (kk : W p l e R s m args below meth c H locs cel slo Q (F0 m (pc + 3) ls (.ref (h 1) :: rest))) : W p l e R s m args below meth c H locs cel slo Q (F0 m pc ls (.ref (h 0) :: rest)) :=
  va_get (D := D) (ci := 0) (C := RX0) (T := TX0) (N := 18) hC.1.1 hC.1.2.1 hC.1.2.2.2.2 in_X0 hC.1.2.2.2.1 hC.2.1.1 hw.1 0 rfl rfl 0 (by decide) (hC.1.2.2.2.2 _ q138) (fun _ h9 => h9) rfl hdg kk
theorem subX0_t : (((WX0 h E t_cells t_points t_fouls t_evening t_sights t_seenStep t_seenCell t_isKept t_touches t_cushions t_p_row t_p_column t_p_down t_p_right t_p_cushions n_cells n_points n_fouls n_evening n_sights n_seenStep n_seenCell n_isKept n_touches n_cushions n_p_row n_p_column n_p_down n_p_right n_p_cushions i_cells i_points i_fouls i_evening i_sights i_seenStep i_seenCell i_isKept i_touches i_cushions i_p_row i_p_column i_p_down i_p_right i_p_cushions j_cells j_points j_fouls j_evening j_sights j_seenStep j_seenCell j_isKept j_touches j_cushions j_p_row j_p_column j_p_down j_p_right j_p_cushions x_signs x_sign x_reason x_acts x_candourAt p_row p_column p_down p_right p_cushions x_met x_reached x_firstWay x_queue x_queued x_fitting x_byCell x_wins x_ways)).drop 1).take 5 = (WX1 (h 1) (h 2) (h 3) (h 4) (h 5) E t_cells t_points t_fouls t_evening t_sights t_seenStep t_seenCell t_isKept t_touches t_cushions t_p_row t_p_column t_p_down t_p_right t_p_cushions) := rfl
theorem putX0_t {z_cells : Nat → Int32} {z_points : Int32} {z_fouls : Int32} {z_evening : Int32} {z_sights : Int32} {z_seenStep : Nat → Int32} {z_seenCell : Nat → Int32} {z_isKept : Int32} {z_touches : Int32} {z_cushions : Int32} {z_p_row : Int32} {z_p_column : Int32} {z_p_down : Int32} {z_p_right : Int32} {z_p_cushions : Int32} : ((WX0 h E t_cells t_points t_fouls t_evening t_sights t_seenStep t_seenCell t_isKept t_touches t_cushions t_p_row t_p_column t_p_down t_p_right t_p_cushions n_cells n_points n_fouls n_evening n_sights n_seenStep n_seenCell n_isKept n_touches n_cushions n_p_row n_p_column n_p_down n_p_right n_p_cushions i_cells i_points i_fouls i_evening i_sights i_seenStep i_seenCell i_isKept i_touches i_cushions i_p_row i_p_column i_p_down i_p_right i_p_cushions j_cells j_points j_fouls j_evening j_sights j_seenStep j_seenCell j_isKept j_touches j_cushions j_p_row j_p_column j_p_down j_p_right j_p_cushions x_signs x_sign x_reason x_acts x_candourAt p_row p_column p_down p_right p_cushions x_met x_reached x_firstWay x_queue x_queued x_fitting x_byCell x_wins x_ways)).take 1 ++ ((WX1 (h 1) (h 2) (h 3) (h 4) (h 5) E z_cells z_points z_fouls z_evening z_sights z_seenStep z_seenCell z_isKept z_touches z_cushions z_p_row z_p_column z_p_down z_p_right z_p_cushions) ++ ((WX0 h E t_cells t_points t_fouls t_evening t_sights t_seenStep t_seenCell t_isKept t_touches t_cushions t_p_row t_p_column t_p_down t_p_right t_p_cushions n_cells n_points n_fouls n_evening n_sights n_seenStep n_seenCell n_isKept n_touches n_cushions n_p_row n_p_column n_p_down n_p_right n_p_cushions i_cells i_points i_fouls i_evening i_sights i_seenStep i_seenCell i_isKept i_touches i_cushions i_p_row i_p_column i_p_down i_p_right i_p_cushions j_cells j_points j_fouls j_evening j_sights j_seenStep j_seenCell j_isKept j_touches j_cushions j_p_row j_p_column j_p_down j_p_right j_p_cushions x_signs x_sign x_reason x_acts x_candourAt p_row p_column p_down p_right p_cushions x_met x_reached x_firstWay x_queue x_queued x_fitting x_byCell x_wins x_ways)).drop (1 + 5)) = (WX0 h E z_cells z_points z_fouls z_evening z_sights z_seenStep z_seenCell z_isKept z_touches z_cushions z_p_row z_p_column z_p_down z_p_right z_p_cushions n_cells n_points n_fouls n_evening n_sights n_seenStep n_seenCell n_isKept n_touches n_cushions n_p_row n_p_column n_p_down n_p_right n_p_cushions i_cells i_points i_fouls i_evening i_sights i_seenStep i_seenCell i_isKept i_touches i_cushions i_p_row i_p_column i_p_down i_p_right i_p_cushions j_cells j_points j_fouls j_evening j_sights j_seenStep j_seenCell j_isKept j_touches j_cushions j_p_row j_p_column j_p_down j_p_right j_p_cushions x_signs x_sign x_reason x_acts x_candourAt p_row p_column p_down p_right p_cushions x_met x_reached x_firstWay x_queue x_queued x_fitting x_byCell x_wins x_ways) := rfl
theorem gX0_t_cells (hC : Cx p m c cc nL s args RX0 D E A) (hw : Wo D A s.heap H locs (WX0 h E t_cells t_points t_fouls t_evening t_sights t_seenStep t_seenCell t_isKept t_touches t_cushions t_p_row t_p_column t_p_down t_p_right t_p_cushions n_cells n_points n_fouls n_evening n_sights n_seenStep n_seenCell n_isKept n_touches n_cushions n_p_row n_p_column n_p_down n_p_right n_p_cushions i_cells i_points i_fouls i_evening i_sights i_seenStep i_seenCell i_isKept i_touches i_cushions i_p_row i_p_column i_p_down i_p_right i_p_cushions j_cells j_points j_fouls j_evening j_sights j_seenStep j_seenCell j_isKept j_touches j_cushions j_p_row j_p_column j_p_down j_p_right j_p_cushions x_signs x_sign x_reason x_acts x_candourAt p_row p_column p_down p_right p_cushions x_met x_reached x_firstWay x_queue x_queued x_fitting x_byCell x_wins x_ways)) (hdg : decode cc pc = .ok (.getfield 79, 3)) (kk : W p l e R s m args below meth c H locs cel slo Q (F0 m (pc + 3) ls (.ref (h 2) :: rest))) : W p l e R s m args below meth c H locs cel slo Q (F0 m pc ls (.ref (h 1) :: rest)) :=
  va_getN (D := D) (ci := 1) (C := RX1) (T := TX1) (N := 11) hC.1.1 hC.1.2.1 hC.1.2.2.2.2 in_X1 hC.1.2.2.2.1 hC.2.1.1 hw.1 1 rfl rfl 0 (by decide) (va_Nw.use rfl (nq93 hC.2.1.2)) (fun _ h9 => h9) rfl hdg kk
theorem aX0_t_cells {own : String} {i : Int32} (hC : Cx p m c cc nL s args own D E A) (hw : Wo D A s.heap H locs (WX0 h E t_cells t_points t_fouls t_evening t_sights t_seenStep t_seenCell t_isKept t_touches t_cushions t_p_row t_p_column t_p_down t_p_right t_p_cushions n_cells n_points n_fouls n_evening n_sights n_seenStep n_seenCell n_isKept n_touches n_cushions n_p_row n_p_column n_p_down n_p_right n_p_cushions i_cells i_points i_fouls i_evening i_sights i_seenStep i_seenCell i_isKept i_touches i_cushions i_p_row i_p_column i_p_down i_p_right i_p_cushions j_cells j_points j_fouls j_evening j_sights j_seenStep j_seenCell j_isKept j_touches j_cushions j_p_row j_p_column j_p_down j_p_right j_p_cushions x_signs x_sign x_reason x_acts x_candourAt p_row p_column p_down p_right p_cushions x_met x_reached x_firstWay x_queue x_queued x_fitting x_byCell x_wins x_ways)) (hi : bIn i 3) (hdg : decode cc pc = .ok (.iaload, 1)) (kk : W p l e R s m args below meth c H locs cel slo Q (F0 m (pc + 1) ls (.int (t_cells i.toNatClampNeg) :: rest))) : W p l e R s m args below meth c H locs cel slo Q (F0 m pc ls (.int i :: .ref (h 2) :: rest)) :=
  va_iald hC.1.1 hC.1.2.1 hC.2.1.1 hw.1 2 0 rfl rfl (bIn_in hi) hdg kk
theorem sX0_t_cells {own : String} {i : Int32} {x : Int32} (hC : Cx p m c cc nL s args own D E A) (hw : Wo D A s.heap H locs (WX0 h E t_cells t_points t_fouls t_evening t_sights t_seenStep t_seenCell t_isKept t_touches t_cushions t_p_row t_p_column t_p_down t_p_right t_p_cushions n_cells n_points n_fouls n_evening n_sights n_seenStep n_seenCell n_isKept n_touches n_cushions n_p_row n_p_column n_p_down n_p_right n_p_cushions i_cells i_points i_fouls i_evening i_sights i_seenStep i_seenCell i_isKept i_touches i_cushions i_p_row i_p_column i_p_down i_p_right i_p_cushions j_cells j_points j_fouls j_evening j_sights j_seenStep j_seenCell j_isKept j_touches j_cushions j_p_row j_p_column j_p_down j_p_right j_p_cushions x_signs x_sign x_reason x_acts x_candourAt p_row p_column p_down p_right p_cushions x_met x_reached x_firstWay x_queue x_queued x_fitting x_byCell x_wins x_ways)) (hi : bIn i 3) (hdg : decode cc pc = .ok (.iastore, 1)) (kk : ∀ (H1 : Heap) (locs1 : List Loc), Wo D A s.heap H1 locs1 (WX0 h E (upd t_cells i.toNatClampNeg x) t_points t_fouls t_evening t_sights t_seenStep t_seenCell t_isKept t_touches t_cushions t_p_row t_p_column t_p_down t_p_right t_p_cushions n_cells n_points n_fouls n_evening n_sights n_seenStep n_seenCell n_isKept n_touches n_cushions n_p_row n_p_column n_p_down n_p_right n_p_cushions i_cells i_points i_fouls i_evening i_sights i_seenStep i_seenCell i_isKept i_touches i_cushions i_p_row i_p_column i_p_down i_p_right i_p_cushions j_cells j_points j_fouls j_evening j_sights j_seenStep j_seenCell j_isKept j_touches j_cushions j_p_row j_p_column j_p_down j_p_right j_p_cushions x_signs x_sign x_reason x_acts x_candourAt p_row p_column p_down p_right p_cushions x_met x_reached x_firstWay x_queue x_queued x_fitting x_byCell x_wins x_ways) → W p l e R s m args below meth c H1 locs1 cel slo Q (F0 m (pc + 1) ls rest)) : W p l e R s m args below meth c H locs cel slo Q (F0 m pc ls (.int x :: .int i :: .ref (h 2) :: rest)) :=
  va_iast hC.1.1 hC.1.2.1 hC.2.1.1 hw.1 hw.2.1 hw.2.2 2 0 rfl rfl (bIn_in hi) hdg (fun H1 l1 a b c => kk H1 l1 ⟨a, b, c⟩)
theorem gX0_t_points (hC : Cx p m c cc nL s args RX0 D E A) (hw : Wo D A s.heap H locs (WX0 h E t_cells t_points t_fouls t_evening t_sights t_seenStep t_seenCell t_isKept t_touches t_cushions t_p_row t_p_column t_p_down t_p_right t_p_cushions n_cells n_points n_fouls n_evening n_sights n_seenStep n_seenCell n_isKept n_touches n_cushions n_p_row n_p_column n_p_down n_p_right n_p_cushions i_cells i_points i_fouls i_evening i_sights i_seenStep i_seenCell i_isKept i_touches i_cushions i_p_row i_p_column i_p_down i_p_right i_p_cushions j_cells j_points j_fouls j_evening j_sights j_seenStep j_seenCell j_isKept j_touches j_cushions j_p_row j_p_column j_p_down j_p_right j_p_cushions x_signs x_sign x_reason x_acts x_candourAt p_row p_column p_down p_right p_cushions x_met x_reached x_firstWay x_queue x_queued x_fitting x_byCell x_wins x_ways)) (hdg : decode cc pc = .ok (.getfield 82, 3)) (kk : W p l e R s m args below meth c H locs cel slo Q (F0 m (pc + 3) ls (.int t_points :: rest))) : W p l e R s m args below meth c H locs cel slo Q (F0 m pc ls (.ref (h 1) :: rest)) :=
  va_getN (D := D) (ci := 1) (C := RX1) (T := TX1) (N := 11) hC.1.1 hC.1.2.1 hC.1.2.2.2.2 in_X1 hC.1.2.2.2.1 hC.2.1.1 hw.1 1 rfl rfl 1 (by decide) (va_Nw.use rfl (nq95 hC.2.1.2)) (fun _ h9 => h9) rfl hdg kk
theorem gX0_t_fouls (hC : Cx p m c cc nL s args RX0 D E A) (hw : Wo D A s.heap H locs (WX0 h E t_cells t_points t_fouls t_evening t_sights t_seenStep t_seenCell t_isKept t_touches t_cushions t_p_row t_p_column t_p_down t_p_right t_p_cushions n_cells n_points n_fouls n_evening n_sights n_seenStep n_seenCell n_isKept n_touches n_cushions n_p_row n_p_column n_p_down n_p_right n_p_cushions i_cells i_points i_fouls i_evening i_sights i_seenStep i_seenCell i_isKept i_touches i_cushions i_p_row i_p_column i_p_down i_p_right i_p_cushions j_cells j_points j_fouls j_evening j_sights j_seenStep j_seenCell j_isKept j_touches j_cushions j_p_row j_p_column j_p_down j_p_right j_p_cushions x_signs x_sign x_reason x_acts x_candourAt p_row p_column p_down p_right p_cushions x_met x_reached x_firstWay x_queue x_queued x_fitting x_byCell x_wins x_ways)) (hdg : decode cc pc = .ok (.getfield 86, 3)) (kk : W p l e R s m args below meth c H locs cel slo Q (F0 m (pc + 3) ls (.int t_fouls :: rest))) : W p l e R s m args below meth c H locs cel slo Q (F0 m pc ls (.ref (h 1) :: rest)) :=
  va_getN (D := D) (ci := 1) (C := RX1) (T := TX1) (N := 11) hC.1.1 hC.1.2.1 hC.1.2.2.2.2 in_X1 hC.1.2.2.2.1 hC.2.1.1 hw.1 1 rfl rfl 2 (by decide) (va_Nw.use rfl (nq97 hC.2.1.2)) (fun _ h9 => h9) rfl hdg kk
theorem pX0_t_points {v : Int32} (hC : Cx p m c cc nL s args RX0 D E A) (hw : Wo D A s.heap H locs (WX0 h E t_cells t_points t_fouls t_evening t_sights t_seenStep t_seenCell t_isKept t_touches t_cushions t_p_row t_p_column t_p_down t_p_right t_p_cushions n_cells n_points n_fouls n_evening n_sights n_seenStep n_seenCell n_isKept n_touches n_cushions n_p_row n_p_column n_p_down n_p_right n_p_cushions i_cells i_points i_fouls i_evening i_sights i_seenStep i_seenCell i_isKept i_touches i_cushions i_p_row i_p_column i_p_down i_p_right i_p_cushions j_cells j_points j_fouls j_evening j_sights j_seenStep j_seenCell j_isKept j_touches j_cushions j_p_row j_p_column j_p_down j_p_right j_p_cushions x_signs x_sign x_reason x_acts x_candourAt p_row p_column p_down p_right p_cushions x_met x_reached x_firstWay x_queue x_queued x_fitting x_byCell x_wins x_ways)) (hdg : decode cc pc = .ok (.putfield 82, 3)) (kk : ∀ (H1 : Heap) (locs1 : List Loc), Wo D A s.heap H1 locs1 (WX0 h E t_cells v t_fouls t_evening t_sights t_seenStep t_seenCell t_isKept t_touches t_cushions t_p_row t_p_column t_p_down t_p_right t_p_cushions n_cells n_points n_fouls n_evening n_sights n_seenStep n_seenCell n_isKept n_touches n_cushions n_p_row n_p_column n_p_down n_p_right n_p_cushions i_cells i_points i_fouls i_evening i_sights i_seenStep i_seenCell i_isKept i_touches i_cushions i_p_row i_p_column i_p_down i_p_right i_p_cushions j_cells j_points j_fouls j_evening j_sights j_seenStep j_seenCell j_isKept j_touches j_cushions j_p_row j_p_column j_p_down j_p_right j_p_cushions x_signs x_sign x_reason x_acts x_candourAt p_row p_column p_down p_right p_cushions x_met x_reached x_firstWay x_queue x_queued x_fitting x_byCell x_wins x_ways) → W p l e R s m args below meth c H1 locs1 cel slo Q (F0 m (pc + 3) ls rest)) : W p l e R s m args below meth c H locs cel slo Q (F0 m pc ls (.int v :: .ref (h 1) :: rest)) :=
  va_putN (D := D) (ci := 1) (v := .int v) (ty := .int) (C := RX1) (T := TX1) (N := 11) hC.1.1 hC.1.2.1 hC.1.2.2.2.2 in_X1 tyX1 tyX1_ok nmX1 hC.1.2.2.2.1 hC.2.1.1 hw.1 hw.2.1 hw.2.2 1 rfl rfl 1 (by decide) (va_Nw.use rfl (nq95 hC.2.1.2)) (fun _ h9 => h9) rfl (by decide +kernel) rfl rfl (Nat.le_of_ble_eq_true rfl) hdg (fun H1 l1 a b c => kk H1 l1 ⟨a, b, c⟩)
theorem pX0_t_fouls {v : Int32} (hC : Cx p m c cc nL s args RX0 D E A) (hw : Wo D A s.heap H locs (WX0 h E t_cells t_points t_fouls t_evening t_sights t_seenStep t_seenCell t_isKept t_touches t_cushions t_p_row t_p_column t_p_down t_p_right t_p_cushions n_cells n_points n_fouls n_evening n_sights n_seenStep n_seenCell n_isKept n_touches n_cushions n_p_row n_p_column n_p_down n_p_right n_p_cushions i_cells i_points i_fouls i_evening i_sights i_seenStep i_seenCell i_isKept i_touches i_cushions i_p_row i_p_column i_p_down i_p_right i_p_cushions j_cells j_points j_fouls j_evening j_sights j_seenStep j_seenCell j_isKept j_touches j_cushions j_p_row j_p_column j_p_down j_p_right j_p_cushions x_signs x_sign x_reason x_acts x_candourAt p_row p_column p_down p_right p_cushions x_met x_reached x_firstWay x_queue x_queued x_fitting x_byCell x_wins x_ways)) (hdg : decode cc pc = .ok (.putfield 86, 3)) (kk : ∀ (H1 : Heap) (locs1 : List Loc), Wo D A s.heap H1 locs1 (WX0 h E t_cells t_points v t_evening t_sights t_seenStep t_seenCell t_isKept t_touches t_cushions t_p_row t_p_column t_p_down t_p_right t_p_cushions n_cells n_points n_fouls n_evening n_sights n_seenStep n_seenCell n_isKept n_touches n_cushions n_p_row n_p_column n_p_down n_p_right n_p_cushions i_cells i_points i_fouls i_evening i_sights i_seenStep i_seenCell i_isKept i_touches i_cushions i_p_row i_p_column i_p_down i_p_right i_p_cushions j_cells j_points j_fouls j_evening j_sights j_seenStep j_seenCell j_isKept j_touches j_cushions j_p_row j_p_column j_p_down j_p_right j_p_cushions x_signs x_sign x_reason x_acts x_candourAt p_row p_column p_down p_right p_cushions x_met x_reached x_firstWay x_queue x_queued x_fitting x_byCell x_wins x_ways) → W p l e R s m args below meth c H1 locs1 cel slo Q (F0 m (pc + 3) ls rest)) : W p l e R s m args below meth c H locs cel slo Q (F0 m pc ls (.int v :: .ref (h 1) :: rest)) :=
  va_putN (D := D) (ci := 1) (v := .int v) (ty := .int) (C := RX1) (T := TX1) (N := 11) hC.1.1 hC.1.2.1 hC.1.2.2.2.2 in_X1 tyX1 tyX1_ok nmX1 hC.1.2.2.2.1 hC.2.1.1 hw.1 hw.2.1 hw.2.2 1 rfl rfl 2 (by decide) (va_Nw.use rfl (nq97 hC.2.1.2)) (fun _ h9 => h9) rfl (by decide +kernel) rfl rfl (Nat.le_of_ble_eq_true rfl) hdg (fun H1 l1 a b c => kk H1 l1 ⟨a, b, c⟩)
theorem gX0_this_signs (hC : Cx p m c cc nL s args RX0 D E A) (hw : Wo D A s.heap H locs (WX0 h E t_cells t_points t_fouls t_evening t_sights t_seenStep t_seenCell t_isKept t_touches t_cushions t_p_row t_p_column t_p_down t_p_right t_p_cushions n_cells n_points n_fouls n_evening n_sights n_seenStep n_seenCell n_isKept n_touches n_cushions n_p_row n_p_column n_p_down n_p_right n_p_cushions i_cells i_points i_fouls i_evening i_sights i_seenStep i_seenCell i_isKept i_touches i_cushions i_p_row i_p_column i_p_down i_p_right i_p_cushions j_cells j_points j_fouls j_evening j_sights j_seenStep j_seenCell j_isKept j_touches j_cushions j_p_row j_p_column j_p_down j_p_right j_p_cushions x_signs x_sign x_reason x_acts x_candourAt p_row p_column p_down p_right p_cushions x_met x_reached x_firstWay x_queue x_queued x_fitting x_byCell x_wins x_ways)) (hdg : decode cc pc = .ok (.getfield 89, 3)) (kk : W p l e R s m args below meth c H locs cel slo Q (F0 m (pc + 3) ls (.int x_signs :: rest))) : W p l e R s m args below meth c H locs cel slo Q (F0 m pc ls (.ref (h 0) :: rest)) :=
  va_get (D := D) (ci := 0) (C := RX0) (T := TX0) (N := 18) hC.1.1 hC.1.2.1 hC.1.2.2.2.2 in_X0 hC.1.2.2.2.1 hC.2.1.1 hw.1 0 rfl rfl 3 (by decide) (hC.1.2.2.2.2 _ q141) (fun _ h9 => h9) rfl hdg kk
theorem gX0_this_sign (hC : Cx p m c cc nL s args RX0 D E A) (hw : Wo D A s.heap H locs (WX0 h E t_cells t_points t_fouls t_evening t_sights t_seenStep t_seenCell t_isKept t_touches t_cushions t_p_row t_p_column t_p_down t_p_right t_p_cushions n_cells n_points n_fouls n_evening n_sights n_seenStep n_seenCell n_isKept n_touches n_cushions n_p_row n_p_column n_p_down n_p_right n_p_cushions i_cells i_points i_fouls i_evening i_sights i_seenStep i_seenCell i_isKept i_touches i_cushions i_p_row i_p_column i_p_down i_p_right i_p_cushions j_cells j_points j_fouls j_evening j_sights j_seenStep j_seenCell j_isKept j_touches j_cushions j_p_row j_p_column j_p_down j_p_right j_p_cushions x_signs x_sign x_reason x_acts x_candourAt p_row p_column p_down p_right p_cushions x_met x_reached x_firstWay x_queue x_queued x_fitting x_byCell x_wins x_ways)) (hdg : decode cc pc = .ok (.getfield 27, 3)) (kk : W p l e R s m args below meth c H locs cel slo Q (F0 m (pc + 3) ls (.ref (h 22) :: rest))) : W p l e R s m args below meth c H locs cel slo Q (F0 m pc ls (.ref (h 0) :: rest)) :=
  va_get (D := D) (ci := 0) (C := RX0) (T := TX0) (N := 18) hC.1.1 hC.1.2.1 hC.1.2.2.2.2 in_X0 hC.1.2.2.2.1 hC.2.1.1 hw.1 0 rfl rfl 4 (by decide) (hC.1.2.2.2.2 _ q142) (fun _ h9 => h9) rfl hdg kk
theorem sX0_x_sign {own : String} {i : Int32} {x : Int32} (hC : Cx p m c cc nL s args own D E A) (hw : Wo D A s.heap H locs (WX0 h E t_cells t_points t_fouls t_evening t_sights t_seenStep t_seenCell t_isKept t_touches t_cushions t_p_row t_p_column t_p_down t_p_right t_p_cushions n_cells n_points n_fouls n_evening n_sights n_seenStep n_seenCell n_isKept n_touches n_cushions n_p_row n_p_column n_p_down n_p_right n_p_cushions i_cells i_points i_fouls i_evening i_sights i_seenStep i_seenCell i_isKept i_touches i_cushions i_p_row i_p_column i_p_down i_p_right i_p_cushions j_cells j_points j_fouls j_evening j_sights j_seenStep j_seenCell j_isKept j_touches j_cushions j_p_row j_p_column j_p_down j_p_right j_p_cushions x_signs x_sign x_reason x_acts x_candourAt p_row p_column p_down p_right p_cushions x_met x_reached x_firstWay x_queue x_queued x_fitting x_byCell x_wins x_ways)) (hi : bIn i 60) (hdg : decode cc pc = .ok (.castore, 1)) (kk : ∀ (H1 : Heap) (locs1 : List Loc), Wo D A s.heap H1 locs1 (WX0 h E t_cells t_points t_fouls t_evening t_sights t_seenStep t_seenCell t_isKept t_touches t_cushions t_p_row t_p_column t_p_down t_p_right t_p_cushions n_cells n_points n_fouls n_evening n_sights n_seenStep n_seenCell n_isKept n_touches n_cushions n_p_row n_p_column n_p_down n_p_right n_p_cushions i_cells i_points i_fouls i_evening i_sights i_seenStep i_seenCell i_isKept i_touches i_cushions i_p_row i_p_column i_p_down i_p_right i_p_cushions j_cells j_points j_fouls j_evening j_sights j_seenStep j_seenCell j_isKept j_touches j_cushions j_p_row j_p_column j_p_down j_p_right j_p_cushions x_signs (upd x_sign i.toNatClampNeg (vp_nar .char x)) x_reason x_acts x_candourAt p_row p_column p_down p_right p_cushions x_met x_reached x_firstWay x_queue x_queued x_fitting x_byCell x_wins x_ways) → W p l e R s m args below meth c H1 locs1 cel slo Q (F0 m (pc + 1) ls rest)) : W p l e R s m args below meth c H locs cel slo Q (F0 m pc ls (.int x :: .int i :: .ref (h 22) :: rest)) :=
  va_cast hC.1.1 hC.1.2.1 hC.2.1.1 hw.1 hw.2.1 hw.2.2 22 2 rfl rfl (bIn_in hi) hdg (fun H1 l1 a b c => kk H1 l1 ⟨a, b, c⟩)
theorem pX0_this_signs {v : Int32} (hC : Cx p m c cc nL s args RX0 D E A) (hw : Wo D A s.heap H locs (WX0 h E t_cells t_points t_fouls t_evening t_sights t_seenStep t_seenCell t_isKept t_touches t_cushions t_p_row t_p_column t_p_down t_p_right t_p_cushions n_cells n_points n_fouls n_evening n_sights n_seenStep n_seenCell n_isKept n_touches n_cushions n_p_row n_p_column n_p_down n_p_right n_p_cushions i_cells i_points i_fouls i_evening i_sights i_seenStep i_seenCell i_isKept i_touches i_cushions i_p_row i_p_column i_p_down i_p_right i_p_cushions j_cells j_points j_fouls j_evening j_sights j_seenStep j_seenCell j_isKept j_touches j_cushions j_p_row j_p_column j_p_down j_p_right j_p_cushions x_signs x_sign x_reason x_acts x_candourAt p_row p_column p_down p_right p_cushions x_met x_reached x_firstWay x_queue x_queued x_fitting x_byCell x_wins x_ways)) (hdg : decode cc pc = .ok (.putfield 89, 3)) (kk : ∀ (H1 : Heap) (locs1 : List Loc), Wo D A s.heap H1 locs1 (WX0 h E t_cells t_points t_fouls t_evening t_sights t_seenStep t_seenCell t_isKept t_touches t_cushions t_p_row t_p_column t_p_down t_p_right t_p_cushions n_cells n_points n_fouls n_evening n_sights n_seenStep n_seenCell n_isKept n_touches n_cushions n_p_row n_p_column n_p_down n_p_right n_p_cushions i_cells i_points i_fouls i_evening i_sights i_seenStep i_seenCell i_isKept i_touches i_cushions i_p_row i_p_column i_p_down i_p_right i_p_cushions j_cells j_points j_fouls j_evening j_sights j_seenStep j_seenCell j_isKept j_touches j_cushions j_p_row j_p_column j_p_down j_p_right j_p_cushions v x_sign x_reason x_acts x_candourAt p_row p_column p_down p_right p_cushions x_met x_reached x_firstWay x_queue x_queued x_fitting x_byCell x_wins x_ways) → W p l e R s m args below meth c H1 locs1 cel slo Q (F0 m (pc + 3) ls rest)) : W p l e R s m args below meth c H locs cel slo Q (F0 m pc ls (.int v :: .ref (h 0) :: rest)) :=
  va_put (D := D) (ci := 0) (v := .int v) (ty := .int) (C := RX0) (T := TX0) (N := 18) hC.1.1 hC.1.2.1 hC.1.2.2.2.2 in_X0 tyX0 tyX0_ok nmX0 hC.1.2.2.2.1 hC.2.1.1 hw.1 hw.2.1 hw.2.2 0 rfl rfl 3 (by decide) (hC.1.2.2.2.2 _ q141) (fun _ h9 => h9) rfl (by decide +kernel) rfl rfl (Nat.le_of_ble_eq_true rfl) hdg (fun H1 l1 a b c => kk H1 l1 ⟨a, b, c⟩)
theorem aX0_x_sign {own : String} {i : Int32} (hC : Cx p m c cc nL s args own D E A) (hw : Wo D A s.heap H locs (WX0 h E t_cells t_points t_fouls t_evening t_sights t_seenStep t_seenCell t_isKept t_touches t_cushions t_p_row t_p_column t_p_down t_p_right t_p_cushions n_cells n_points n_fouls n_evening n_sights n_seenStep n_seenCell n_isKept n_touches n_cushions n_p_row n_p_column n_p_down n_p_right n_p_cushions i_cells i_points i_fouls i_evening i_sights i_seenStep i_seenCell i_isKept i_touches i_cushions i_p_row i_p_column i_p_down i_p_right i_p_cushions j_cells j_points j_fouls j_evening j_sights j_seenStep j_seenCell j_isKept j_touches j_cushions j_p_row j_p_column j_p_down j_p_right j_p_cushions x_signs x_sign x_reason x_acts x_candourAt p_row p_column p_down p_right p_cushions x_met x_reached x_firstWay x_queue x_queued x_fitting x_byCell x_wins x_ways)) (hi : bIn i 60) (hdg : decode cc pc = .ok (.caload, 1)) (kk : W p l e R s m args below meth c H locs cel slo Q (F0 m (pc + 1) ls (.int (x_sign i.toNatClampNeg) :: rest))) : W p l e R s m args below meth c H locs cel slo Q (F0 m pc ls (.int i :: .ref (h 22) :: rest)) :=
  va_cald hC.1.1 hC.1.2.1 hC.2.1.1 hw.1 22 2 rfl rfl (bIn_in hi) hdg kk
theorem pX0_this_reason {v : Int32} (hC : Cx p m c cc nL s args RX0 D E A) (hw : Wo D A s.heap H locs (WX0 h E t_cells t_points t_fouls t_evening t_sights t_seenStep t_seenCell t_isKept t_touches t_cushions t_p_row t_p_column t_p_down t_p_right t_p_cushions n_cells n_points n_fouls n_evening n_sights n_seenStep n_seenCell n_isKept n_touches n_cushions n_p_row n_p_column n_p_down n_p_right n_p_cushions i_cells i_points i_fouls i_evening i_sights i_seenStep i_seenCell i_isKept i_touches i_cushions i_p_row i_p_column i_p_down i_p_right i_p_cushions j_cells j_points j_fouls j_evening j_sights j_seenStep j_seenCell j_isKept j_touches j_cushions j_p_row j_p_column j_p_down j_p_right j_p_cushions x_signs x_sign x_reason x_acts x_candourAt p_row p_column p_down p_right p_cushions x_met x_reached x_firstWay x_queue x_queued x_fitting x_byCell x_wins x_ways)) (hdg : decode cc pc = .ok (.putfield 100, 3)) (kk : ∀ (H1 : Heap) (locs1 : List Loc), Wo D A s.heap H1 locs1 (WX0 h E t_cells t_points t_fouls t_evening t_sights t_seenStep t_seenCell t_isKept t_touches t_cushions t_p_row t_p_column t_p_down t_p_right t_p_cushions n_cells n_points n_fouls n_evening n_sights n_seenStep n_seenCell n_isKept n_touches n_cushions n_p_row n_p_column n_p_down n_p_right n_p_cushions i_cells i_points i_fouls i_evening i_sights i_seenStep i_seenCell i_isKept i_touches i_cushions i_p_row i_p_column i_p_down i_p_right i_p_cushions j_cells j_points j_fouls j_evening j_sights j_seenStep j_seenCell j_isKept j_touches j_cushions j_p_row j_p_column j_p_down j_p_right j_p_cushions x_signs x_sign v x_acts x_candourAt p_row p_column p_down p_right p_cushions x_met x_reached x_firstWay x_queue x_queued x_fitting x_byCell x_wins x_ways) → W p l e R s m args below meth c H1 locs1 cel slo Q (F0 m (pc + 3) ls rest)) : W p l e R s m args below meth c H locs cel slo Q (F0 m pc ls (.int v :: .ref (h 0) :: rest)) :=
  va_put (D := D) (ci := 0) (v := .int v) (ty := .int) (C := RX0) (T := TX0) (N := 18) hC.1.1 hC.1.2.1 hC.1.2.2.2.2 in_X0 tyX0 tyX0_ok nmX0 hC.1.2.2.2.1 hC.2.1.1 hw.1 hw.2.1 hw.2.2 0 rfl rfl 5 (by decide) (hC.1.2.2.2.2 _ q143) (fun _ h9 => h9) rfl (by decide +kernel) rfl rfl (Nat.le_of_ble_eq_true rfl) hdg (fun H1 l1 a b c => kk H1 l1 ⟨a, b, c⟩)
theorem gX0_this_now (hC : Cx p m c cc nL s args RX0 D E A) (hw : Wo D A s.heap H locs (WX0 h E t_cells t_points t_fouls t_evening t_sights t_seenStep t_seenCell t_isKept t_touches t_cushions t_p_row t_p_column t_p_down t_p_right t_p_cushions n_cells n_points n_fouls n_evening n_sights n_seenStep n_seenCell n_isKept n_touches n_cushions n_p_row n_p_column n_p_down n_p_right n_p_cushions i_cells i_points i_fouls i_evening i_sights i_seenStep i_seenCell i_isKept i_touches i_cushions i_p_row i_p_column i_p_down i_p_right i_p_cushions j_cells j_points j_fouls j_evening j_sights j_seenStep j_seenCell j_isKept j_touches j_cushions j_p_row j_p_column j_p_down j_p_right j_p_cushions x_signs x_sign x_reason x_acts x_candourAt p_row p_column p_down p_right p_cushions x_met x_reached x_firstWay x_queue x_queued x_fitting x_byCell x_wins x_ways)) (hdg : decode cc pc = .ok (.getfield 20, 3)) (kk : W p l e R s m args below meth c H locs cel slo Q (F0 m (pc + 3) ls (.ref (h 6) :: rest))) : W p l e R s m args below meth c H locs cel slo Q (F0 m pc ls (.ref (h 0) :: rest)) :=
  va_get (D := D) (ci := 0) (C := RX0) (T := TX0) (N := 18) hC.1.1 hC.1.2.1 hC.1.2.2.2.2 in_X0 hC.1.2.2.2.1 hC.2.1.1 hw.1 0 rfl rfl 1 (by decide) (hC.1.2.2.2.2 _ q139) (fun _ h9 => h9) rfl hdg kk
theorem subX0_n : (((WX0 h E t_cells t_points t_fouls t_evening t_sights t_seenStep t_seenCell t_isKept t_touches t_cushions t_p_row t_p_column t_p_down t_p_right t_p_cushions n_cells n_points n_fouls n_evening n_sights n_seenStep n_seenCell n_isKept n_touches n_cushions n_p_row n_p_column n_p_down n_p_right n_p_cushions i_cells i_points i_fouls i_evening i_sights i_seenStep i_seenCell i_isKept i_touches i_cushions i_p_row i_p_column i_p_down i_p_right i_p_cushions j_cells j_points j_fouls j_evening j_sights j_seenStep j_seenCell j_isKept j_touches j_cushions j_p_row j_p_column j_p_down j_p_right j_p_cushions x_signs x_sign x_reason x_acts x_candourAt p_row p_column p_down p_right p_cushions x_met x_reached x_firstWay x_queue x_queued x_fitting x_byCell x_wins x_ways)).drop 6).take 5 = (WX1 (h 6) (h 7) (h 8) (h 9) (h 10) E n_cells n_points n_fouls n_evening n_sights n_seenStep n_seenCell n_isKept n_touches n_cushions n_p_row n_p_column n_p_down n_p_right n_p_cushions) := rfl
theorem putX0_n {z_cells : Nat → Int32} {z_points : Int32} {z_fouls : Int32} {z_evening : Int32} {z_sights : Int32} {z_seenStep : Nat → Int32} {z_seenCell : Nat → Int32} {z_isKept : Int32} {z_touches : Int32} {z_cushions : Int32} {z_p_row : Int32} {z_p_column : Int32} {z_p_down : Int32} {z_p_right : Int32} {z_p_cushions : Int32} : ((WX0 h E t_cells t_points t_fouls t_evening t_sights t_seenStep t_seenCell t_isKept t_touches t_cushions t_p_row t_p_column t_p_down t_p_right t_p_cushions n_cells n_points n_fouls n_evening n_sights n_seenStep n_seenCell n_isKept n_touches n_cushions n_p_row n_p_column n_p_down n_p_right n_p_cushions i_cells i_points i_fouls i_evening i_sights i_seenStep i_seenCell i_isKept i_touches i_cushions i_p_row i_p_column i_p_down i_p_right i_p_cushions j_cells j_points j_fouls j_evening j_sights j_seenStep j_seenCell j_isKept j_touches j_cushions j_p_row j_p_column j_p_down j_p_right j_p_cushions x_signs x_sign x_reason x_acts x_candourAt p_row p_column p_down p_right p_cushions x_met x_reached x_firstWay x_queue x_queued x_fitting x_byCell x_wins x_ways)).take 6 ++ ((WX1 (h 6) (h 7) (h 8) (h 9) (h 10) E z_cells z_points z_fouls z_evening z_sights z_seenStep z_seenCell z_isKept z_touches z_cushions z_p_row z_p_column z_p_down z_p_right z_p_cushions) ++ ((WX0 h E t_cells t_points t_fouls t_evening t_sights t_seenStep t_seenCell t_isKept t_touches t_cushions t_p_row t_p_column t_p_down t_p_right t_p_cushions n_cells n_points n_fouls n_evening n_sights n_seenStep n_seenCell n_isKept n_touches n_cushions n_p_row n_p_column n_p_down n_p_right n_p_cushions i_cells i_points i_fouls i_evening i_sights i_seenStep i_seenCell i_isKept i_touches i_cushions i_p_row i_p_column i_p_down i_p_right i_p_cushions j_cells j_points j_fouls j_evening j_sights j_seenStep j_seenCell j_isKept j_touches j_cushions j_p_row j_p_column j_p_down j_p_right j_p_cushions x_signs x_sign x_reason x_acts x_candourAt p_row p_column p_down p_right p_cushions x_met x_reached x_firstWay x_queue x_queued x_fitting x_byCell x_wins x_ways)).drop (6 + 5)) = (WX0 h E t_cells t_points t_fouls t_evening t_sights t_seenStep t_seenCell t_isKept t_touches t_cushions t_p_row t_p_column t_p_down t_p_right t_p_cushions z_cells z_points z_fouls z_evening z_sights z_seenStep z_seenCell z_isKept z_touches z_cushions z_p_row z_p_column z_p_down z_p_right z_p_cushions i_cells i_points i_fouls i_evening i_sights i_seenStep i_seenCell i_isKept i_touches i_cushions i_p_row i_p_column i_p_down i_p_right i_p_cushions j_cells j_points j_fouls j_evening j_sights j_seenStep j_seenCell j_isKept j_touches j_cushions j_p_row j_p_column j_p_down j_p_right j_p_cushions x_signs x_sign x_reason x_acts x_candourAt p_row p_column p_down p_right p_cushions x_met x_reached x_firstWay x_queue x_queued x_fitting x_byCell x_wins x_ways) := rfl
set_option maxHeartbeats 4000000 in
theorem ccX0_n_t {z_d_cells : Nat → Int32} {z_d_points : Int32} {z_d_fouls : Int32} {z_d_evening : Int32} {z_d_sights : Int32} {z_d_seenStep : Nat → Int32} {z_d_seenCell : Nat → Int32} {z_d_isKept : Int32} {z_d_touches : Int32} {z_d_cushions : Int32} {z_d_p_row : Int32} {z_d_p_column : Int32} {z_d_p_down : Int32} {z_d_p_right : Int32} {z_d_p_cushions : Int32} {z_s_cells : Nat → Int32} {z_s_points : Int32} {z_s_fouls : Int32} {z_s_evening : Int32} {z_s_sights : Int32} {z_s_seenStep : Nat → Int32} {z_s_seenCell : Nat → Int32} {z_s_isKept : Int32} {z_s_touches : Int32} {z_s_cushions : Int32} {z_s_p_row : Int32} {z_s_p_column : Int32} {z_s_p_down : Int32} {z_s_p_right : Int32} {z_s_p_cushions : Int32} (hC : Cx p m c cc nL s args RX0 D E A) (hsz : ls.size = nL) (hw : Wo D A s.heap H locs (WX0 h E t_cells t_points t_fouls t_evening t_sights t_seenStep t_seenCell t_isKept t_touches t_cushions t_p_row t_p_column t_p_down t_p_right t_p_cushions n_cells n_points n_fouls n_evening n_sights n_seenStep n_seenCell n_isKept n_touches n_cushions n_p_row n_p_column n_p_down n_p_right n_p_cushions i_cells i_points i_fouls i_evening i_sights i_seenStep i_seenCell i_isKept i_touches i_cushions i_p_row i_p_column i_p_down i_p_right i_p_cushions j_cells j_points j_fouls j_evening j_sights j_seenStep j_seenCell j_isKept j_touches j_cushions j_p_row j_p_column j_p_down j_p_right j_p_cushions x_signs x_sign x_reason x_acts x_candourAt p_row p_column p_down p_right p_cushions x_met x_reached x_firstWay x_queue x_queued x_fitting x_byCell x_wins x_ways)) (hM : CtV l yX1_copy cX1_copy 2 2 D E H.size [.ref (h 6), .ref (h 1)] (WC (h 6) (h 7) (h 8) (h 9) (h 10) (h 1) (h 2) (h 3) (h 4) (h 5) E n_cells n_points n_fouls n_evening n_sights n_seenStep n_seenCell n_isKept n_touches n_cushions n_p_row n_p_column n_p_down n_p_right n_p_cushions t_cells t_points t_fouls t_evening t_sights t_seenStep t_seenCell t_isKept t_touches t_cushions t_p_row t_p_column t_p_down t_p_right t_p_cushions) (WC (h 6) (h 7) (h 8) (h 9) (h 10) (h 1) (h 2) (h 3) (h 4) (h 5) E z_d_cells z_d_points z_d_fouls z_d_evening z_d_sights z_d_seenStep z_d_seenCell z_d_isKept z_d_touches z_d_cushions z_d_p_row z_d_p_column z_d_p_down z_d_p_right z_d_p_cushions z_s_cells z_s_points z_s_fouls z_s_evening z_s_sights z_s_seenStep z_s_seenCell z_s_isKept z_s_touches z_s_cushions z_s_p_row z_s_p_column z_s_p_down z_s_p_right z_s_p_cushions)) (hR : (rmN 2).frames + 1 ≤ R.frames ∧ 8 + (2 + 11) + (rmN 2).locals ≤ R.locals) (hrest : (rest.map fun v => v.category).sum ≤ 8) (hdg : decode cc pc = .ok (.invokevirtual 116, 3)) (hf : cel ≤ R.cells ∧ slo ≤ R.slots) (kk : ∀ (H1 : Heap) (locs1 : List Loc), Wo D A s.heap H1 locs1 (WX0 h E z_s_cells z_s_points z_s_fouls z_s_evening z_s_sights z_s_seenStep z_s_seenCell z_s_isKept z_s_touches z_s_cushions z_s_p_row z_s_p_column z_s_p_down z_s_p_right z_s_p_cushions z_d_cells z_d_points z_d_fouls z_d_evening z_d_sights z_d_seenStep z_d_seenCell z_d_isKept z_d_touches z_d_cushions z_d_p_row z_d_p_column z_d_p_down z_d_p_right z_d_p_cushions i_cells i_points i_fouls i_evening i_sights i_seenStep i_seenCell i_isKept i_touches i_cushions i_p_row i_p_column i_p_down i_p_right i_p_cushions j_cells j_points j_fouls j_evening j_sights j_seenStep j_seenCell j_isKept j_touches j_cushions j_p_row j_p_column j_p_down j_p_right j_p_cushions x_signs x_sign x_reason x_acts x_candourAt p_row p_column p_down p_right p_cushions x_met x_reached x_firstWay x_queue x_queued x_fitting x_byCell x_wins x_ways) → W p l e R s m args below meth c H1 locs1 cel slo Q (F0 m (pc + 3) ls rest)) : W p l e R s m args below meth c H locs cel slo Q (F0 m pc ls (.ref (h 1) :: .ref (h 6) :: rest)) := by
  have hPc := hw.1.sub (ws' := (WC (h 6) (h 7) (h 8) (h 9) (h 10) (h 1) (h 2) (h 3) (h 4) (h 5) E n_cells n_points n_fouls n_evening n_sights n_seenStep n_seenCell n_isKept n_touches n_cushions n_p_row n_p_column n_p_down n_p_right n_p_cushions t_cells t_points t_fouls t_evening t_sights t_seenStep t_seenCell t_isKept t_touches t_cushions t_p_row t_p_column t_p_down t_p_right t_p_cushions)) [6, 7, 8, 9, 10, 1, 2, 3, 4, 5] rfl
  have hDc := hw.2.1.sub (ws' := (WC (h 6) (h 7) (h 8) (h 9) (h 10) (h 1) (h 2) (h 3) (h 4) (h 5) E n_cells n_points n_fouls n_evening n_sights n_seenStep n_seenCell n_isKept n_touches n_cushions n_p_row n_p_column n_p_down n_p_right n_p_cushions t_cells t_points t_fouls t_evening t_sights t_seenStep t_seenCell t_isKept t_touches t_cushions t_p_row t_p_column t_p_down t_p_right t_p_cushions)) [6, 7, 8, 9, 10, 1, 2, 3, 4, 5] (by decide) rfl
  have hFc := va_free (wc := (WC (h 6) (h 7) (h 8) (h 9) (h 10) (h 1) (h 2) (h 3) (h 4) (h 5) E n_cells n_points n_fouls n_evening n_sights n_seenStep n_seenCell n_isKept n_touches n_cushions n_p_row n_p_column n_p_down n_p_right n_p_cushions t_cells t_points t_fouls t_evening t_sights t_seenStep t_seenCell t_isKept t_touches t_cushions t_p_row t_p_column t_p_down t_p_right t_p_cushions)) hw.2.1 hw.2.2 hC.2.2 [6, 7, 8, 9, 10, 1, 2, 3, 4, 5] rfl
  refine va_callv (va_runV (As := [.ref (h 1)]) (rest := rest) hC.1 hM (cwV 1 hC.1.2.2.2.2 (lw_V q247 mi_X1_copy.1 mi_X1_copy.2.1 mi_X1_copy.2.2.1 mi_X1_copy.2.2.2.1) rfl rfl rfl mi_X1_copy.2.2.2.2.1 hR) (preV (ci := 1) (q0 := 0) (r := (RX1, TX1, 11)) hC.2.1 hPc hDc rfl rfl) rfl rfl hsz rfl (lv_room hrest) hdg hf) hw.2.2 (fun q _ h => hFc q h) hFc (fun u t H1 locs1 ht hvm hp hB hz hk hS => ?_)
  have hP1 := hB.1
  rw [ht] at hP1
  obtain ⟨hP2, hD2⟩ := va_join (w1 := (WC (h 6) (h 7) (h 8) (h 9) (h 10) (h 1) (h 2) (h 3) (h 4) (h 5) E z_d_cells z_d_points z_d_fouls z_d_evening z_d_sights z_d_seenStep z_d_seenCell z_d_isKept z_d_touches z_d_cushions z_d_p_row z_d_p_column z_d_p_down z_d_p_right z_d_p_cushions z_s_cells z_s_points z_s_fouls z_s_evening z_s_sights z_s_seenStep z_s_seenCell z_s_isKept z_s_touches z_s_cushions z_s_p_row z_s_p_column z_s_p_down z_s_p_right z_s_p_cushions)) hw.1 hw.2.1 [6, 7, 8, 9, 10, 1, 2, 3, 4, 5] [0, 11, 12, 13, 14, 15, 16, 17, 18, 19, 20, 21, 22, 23, 24, 25, 26, 27, 28, 29, 30, 31] rfl (wr := [0, 11, 12, 13, 14, 15, 16, 17, 18, 19, 20, 21, 22, 23, 24, 25, 26, 27, 28, 29, 30, 31].filterMap (fun i => (WX0 h E t_cells t_points t_fouls t_evening t_sights t_seenStep t_seenCell t_isKept t_touches t_cushions t_p_row t_p_column t_p_down t_p_right t_p_cushions n_cells n_points n_fouls n_evening n_sights n_seenStep n_seenCell n_isKept n_touches n_cushions n_p_row n_p_column n_p_down n_p_right n_p_cushions i_cells i_points i_fouls i_evening i_sights i_seenStep i_seenCell i_isKept i_touches i_cushions i_p_row i_p_column i_p_down i_p_right i_p_cushions j_cells j_points j_fouls j_evening j_sights j_seenStep j_seenCell j_isKept j_touches j_cushions j_p_row j_p_column j_p_down j_p_right j_p_cushions x_signs x_sign x_reason x_acts x_candourAt p_row p_column p_down p_right p_cushions x_met x_reached x_firstWay x_queue x_queued x_fitting x_byCell x_wins x_ways)[i]?)) rfl (by decide) (by decide) hk hFc hP1 hB.2
  exact kk H1 locs1 ⟨hP2.sub [0, 27, 28, 29, 30, 31, 22, 23, 24, 25, 26, 1, 2, 3, 4, 5, 6, 7, 8, 9, 10, 11, 12, 13, 14, 15, 16, 17, 18, 19, 20, 21] rfl, hD2.sub [0, 27, 28, 29, 30, 31, 22, 23, 24, 25, 26, 1, 2, 3, 4, 5, 6, 7, 8, 9, 10, 11, 12, 13, 14, 15, 16, 17, 18, 19, 20, 21] (by decide) rfl, hS⟩
theorem pX0_this_acts {v : Int32} (hC : Cx p m c cc nL s args RX0 D E A) (hw : Wo D A s.heap H locs (WX0 h E t_cells t_points t_fouls t_evening t_sights t_seenStep t_seenCell t_isKept t_touches t_cushions t_p_row t_p_column t_p_down t_p_right t_p_cushions n_cells n_points n_fouls n_evening n_sights n_seenStep n_seenCell n_isKept n_touches n_cushions n_p_row n_p_column n_p_down n_p_right n_p_cushions i_cells i_points i_fouls i_evening i_sights i_seenStep i_seenCell i_isKept i_touches i_cushions i_p_row i_p_column i_p_down i_p_right i_p_cushions j_cells j_points j_fouls j_evening j_sights j_seenStep j_seenCell j_isKept j_touches j_cushions j_p_row j_p_column j_p_down j_p_right j_p_cushions x_signs x_sign x_reason x_acts x_candourAt p_row p_column p_down p_right p_cushions x_met x_reached x_firstWay x_queue x_queued x_fitting x_byCell x_wins x_ways)) (hdg : decode cc pc = .ok (.putfield 120, 3)) (kk : ∀ (H1 : Heap) (locs1 : List Loc), Wo D A s.heap H1 locs1 (WX0 h E t_cells t_points t_fouls t_evening t_sights t_seenStep t_seenCell t_isKept t_touches t_cushions t_p_row t_p_column t_p_down t_p_right t_p_cushions n_cells n_points n_fouls n_evening n_sights n_seenStep n_seenCell n_isKept n_touches n_cushions n_p_row n_p_column n_p_down n_p_right n_p_cushions i_cells i_points i_fouls i_evening i_sights i_seenStep i_seenCell i_isKept i_touches i_cushions i_p_row i_p_column i_p_down i_p_right i_p_cushions j_cells j_points j_fouls j_evening j_sights j_seenStep j_seenCell j_isKept j_touches j_cushions j_p_row j_p_column j_p_down j_p_right j_p_cushions x_signs x_sign x_reason v x_candourAt p_row p_column p_down p_right p_cushions x_met x_reached x_firstWay x_queue x_queued x_fitting x_byCell x_wins x_ways) → W p l e R s m args below meth c H1 locs1 cel slo Q (F0 m (pc + 3) ls rest)) : W p l e R s m args below meth c H locs cel slo Q (F0 m pc ls (.int v :: .ref (h 0) :: rest)) :=
  va_put (D := D) (ci := 0) (v := .int v) (ty := .int) (C := RX0) (T := TX0) (N := 18) hC.1.1 hC.1.2.1 hC.1.2.2.2.2 in_X0 tyX0 tyX0_ok nmX0 hC.1.2.2.2.1 hC.2.1.1 hw.1 hw.2.1 hw.2.2 0 rfl rfl 6 (by decide) (hC.1.2.2.2.2 _ q144) (fun _ h9 => h9) rfl (by decide +kernel) rfl rfl (Nat.le_of_ble_eq_true rfl) hdg (fun H1 l1 a b c => kk H1 l1 ⟨a, b, c⟩)
theorem pX0_this_candourAt {v : Int32} (hC : Cx p m c cc nL s args RX0 D E A) (hw : Wo D A s.heap H locs (WX0 h E t_cells t_points t_fouls t_evening t_sights t_seenStep t_seenCell t_isKept t_touches t_cushions t_p_row t_p_column t_p_down t_p_right t_p_cushions n_cells n_points n_fouls n_evening n_sights n_seenStep n_seenCell n_isKept n_touches n_cushions n_p_row n_p_column n_p_down n_p_right n_p_cushions i_cells i_points i_fouls i_evening i_sights i_seenStep i_seenCell i_isKept i_touches i_cushions i_p_row i_p_column i_p_down i_p_right i_p_cushions j_cells j_points j_fouls j_evening j_sights j_seenStep j_seenCell j_isKept j_touches j_cushions j_p_row j_p_column j_p_down j_p_right j_p_cushions x_signs x_sign x_reason x_acts x_candourAt p_row p_column p_down p_right p_cushions x_met x_reached x_firstWay x_queue x_queued x_fitting x_byCell x_wins x_ways)) (hdg : decode cc pc = .ok (.putfield 123, 3)) (kk : ∀ (H1 : Heap) (locs1 : List Loc), Wo D A s.heap H1 locs1 (WX0 h E t_cells t_points t_fouls t_evening t_sights t_seenStep t_seenCell t_isKept t_touches t_cushions t_p_row t_p_column t_p_down t_p_right t_p_cushions n_cells n_points n_fouls n_evening n_sights n_seenStep n_seenCell n_isKept n_touches n_cushions n_p_row n_p_column n_p_down n_p_right n_p_cushions i_cells i_points i_fouls i_evening i_sights i_seenStep i_seenCell i_isKept i_touches i_cushions i_p_row i_p_column i_p_down i_p_right i_p_cushions j_cells j_points j_fouls j_evening j_sights j_seenStep j_seenCell j_isKept j_touches j_cushions j_p_row j_p_column j_p_down j_p_right j_p_cushions x_signs x_sign x_reason x_acts v p_row p_column p_down p_right p_cushions x_met x_reached x_firstWay x_queue x_queued x_fitting x_byCell x_wins x_ways) → W p l e R s m args below meth c H1 locs1 cel slo Q (F0 m (pc + 3) ls rest)) : W p l e R s m args below meth c H locs cel slo Q (F0 m pc ls (.int v :: .ref (h 0) :: rest)) :=
  va_put (D := D) (ci := 0) (v := .int v) (ty := .int) (C := RX0) (T := TX0) (N := 18) hC.1.1 hC.1.2.1 hC.1.2.2.2.2 in_X0 tyX0 tyX0_ok nmX0 hC.1.2.2.2.1 hC.2.1.1 hw.1 hw.2.1 hw.2.2 0 rfl rfl 7 (by decide) (hC.1.2.2.2.2 _ q145) (fun _ h9 => h9) rfl (by decide +kernel) rfl rfl (Nat.le_of_ble_eq_true rfl) hdg (fun H1 l1 a b c => kk H1 l1 ⟨a, b, c⟩)
theorem gX0_n_fouls (hC : Cx p m c cc nL s args RX0 D E A) (hw : Wo D A s.heap H locs (WX0 h E t_cells t_points t_fouls t_evening t_sights t_seenStep t_seenCell t_isKept t_touches t_cushions t_p_row t_p_column t_p_down t_p_right t_p_cushions n_cells n_points n_fouls n_evening n_sights n_seenStep n_seenCell n_isKept n_touches n_cushions n_p_row n_p_column n_p_down n_p_right n_p_cushions i_cells i_points i_fouls i_evening i_sights i_seenStep i_seenCell i_isKept i_touches i_cushions i_p_row i_p_column i_p_down i_p_right i_p_cushions j_cells j_points j_fouls j_evening j_sights j_seenStep j_seenCell j_isKept j_touches j_cushions j_p_row j_p_column j_p_down j_p_right j_p_cushions x_signs x_sign x_reason x_acts x_candourAt p_row p_column p_down p_right p_cushions x_met x_reached x_firstWay x_queue x_queued x_fitting x_byCell x_wins x_ways)) (hdg : decode cc pc = .ok (.getfield 86, 3)) (kk : W p l e R s m args below meth c H locs cel slo Q (F0 m (pc + 3) ls (.int n_fouls :: rest))) : W p l e R s m args below meth c H locs cel slo Q (F0 m pc ls (.ref (h 6) :: rest)) :=
  va_getN (D := D) (ci := 1) (C := RX1) (T := TX1) (N := 11) hC.1.1 hC.1.2.1 hC.1.2.2.2.2 in_X1 hC.1.2.2.2.1 hC.2.1.1 hw.1 6 rfl rfl 2 (by decide) (va_Nw.use rfl (nq97 hC.2.1.2)) (fun _ h9 => h9) rfl hdg kk
theorem gX0_this_reason (hC : Cx p m c cc nL s args RX0 D E A) (hw : Wo D A s.heap H locs (WX0 h E t_cells t_points t_fouls t_evening t_sights t_seenStep t_seenCell t_isKept t_touches t_cushions t_p_row t_p_column t_p_down t_p_right t_p_cushions n_cells n_points n_fouls n_evening n_sights n_seenStep n_seenCell n_isKept n_touches n_cushions n_p_row n_p_column n_p_down n_p_right n_p_cushions i_cells i_points i_fouls i_evening i_sights i_seenStep i_seenCell i_isKept i_touches i_cushions i_p_row i_p_column i_p_down i_p_right i_p_cushions j_cells j_points j_fouls j_evening j_sights j_seenStep j_seenCell j_isKept j_touches j_cushions j_p_row j_p_column j_p_down j_p_right j_p_cushions x_signs x_sign x_reason x_acts x_candourAt p_row p_column p_down p_right p_cushions x_met x_reached x_firstWay x_queue x_queued x_fitting x_byCell x_wins x_ways)) (hdg : decode cc pc = .ok (.getfield 100, 3)) (kk : W p l e R s m args below meth c H locs cel slo Q (F0 m (pc + 3) ls (.int x_reason :: rest))) : W p l e R s m args below meth c H locs cel slo Q (F0 m pc ls (.ref (h 0) :: rest)) :=
  va_get (D := D) (ci := 0) (C := RX0) (T := TX0) (N := 18) hC.1.1 hC.1.2.1 hC.1.2.2.2.2 in_X0 hC.1.2.2.2.1 hC.2.1.1 hw.1 0 rfl rfl 5 (by decide) (hC.1.2.2.2.2 _ q143) (fun _ h9 => h9) rfl hdg kk
theorem gX0_this_candourAt (hC : Cx p m c cc nL s args RX0 D E A) (hw : Wo D A s.heap H locs (WX0 h E t_cells t_points t_fouls t_evening t_sights t_seenStep t_seenCell t_isKept t_touches t_cushions t_p_row t_p_column t_p_down t_p_right t_p_cushions n_cells n_points n_fouls n_evening n_sights n_seenStep n_seenCell n_isKept n_touches n_cushions n_p_row n_p_column n_p_down n_p_right n_p_cushions i_cells i_points i_fouls i_evening i_sights i_seenStep i_seenCell i_isKept i_touches i_cushions i_p_row i_p_column i_p_down i_p_right i_p_cushions j_cells j_points j_fouls j_evening j_sights j_seenStep j_seenCell j_isKept j_touches j_cushions j_p_row j_p_column j_p_down j_p_right j_p_cushions x_signs x_sign x_reason x_acts x_candourAt p_row p_column p_down p_right p_cushions x_met x_reached x_firstWay x_queue x_queued x_fitting x_byCell x_wins x_ways)) (hdg : decode cc pc = .ok (.getfield 123, 3)) (kk : W p l e R s m args below meth c H locs cel slo Q (F0 m (pc + 3) ls (.int x_candourAt :: rest))) : W p l e R s m args below meth c H locs cel slo Q (F0 m pc ls (.ref (h 0) :: rest)) :=
  va_get (D := D) (ci := 0) (C := RX0) (T := TX0) (N := 18) hC.1.1 hC.1.2.1 hC.1.2.2.2.2 in_X0 hC.1.2.2.2.1 hC.2.1.1 hw.1 0 rfl rfl 7 (by decide) (hC.1.2.2.2.2 _ q145) (fun _ h9 => h9) rfl hdg kk
theorem gX0_this_acts (hC : Cx p m c cc nL s args RX0 D E A) (hw : Wo D A s.heap H locs (WX0 h E t_cells t_points t_fouls t_evening t_sights t_seenStep t_seenCell t_isKept t_touches t_cushions t_p_row t_p_column t_p_down t_p_right t_p_cushions n_cells n_points n_fouls n_evening n_sights n_seenStep n_seenCell n_isKept n_touches n_cushions n_p_row n_p_column n_p_down n_p_right n_p_cushions i_cells i_points i_fouls i_evening i_sights i_seenStep i_seenCell i_isKept i_touches i_cushions i_p_row i_p_column i_p_down i_p_right i_p_cushions j_cells j_points j_fouls j_evening j_sights j_seenStep j_seenCell j_isKept j_touches j_cushions j_p_row j_p_column j_p_down j_p_right j_p_cushions x_signs x_sign x_reason x_acts x_candourAt p_row p_column p_down p_right p_cushions x_met x_reached x_firstWay x_queue x_queued x_fitting x_byCell x_wins x_ways)) (hdg : decode cc pc = .ok (.getfield 120, 3)) (kk : W p l e R s m args below meth c H locs cel slo Q (F0 m (pc + 3) ls (.int x_acts :: rest))) : W p l e R s m args below meth c H locs cel slo Q (F0 m pc ls (.ref (h 0) :: rest)) :=
  va_get (D := D) (ci := 0) (C := RX0) (T := TX0) (N := 18) hC.1.1 hC.1.2.1 hC.1.2.2.2.2 in_X0 hC.1.2.2.2.1 hC.2.1.1 hw.1 0 rfl rfl 6 (by decide) (hC.1.2.2.2.2 _ q144) (fun _ h9 => h9) rfl hdg kk
theorem gX0_n_touches (hC : Cx p m c cc nL s args RX0 D E A) (hw : Wo D A s.heap H locs (WX0 h E t_cells t_points t_fouls t_evening t_sights t_seenStep t_seenCell t_isKept t_touches t_cushions t_p_row t_p_column t_p_down t_p_right t_p_cushions n_cells n_points n_fouls n_evening n_sights n_seenStep n_seenCell n_isKept n_touches n_cushions n_p_row n_p_column n_p_down n_p_right n_p_cushions i_cells i_points i_fouls i_evening i_sights i_seenStep i_seenCell i_isKept i_touches i_cushions i_p_row i_p_column i_p_down i_p_right i_p_cushions j_cells j_points j_fouls j_evening j_sights j_seenStep j_seenCell j_isKept j_touches j_cushions j_p_row j_p_column j_p_down j_p_right j_p_cushions x_signs x_sign x_reason x_acts x_candourAt p_row p_column p_down p_right p_cushions x_met x_reached x_firstWay x_queue x_queued x_fitting x_byCell x_wins x_ways)) (hdg : decode cc pc = .ok (.getfield 132, 3)) (kk : W p l e R s m args below meth c H locs cel slo Q (F0 m (pc + 3) ls (.int n_touches :: rest))) : W p l e R s m args below meth c H locs cel slo Q (F0 m pc ls (.ref (h 6) :: rest)) :=
  va_getN (D := D) (ci := 1) (C := RX1) (T := TX1) (N := 11) hC.1.1 hC.1.2.1 hC.1.2.2.2.2 in_X1 hC.1.2.2.2.1 hC.2.1.1 hw.1 6 rfl rfl 8 (by decide) (va_Nw.use rfl (nq108 hC.2.1.2)) (fun _ h9 => h9) rfl hdg kk
theorem gX0_n_cells (hC : Cx p m c cc nL s args RX0 D E A) (hw : Wo D A s.heap H locs (WX0 h E t_cells t_points t_fouls t_evening t_sights t_seenStep t_seenCell t_isKept t_touches t_cushions t_p_row t_p_column t_p_down t_p_right t_p_cushions n_cells n_points n_fouls n_evening n_sights n_seenStep n_seenCell n_isKept n_touches n_cushions n_p_row n_p_column n_p_down n_p_right n_p_cushions i_cells i_points i_fouls i_evening i_sights i_seenStep i_seenCell i_isKept i_touches i_cushions i_p_row i_p_column i_p_down i_p_right i_p_cushions j_cells j_points j_fouls j_evening j_sights j_seenStep j_seenCell j_isKept j_touches j_cushions j_p_row j_p_column j_p_down j_p_right j_p_cushions x_signs x_sign x_reason x_acts x_candourAt p_row p_column p_down p_right p_cushions x_met x_reached x_firstWay x_queue x_queued x_fitting x_byCell x_wins x_ways)) (hdg : decode cc pc = .ok (.getfield 79, 3)) (kk : W p l e R s m args below meth c H locs cel slo Q (F0 m (pc + 3) ls (.ref (h 7) :: rest))) : W p l e R s m args below meth c H locs cel slo Q (F0 m pc ls (.ref (h 6) :: rest)) :=
  va_getN (D := D) (ci := 1) (C := RX1) (T := TX1) (N := 11) hC.1.1 hC.1.2.1 hC.1.2.2.2.2 in_X1 hC.1.2.2.2.1 hC.2.1.1 hw.1 6 rfl rfl 0 (by decide) (va_Nw.use rfl (nq93 hC.2.1.2)) (fun _ h9 => h9) rfl hdg kk
theorem aX0_n_cells {own : String} {i : Int32} (hC : Cx p m c cc nL s args own D E A) (hw : Wo D A s.heap H locs (WX0 h E t_cells t_points t_fouls t_evening t_sights t_seenStep t_seenCell t_isKept t_touches t_cushions t_p_row t_p_column t_p_down t_p_right t_p_cushions n_cells n_points n_fouls n_evening n_sights n_seenStep n_seenCell n_isKept n_touches n_cushions n_p_row n_p_column n_p_down n_p_right n_p_cushions i_cells i_points i_fouls i_evening i_sights i_seenStep i_seenCell i_isKept i_touches i_cushions i_p_row i_p_column i_p_down i_p_right i_p_cushions j_cells j_points j_fouls j_evening j_sights j_seenStep j_seenCell j_isKept j_touches j_cushions j_p_row j_p_column j_p_down j_p_right j_p_cushions x_signs x_sign x_reason x_acts x_candourAt p_row p_column p_down p_right p_cushions x_met x_reached x_firstWay x_queue x_queued x_fitting x_byCell x_wins x_ways)) (hi : bIn i 3) (hdg : decode cc pc = .ok (.iaload, 1)) (kk : W p l e R s m args below meth c H locs cel slo Q (F0 m (pc + 1) ls (.int (n_cells i.toNatClampNeg) :: rest))) : W p l e R s m args below meth c H locs cel slo Q (F0 m pc ls (.int i :: .ref (h 7) :: rest)) :=
  va_iald hC.1.1 hC.1.2.1 hC.2.1.1 hw.1 7 0 rfl rfl (bIn_in hi) hdg kk
theorem gX0_n_points (hC : Cx p m c cc nL s args RX0 D E A) (hw : Wo D A s.heap H locs (WX0 h E t_cells t_points t_fouls t_evening t_sights t_seenStep t_seenCell t_isKept t_touches t_cushions t_p_row t_p_column t_p_down t_p_right t_p_cushions n_cells n_points n_fouls n_evening n_sights n_seenStep n_seenCell n_isKept n_touches n_cushions n_p_row n_p_column n_p_down n_p_right n_p_cushions i_cells i_points i_fouls i_evening i_sights i_seenStep i_seenCell i_isKept i_touches i_cushions i_p_row i_p_column i_p_down i_p_right i_p_cushions j_cells j_points j_fouls j_evening j_sights j_seenStep j_seenCell j_isKept j_touches j_cushions j_p_row j_p_column j_p_down j_p_right j_p_cushions x_signs x_sign x_reason x_acts x_candourAt p_row p_column p_down p_right p_cushions x_met x_reached x_firstWay x_queue x_queued x_fitting x_byCell x_wins x_ways)) (hdg : decode cc pc = .ok (.getfield 82, 3)) (kk : W p l e R s m args below meth c H locs cel slo Q (F0 m (pc + 3) ls (.int n_points :: rest))) : W p l e R s m args below meth c H locs cel slo Q (F0 m pc ls (.ref (h 6) :: rest)) :=
  va_getN (D := D) (ci := 1) (C := RX1) (T := TX1) (N := 11) hC.1.1 hC.1.2.1 hC.1.2.2.2.2 in_X1 hC.1.2.2.2.1 hC.2.1.1 hw.1 6 rfl rfl 1 (by decide) (va_Nw.use rfl (nq95 hC.2.1.2)) (fun _ h9 => h9) rfl hdg kk
theorem gX0_n_evening (hC : Cx p m c cc nL s args RX0 D E A) (hw : Wo D A s.heap H locs (WX0 h E t_cells t_points t_fouls t_evening t_sights t_seenStep t_seenCell t_isKept t_touches t_cushions t_p_row t_p_column t_p_down t_p_right t_p_cushions n_cells n_points n_fouls n_evening n_sights n_seenStep n_seenCell n_isKept n_touches n_cushions n_p_row n_p_column n_p_down n_p_right n_p_cushions i_cells i_points i_fouls i_evening i_sights i_seenStep i_seenCell i_isKept i_touches i_cushions i_p_row i_p_column i_p_down i_p_right i_p_cushions j_cells j_points j_fouls j_evening j_sights j_seenStep j_seenCell j_isKept j_touches j_cushions j_p_row j_p_column j_p_down j_p_right j_p_cushions x_signs x_sign x_reason x_acts x_candourAt p_row p_column p_down p_right p_cushions x_met x_reached x_firstWay x_queue x_queued x_fitting x_byCell x_wins x_ways)) (hdg : decode cc pc = .ok (.getfield 141, 3)) (kk : W p l e R s m args below meth c H locs cel slo Q (F0 m (pc + 3) ls (.int n_evening :: rest))) : W p l e R s m args below meth c H locs cel slo Q (F0 m pc ls (.ref (h 6) :: rest)) :=
  va_getN (D := D) (ci := 1) (C := RX1) (T := TX1) (N := 11) hC.1.1 hC.1.2.1 hC.1.2.2.2.2 in_X1 hC.1.2.2.2.1 hC.2.1.1 hw.1 6 rfl rfl 3 (by decide) (va_Nw.use rfl (nq99 hC.2.1.2)) (fun _ h9 => h9) rfl hdg kk
theorem gX0_n_cushions (hC : Cx p m c cc nL s args RX0 D E A) (hw : Wo D A s.heap H locs (WX0 h E t_cells t_points t_fouls t_evening t_sights t_seenStep t_seenCell t_isKept t_touches t_cushions t_p_row t_p_column t_p_down t_p_right t_p_cushions n_cells n_points n_fouls n_evening n_sights n_seenStep n_seenCell n_isKept n_touches n_cushions n_p_row n_p_column n_p_down n_p_right n_p_cushions i_cells i_points i_fouls i_evening i_sights i_seenStep i_seenCell i_isKept i_touches i_cushions i_p_row i_p_column i_p_down i_p_right i_p_cushions j_cells j_points j_fouls j_evening j_sights j_seenStep j_seenCell j_isKept j_touches j_cushions j_p_row j_p_column j_p_down j_p_right j_p_cushions x_signs x_sign x_reason x_acts x_candourAt p_row p_column p_down p_right p_cushions x_met x_reached x_firstWay x_queue x_queued x_fitting x_byCell x_wins x_ways)) (hdg : decode cc pc = .ok (.getfield 144, 3)) (kk : W p l e R s m args below meth c H locs cel slo Q (F0 m (pc + 3) ls (.int n_cushions :: rest))) : W p l e R s m args below meth c H locs cel slo Q (F0 m pc ls (.ref (h 6) :: rest)) :=
  va_getN (D := D) (ci := 1) (C := RX1) (T := TX1) (N := 11) hC.1.1 hC.1.2.1 hC.1.2.2.2.2 in_X1 hC.1.2.2.2.1 hC.2.1.1 hw.1 6 rfl rfl 9 (by decide) (va_Nw.use rfl (nq110 hC.2.1.2)) (fun _ h9 => h9) rfl hdg kk
set_option maxHeartbeats 4000000 in
theorem ccX0_t_n {z_d_cells : Nat → Int32} {z_d_points : Int32} {z_d_fouls : Int32} {z_d_evening : Int32} {z_d_sights : Int32} {z_d_seenStep : Nat → Int32} {z_d_seenCell : Nat → Int32} {z_d_isKept : Int32} {z_d_touches : Int32} {z_d_cushions : Int32} {z_d_p_row : Int32} {z_d_p_column : Int32} {z_d_p_down : Int32} {z_d_p_right : Int32} {z_d_p_cushions : Int32} {z_s_cells : Nat → Int32} {z_s_points : Int32} {z_s_fouls : Int32} {z_s_evening : Int32} {z_s_sights : Int32} {z_s_seenStep : Nat → Int32} {z_s_seenCell : Nat → Int32} {z_s_isKept : Int32} {z_s_touches : Int32} {z_s_cushions : Int32} {z_s_p_row : Int32} {z_s_p_column : Int32} {z_s_p_down : Int32} {z_s_p_right : Int32} {z_s_p_cushions : Int32} (hC : Cx p m c cc nL s args RX0 D E A) (hsz : ls.size = nL) (hw : Wo D A s.heap H locs (WX0 h E t_cells t_points t_fouls t_evening t_sights t_seenStep t_seenCell t_isKept t_touches t_cushions t_p_row t_p_column t_p_down t_p_right t_p_cushions n_cells n_points n_fouls n_evening n_sights n_seenStep n_seenCell n_isKept n_touches n_cushions n_p_row n_p_column n_p_down n_p_right n_p_cushions i_cells i_points i_fouls i_evening i_sights i_seenStep i_seenCell i_isKept i_touches i_cushions i_p_row i_p_column i_p_down i_p_right i_p_cushions j_cells j_points j_fouls j_evening j_sights j_seenStep j_seenCell j_isKept j_touches j_cushions j_p_row j_p_column j_p_down j_p_right j_p_cushions x_signs x_sign x_reason x_acts x_candourAt p_row p_column p_down p_right p_cushions x_met x_reached x_firstWay x_queue x_queued x_fitting x_byCell x_wins x_ways)) (hM : CtV l yX1_copy cX1_copy 2 2 D E H.size [.ref (h 1), .ref (h 6)] (WC (h 1) (h 2) (h 3) (h 4) (h 5) (h 6) (h 7) (h 8) (h 9) (h 10) E t_cells t_points t_fouls t_evening t_sights t_seenStep t_seenCell t_isKept t_touches t_cushions t_p_row t_p_column t_p_down t_p_right t_p_cushions n_cells n_points n_fouls n_evening n_sights n_seenStep n_seenCell n_isKept n_touches n_cushions n_p_row n_p_column n_p_down n_p_right n_p_cushions) (WC (h 1) (h 2) (h 3) (h 4) (h 5) (h 6) (h 7) (h 8) (h 9) (h 10) E z_d_cells z_d_points z_d_fouls z_d_evening z_d_sights z_d_seenStep z_d_seenCell z_d_isKept z_d_touches z_d_cushions z_d_p_row z_d_p_column z_d_p_down z_d_p_right z_d_p_cushions z_s_cells z_s_points z_s_fouls z_s_evening z_s_sights z_s_seenStep z_s_seenCell z_s_isKept z_s_touches z_s_cushions z_s_p_row z_s_p_column z_s_p_down z_s_p_right z_s_p_cushions)) (hR : (rmN 2).frames + 1 ≤ R.frames ∧ 8 + (2 + 11) + (rmN 2).locals ≤ R.locals) (hrest : (rest.map fun v => v.category).sum ≤ 8) (hdg : decode cc pc = .ok (.invokevirtual 116, 3)) (hf : cel ≤ R.cells ∧ slo ≤ R.slots) (kk : ∀ (H1 : Heap) (locs1 : List Loc), Wo D A s.heap H1 locs1 (WX0 h E z_d_cells z_d_points z_d_fouls z_d_evening z_d_sights z_d_seenStep z_d_seenCell z_d_isKept z_d_touches z_d_cushions z_d_p_row z_d_p_column z_d_p_down z_d_p_right z_d_p_cushions z_s_cells z_s_points z_s_fouls z_s_evening z_s_sights z_s_seenStep z_s_seenCell z_s_isKept z_s_touches z_s_cushions z_s_p_row z_s_p_column z_s_p_down z_s_p_right z_s_p_cushions i_cells i_points i_fouls i_evening i_sights i_seenStep i_seenCell i_isKept i_touches i_cushions i_p_row i_p_column i_p_down i_p_right i_p_cushions j_cells j_points j_fouls j_evening j_sights j_seenStep j_seenCell j_isKept j_touches j_cushions j_p_row j_p_column j_p_down j_p_right j_p_cushions x_signs x_sign x_reason x_acts x_candourAt p_row p_column p_down p_right p_cushions x_met x_reached x_firstWay x_queue x_queued x_fitting x_byCell x_wins x_ways) → W p l e R s m args below meth c H1 locs1 cel slo Q (F0 m (pc + 3) ls rest)) : W p l e R s m args below meth c H locs cel slo Q (F0 m pc ls (.ref (h 6) :: .ref (h 1) :: rest)) := by
  have hPc := hw.1.sub (ws' := (WC (h 1) (h 2) (h 3) (h 4) (h 5) (h 6) (h 7) (h 8) (h 9) (h 10) E t_cells t_points t_fouls t_evening t_sights t_seenStep t_seenCell t_isKept t_touches t_cushions t_p_row t_p_column t_p_down t_p_right t_p_cushions n_cells n_points n_fouls n_evening n_sights n_seenStep n_seenCell n_isKept n_touches n_cushions n_p_row n_p_column n_p_down n_p_right n_p_cushions)) [1, 2, 3, 4, 5, 6, 7, 8, 9, 10] rfl
  have hDc := hw.2.1.sub (ws' := (WC (h 1) (h 2) (h 3) (h 4) (h 5) (h 6) (h 7) (h 8) (h 9) (h 10) E t_cells t_points t_fouls t_evening t_sights t_seenStep t_seenCell t_isKept t_touches t_cushions t_p_row t_p_column t_p_down t_p_right t_p_cushions n_cells n_points n_fouls n_evening n_sights n_seenStep n_seenCell n_isKept n_touches n_cushions n_p_row n_p_column n_p_down n_p_right n_p_cushions)) [1, 2, 3, 4, 5, 6, 7, 8, 9, 10] (by decide) rfl
  have hFc := va_free (wc := (WC (h 1) (h 2) (h 3) (h 4) (h 5) (h 6) (h 7) (h 8) (h 9) (h 10) E t_cells t_points t_fouls t_evening t_sights t_seenStep t_seenCell t_isKept t_touches t_cushions t_p_row t_p_column t_p_down t_p_right t_p_cushions n_cells n_points n_fouls n_evening n_sights n_seenStep n_seenCell n_isKept n_touches n_cushions n_p_row n_p_column n_p_down n_p_right n_p_cushions)) hw.2.1 hw.2.2 hC.2.2 [1, 2, 3, 4, 5, 6, 7, 8, 9, 10] rfl
  refine va_callv (va_runV (As := [.ref (h 6)]) (rest := rest) hC.1 hM (cwV 1 hC.1.2.2.2.2 (lw_V q247 mi_X1_copy.1 mi_X1_copy.2.1 mi_X1_copy.2.2.1 mi_X1_copy.2.2.2.1) rfl rfl rfl mi_X1_copy.2.2.2.2.1 hR) (preV (ci := 1) (q0 := 0) (r := (RX1, TX1, 11)) hC.2.1 hPc hDc rfl rfl) rfl rfl hsz rfl (lv_room hrest) hdg hf) hw.2.2 (fun q _ h => hFc q h) hFc (fun u t H1 locs1 ht hvm hp hB hz hk hS => ?_)
  have hP1 := hB.1
  rw [ht] at hP1
  obtain ⟨hP2, hD2⟩ := va_join (w1 := (WC (h 1) (h 2) (h 3) (h 4) (h 5) (h 6) (h 7) (h 8) (h 9) (h 10) E z_d_cells z_d_points z_d_fouls z_d_evening z_d_sights z_d_seenStep z_d_seenCell z_d_isKept z_d_touches z_d_cushions z_d_p_row z_d_p_column z_d_p_down z_d_p_right z_d_p_cushions z_s_cells z_s_points z_s_fouls z_s_evening z_s_sights z_s_seenStep z_s_seenCell z_s_isKept z_s_touches z_s_cushions z_s_p_row z_s_p_column z_s_p_down z_s_p_right z_s_p_cushions)) hw.1 hw.2.1 [1, 2, 3, 4, 5, 6, 7, 8, 9, 10] [0, 11, 12, 13, 14, 15, 16, 17, 18, 19, 20, 21, 22, 23, 24, 25, 26, 27, 28, 29, 30, 31] rfl (wr := [0, 11, 12, 13, 14, 15, 16, 17, 18, 19, 20, 21, 22, 23, 24, 25, 26, 27, 28, 29, 30, 31].filterMap (fun i => (WX0 h E t_cells t_points t_fouls t_evening t_sights t_seenStep t_seenCell t_isKept t_touches t_cushions t_p_row t_p_column t_p_down t_p_right t_p_cushions n_cells n_points n_fouls n_evening n_sights n_seenStep n_seenCell n_isKept n_touches n_cushions n_p_row n_p_column n_p_down n_p_right n_p_cushions i_cells i_points i_fouls i_evening i_sights i_seenStep i_seenCell i_isKept i_touches i_cushions i_p_row i_p_column i_p_down i_p_right i_p_cushions j_cells j_points j_fouls j_evening j_sights j_seenStep j_seenCell j_isKept j_touches j_cushions j_p_row j_p_column j_p_down j_p_right j_p_cushions x_signs x_sign x_reason x_acts x_candourAt p_row p_column p_down p_right p_cushions x_met x_reached x_firstWay x_queue x_queued x_fitting x_byCell x_wins x_ways)[i]?)) rfl (by decide) (by decide) hk hFc hP1 hB.2
  exact kk H1 locs1 ⟨hP2.sub [0, 22, 23, 24, 25, 26, 27, 28, 29, 30, 31, 1, 2, 3, 4, 5, 6, 7, 8, 9, 10, 11, 12, 13, 14, 15, 16, 17, 18, 19, 20, 21] rfl, hD2.sub [0, 22, 23, 24, 25, 26, 27, 28, 29, 30, 31, 1, 2, 3, 4, 5, 6, 7, 8, 9, 10, 11, 12, 13, 14, 15, 16, 17, 18, 19, 20, 21] (by decide) rfl, hS⟩
theorem gX0_this_path (hC : Cx p m c cc nL s args RX0 D E A) (hw : Wo D A s.heap H locs (WX0 h E t_cells t_points t_fouls t_evening t_sights t_seenStep t_seenCell t_isKept t_touches t_cushions t_p_row t_p_column t_p_down t_p_right t_p_cushions n_cells n_points n_fouls n_evening n_sights n_seenStep n_seenCell n_isKept n_touches n_cushions n_p_row n_p_column n_p_down n_p_right n_p_cushions i_cells i_points i_fouls i_evening i_sights i_seenStep i_seenCell i_isKept i_touches i_cushions i_p_row i_p_column i_p_down i_p_right i_p_cushions j_cells j_points j_fouls j_evening j_sights j_seenStep j_seenCell j_isKept j_touches j_cushions j_p_row j_p_column j_p_down j_p_right j_p_cushions x_signs x_sign x_reason x_acts x_candourAt p_row p_column p_down p_right p_cushions x_met x_reached x_firstWay x_queue x_queued x_fitting x_byCell x_wins x_ways)) (hdg : decode cc pc = .ok (.getfield 34, 3)) (kk : W p l e R s m args below meth c H locs cel slo Q (F0 m (pc + 3) ls (.ref (h 23) :: rest))) : W p l e R s m args below meth c H locs cel slo Q (F0 m pc ls (.ref (h 0) :: rest)) :=
  va_get (D := D) (ci := 0) (C := RX0) (T := TX0) (N := 18) hC.1.1 hC.1.2.1 hC.1.2.2.2.2 in_X0 hC.1.2.2.2.1 hC.2.1.1 hw.1 0 rfl rfl 8 (by decide) (hC.1.2.2.2.2 _ q146) (fun _ h9 => h9) rfl hdg kk
theorem subX0_p : (((WX0 h E t_cells t_points t_fouls t_evening t_sights t_seenStep t_seenCell t_isKept t_touches t_cushions t_p_row t_p_column t_p_down t_p_right t_p_cushions n_cells n_points n_fouls n_evening n_sights n_seenStep n_seenCell n_isKept n_touches n_cushions n_p_row n_p_column n_p_down n_p_right n_p_cushions i_cells i_points i_fouls i_evening i_sights i_seenStep i_seenCell i_isKept i_touches i_cushions i_p_row i_p_column i_p_down i_p_right i_p_cushions j_cells j_points j_fouls j_evening j_sights j_seenStep j_seenCell j_isKept j_touches j_cushions j_p_row j_p_column j_p_down j_p_right j_p_cushions x_signs x_sign x_reason x_acts x_candourAt p_row p_column p_down p_right p_cushions x_met x_reached x_firstWay x_queue x_queued x_fitting x_byCell x_wins x_ways)).drop 23).take 1 = (WX2 (h 23) E p_row p_column p_down p_right p_cushions) := rfl
theorem putX0_p {z_row : Int32} {z_column : Int32} {z_down : Int32} {z_right : Int32} {z_cushions : Int32} : ((WX0 h E t_cells t_points t_fouls t_evening t_sights t_seenStep t_seenCell t_isKept t_touches t_cushions t_p_row t_p_column t_p_down t_p_right t_p_cushions n_cells n_points n_fouls n_evening n_sights n_seenStep n_seenCell n_isKept n_touches n_cushions n_p_row n_p_column n_p_down n_p_right n_p_cushions i_cells i_points i_fouls i_evening i_sights i_seenStep i_seenCell i_isKept i_touches i_cushions i_p_row i_p_column i_p_down i_p_right i_p_cushions j_cells j_points j_fouls j_evening j_sights j_seenStep j_seenCell j_isKept j_touches j_cushions j_p_row j_p_column j_p_down j_p_right j_p_cushions x_signs x_sign x_reason x_acts x_candourAt p_row p_column p_down p_right p_cushions x_met x_reached x_firstWay x_queue x_queued x_fitting x_byCell x_wins x_ways)).take 23 ++ ((WX2 (h 23) E z_row z_column z_down z_right z_cushions) ++ ((WX0 h E t_cells t_points t_fouls t_evening t_sights t_seenStep t_seenCell t_isKept t_touches t_cushions t_p_row t_p_column t_p_down t_p_right t_p_cushions n_cells n_points n_fouls n_evening n_sights n_seenStep n_seenCell n_isKept n_touches n_cushions n_p_row n_p_column n_p_down n_p_right n_p_cushions i_cells i_points i_fouls i_evening i_sights i_seenStep i_seenCell i_isKept i_touches i_cushions i_p_row i_p_column i_p_down i_p_right i_p_cushions j_cells j_points j_fouls j_evening j_sights j_seenStep j_seenCell j_isKept j_touches j_cushions j_p_row j_p_column j_p_down j_p_right j_p_cushions x_signs x_sign x_reason x_acts x_candourAt p_row p_column p_down p_right p_cushions x_met x_reached x_firstWay x_queue x_queued x_fitting x_byCell x_wins x_ways)).drop (23 + 1)) = (WX0 h E t_cells t_points t_fouls t_evening t_sights t_seenStep t_seenCell t_isKept t_touches t_cushions t_p_row t_p_column t_p_down t_p_right t_p_cushions n_cells n_points n_fouls n_evening n_sights n_seenStep n_seenCell n_isKept n_touches n_cushions n_p_row n_p_column n_p_down n_p_right n_p_cushions i_cells i_points i_fouls i_evening i_sights i_seenStep i_seenCell i_isKept i_touches i_cushions i_p_row i_p_column i_p_down i_p_right i_p_cushions j_cells j_points j_fouls j_evening j_sights j_seenStep j_seenCell j_isKept j_touches j_cushions j_p_row j_p_column j_p_down j_p_right j_p_cushions x_signs x_sign x_reason x_acts x_candourAt z_row z_column z_down z_right z_cushions x_met x_reached x_firstWay x_queue x_queued x_fitting x_byCell x_wins x_ways) := rfl
theorem gX0_p_cushions (hC : Cx p m c cc nL s args RX0 D E A) (hw : Wo D A s.heap H locs (WX0 h E t_cells t_points t_fouls t_evening t_sights t_seenStep t_seenCell t_isKept t_touches t_cushions t_p_row t_p_column t_p_down t_p_right t_p_cushions n_cells n_points n_fouls n_evening n_sights n_seenStep n_seenCell n_isKept n_touches n_cushions n_p_row n_p_column n_p_down n_p_right n_p_cushions i_cells i_points i_fouls i_evening i_sights i_seenStep i_seenCell i_isKept i_touches i_cushions i_p_row i_p_column i_p_down i_p_right i_p_cushions j_cells j_points j_fouls j_evening j_sights j_seenStep j_seenCell j_isKept j_touches j_cushions j_p_row j_p_column j_p_down j_p_right j_p_cushions x_signs x_sign x_reason x_acts x_candourAt p_row p_column p_down p_right p_cushions x_met x_reached x_firstWay x_queue x_queued x_fitting x_byCell x_wins x_ways)) (hdg : decode cc pc = .ok (.getfield 154, 3)) (kk : W p l e R s m args below meth c H locs cel slo Q (F0 m (pc + 3) ls (.int p_cushions :: rest))) : W p l e R s m args below meth c H locs cel slo Q (F0 m pc ls (.ref (h 23) :: rest)) :=
  va_getN (D := D) (ci := 2) (C := RX2) (T := TX2) (N := 5) hC.1.1 hC.1.2.1 hC.1.2.2.2.2 in_X2 hC.1.2.2.2.1 hC.2.1.1 hw.1 23 rfl rfl 4 (by decide) (va_Nw.use rfl (nq76 hC.2.1.2)) (fun _ h9 => h9) rfl hdg kk
theorem gX0_this_met (hC : Cx p m c cc nL s args RX0 D E A) (hw : Wo D A s.heap H locs (WX0 h E t_cells t_points t_fouls t_evening t_sights t_seenStep t_seenCell t_isKept t_touches t_cushions t_p_row t_p_column t_p_down t_p_right t_p_cushions n_cells n_points n_fouls n_evening n_sights n_seenStep n_seenCell n_isKept n_touches n_cushions n_p_row n_p_column n_p_down n_p_right n_p_cushions i_cells i_points i_fouls i_evening i_sights i_seenStep i_seenCell i_isKept i_touches i_cushions i_p_row i_p_column i_p_down i_p_right i_p_cushions j_cells j_points j_fouls j_evening j_sights j_seenStep j_seenCell j_isKept j_touches j_cushions j_p_row j_p_column j_p_down j_p_right j_p_cushions x_signs x_sign x_reason x_acts x_candourAt p_row p_column p_down p_right p_cushions x_met x_reached x_firstWay x_queue x_queued x_fitting x_byCell x_wins x_ways)) (hdg : decode cc pc = .ok (.getfield 38, 3)) (kk : W p l e R s m args below meth c H locs cel slo Q (F0 m (pc + 3) ls (.ref (h 24) :: rest))) : W p l e R s m args below meth c H locs cel slo Q (F0 m pc ls (.ref (h 0) :: rest)) :=
  va_get (D := D) (ci := 0) (C := RX0) (T := TX0) (N := 18) hC.1.1 hC.1.2.1 hC.1.2.2.2.2 in_X0 hC.1.2.2.2.1 hC.2.1.1 hw.1 0 rfl rfl 9 (by decide) (hC.1.2.2.2.2 _ q147) (fun _ h9 => h9) rfl hdg kk
theorem subX0_x_met : (((WX0 h E t_cells t_points t_fouls t_evening t_sights t_seenStep t_seenCell t_isKept t_touches t_cushions t_p_row t_p_column t_p_down t_p_right t_p_cushions n_cells n_points n_fouls n_evening n_sights n_seenStep n_seenCell n_isKept n_touches n_cushions n_p_row n_p_column n_p_down n_p_right n_p_cushions i_cells i_points i_fouls i_evening i_sights i_seenStep i_seenCell i_isKept i_touches i_cushions i_p_row i_p_column i_p_down i_p_right i_p_cushions j_cells j_points j_fouls j_evening j_sights j_seenStep j_seenCell j_isKept j_touches j_cushions j_p_row j_p_column j_p_down j_p_right j_p_cushions x_signs x_sign x_reason x_acts x_candourAt p_row p_column p_down p_right p_cushions x_met x_reached x_firstWay x_queue x_queued x_fitting x_byCell x_wins x_ways)).drop 24).take 1 = (WAz45 (h 24) E x_met) := rfl
theorem putX0_x_met {z_arr : Nat → Int32} : ((WX0 h E t_cells t_points t_fouls t_evening t_sights t_seenStep t_seenCell t_isKept t_touches t_cushions t_p_row t_p_column t_p_down t_p_right t_p_cushions n_cells n_points n_fouls n_evening n_sights n_seenStep n_seenCell n_isKept n_touches n_cushions n_p_row n_p_column n_p_down n_p_right n_p_cushions i_cells i_points i_fouls i_evening i_sights i_seenStep i_seenCell i_isKept i_touches i_cushions i_p_row i_p_column i_p_down i_p_right i_p_cushions j_cells j_points j_fouls j_evening j_sights j_seenStep j_seenCell j_isKept j_touches j_cushions j_p_row j_p_column j_p_down j_p_right j_p_cushions x_signs x_sign x_reason x_acts x_candourAt p_row p_column p_down p_right p_cushions x_met x_reached x_firstWay x_queue x_queued x_fitting x_byCell x_wins x_ways)).take 24 ++ ((WAz45 (h 24) E z_arr) ++ ((WX0 h E t_cells t_points t_fouls t_evening t_sights t_seenStep t_seenCell t_isKept t_touches t_cushions t_p_row t_p_column t_p_down t_p_right t_p_cushions n_cells n_points n_fouls n_evening n_sights n_seenStep n_seenCell n_isKept n_touches n_cushions n_p_row n_p_column n_p_down n_p_right n_p_cushions i_cells i_points i_fouls i_evening i_sights i_seenStep i_seenCell i_isKept i_touches i_cushions i_p_row i_p_column i_p_down i_p_right i_p_cushions j_cells j_points j_fouls j_evening j_sights j_seenStep j_seenCell j_isKept j_touches j_cushions j_p_row j_p_column j_p_down j_p_right j_p_cushions x_signs x_sign x_reason x_acts x_candourAt p_row p_column p_down p_right p_cushions x_met x_reached x_firstWay x_queue x_queued x_fitting x_byCell x_wins x_ways)).drop (24 + 1)) = (WX0 h E t_cells t_points t_fouls t_evening t_sights t_seenStep t_seenCell t_isKept t_touches t_cushions t_p_row t_p_column t_p_down t_p_right t_p_cushions n_cells n_points n_fouls n_evening n_sights n_seenStep n_seenCell n_isKept n_touches n_cushions n_p_row n_p_column n_p_down n_p_right n_p_cushions i_cells i_points i_fouls i_evening i_sights i_seenStep i_seenCell i_isKept i_touches i_cushions i_p_row i_p_column i_p_down i_p_right i_p_cushions j_cells j_points j_fouls j_evening j_sights j_seenStep j_seenCell j_isKept j_touches j_cushions j_p_row j_p_column j_p_down j_p_right j_p_cushions x_signs x_sign x_reason x_acts x_candourAt p_row p_column p_down p_right p_cushions z_arr x_reached x_firstWay x_queue x_queued x_fitting x_byCell x_wins x_ways) := rfl
theorem aX0_x_met {own : String} {i : Int32} (hC : Cx p m c cc nL s args own D E A) (hw : Wo D A s.heap H locs (WX0 h E t_cells t_points t_fouls t_evening t_sights t_seenStep t_seenCell t_isKept t_touches t_cushions t_p_row t_p_column t_p_down t_p_right t_p_cushions n_cells n_points n_fouls n_evening n_sights n_seenStep n_seenCell n_isKept n_touches n_cushions n_p_row n_p_column n_p_down n_p_right n_p_cushions i_cells i_points i_fouls i_evening i_sights i_seenStep i_seenCell i_isKept i_touches i_cushions i_p_row i_p_column i_p_down i_p_right i_p_cushions j_cells j_points j_fouls j_evening j_sights j_seenStep j_seenCell j_isKept j_touches j_cushions j_p_row j_p_column j_p_down j_p_right j_p_cushions x_signs x_sign x_reason x_acts x_candourAt p_row p_column p_down p_right p_cushions x_met x_reached x_firstWay x_queue x_queued x_fitting x_byCell x_wins x_ways)) (hi : bIn i 45) (hdg : decode cc pc = .ok (.baload, 1)) (kk : W p l e R s m args below meth c H locs cel slo Q (F0 m (pc + 1) ls (.int (x_met i.toNatClampNeg) :: rest))) : W p l e R s m args below meth c H locs cel slo Q (F0 m pc ls (.int i :: .ref (h 24) :: rest)) :=
  va_zald hC.1.1 hC.1.2.1 hC.2.1.1 hw.1 24 1 rfl rfl (bIn_in hi) hdg kk
theorem sX0_x_met {own : String} {i : Int32} {x : Int32} (hC : Cx p m c cc nL s args own D E A) (hw : Wo D A s.heap H locs (WX0 h E t_cells t_points t_fouls t_evening t_sights t_seenStep t_seenCell t_isKept t_touches t_cushions t_p_row t_p_column t_p_down t_p_right t_p_cushions n_cells n_points n_fouls n_evening n_sights n_seenStep n_seenCell n_isKept n_touches n_cushions n_p_row n_p_column n_p_down n_p_right n_p_cushions i_cells i_points i_fouls i_evening i_sights i_seenStep i_seenCell i_isKept i_touches i_cushions i_p_row i_p_column i_p_down i_p_right i_p_cushions j_cells j_points j_fouls j_evening j_sights j_seenStep j_seenCell j_isKept j_touches j_cushions j_p_row j_p_column j_p_down j_p_right j_p_cushions x_signs x_sign x_reason x_acts x_candourAt p_row p_column p_down p_right p_cushions x_met x_reached x_firstWay x_queue x_queued x_fitting x_byCell x_wins x_ways)) (hi : bIn i 45) (hdg : decode cc pc = .ok (.bastore, 1)) (kk : ∀ (H1 : Heap) (locs1 : List Loc), Wo D A s.heap H1 locs1 (WX0 h E t_cells t_points t_fouls t_evening t_sights t_seenStep t_seenCell t_isKept t_touches t_cushions t_p_row t_p_column t_p_down t_p_right t_p_cushions n_cells n_points n_fouls n_evening n_sights n_seenStep n_seenCell n_isKept n_touches n_cushions n_p_row n_p_column n_p_down n_p_right n_p_cushions i_cells i_points i_fouls i_evening i_sights i_seenStep i_seenCell i_isKept i_touches i_cushions i_p_row i_p_column i_p_down i_p_right i_p_cushions j_cells j_points j_fouls j_evening j_sights j_seenStep j_seenCell j_isKept j_touches j_cushions j_p_row j_p_column j_p_down j_p_right j_p_cushions x_signs x_sign x_reason x_acts x_candourAt p_row p_column p_down p_right p_cushions (upd x_met i.toNatClampNeg (vp_nar .boolean x)) x_reached x_firstWay x_queue x_queued x_fitting x_byCell x_wins x_ways) → W p l e R s m args below meth c H1 locs1 cel slo Q (F0 m (pc + 1) ls rest)) : W p l e R s m args below meth c H locs cel slo Q (F0 m pc ls (.int x :: .int i :: .ref (h 24) :: rest)) :=
  va_zast hC.1.1 hC.1.2.1 hC.2.1.1 hw.1 hw.2.1 hw.2.2 24 1 rfl rfl (bIn_in hi) hdg (fun H1 l1 a b c => kk H1 l1 ⟨a, b, c⟩)
theorem gX0_this_reached (hC : Cx p m c cc nL s args RX0 D E A) (hw : Wo D A s.heap H locs (WX0 h E t_cells t_points t_fouls t_evening t_sights t_seenStep t_seenCell t_isKept t_touches t_cushions t_p_row t_p_column t_p_down t_p_right t_p_cushions n_cells n_points n_fouls n_evening n_sights n_seenStep n_seenCell n_isKept n_touches n_cushions n_p_row n_p_column n_p_down n_p_right n_p_cushions i_cells i_points i_fouls i_evening i_sights i_seenStep i_seenCell i_isKept i_touches i_cushions i_p_row i_p_column i_p_down i_p_right i_p_cushions j_cells j_points j_fouls j_evening j_sights j_seenStep j_seenCell j_isKept j_touches j_cushions j_p_row j_p_column j_p_down j_p_right j_p_cushions x_signs x_sign x_reason x_acts x_candourAt p_row p_column p_down p_right p_cushions x_met x_reached x_firstWay x_queue x_queued x_fitting x_byCell x_wins x_ways)) (hdg : decode cc pc = .ok (.getfield 42, 3)) (kk : W p l e R s m args below meth c H locs cel slo Q (F0 m (pc + 3) ls (.ref (h 25) :: rest))) : W p l e R s m args below meth c H locs cel slo Q (F0 m pc ls (.ref (h 0) :: rest)) :=
  va_get (D := D) (ci := 0) (C := RX0) (T := TX0) (N := 18) hC.1.1 hC.1.2.1 hC.1.2.2.2.2 in_X0 hC.1.2.2.2.1 hC.2.1.1 hw.1 0 rfl rfl 10 (by decide) (hC.1.2.2.2.2 _ q148) (fun _ h9 => h9) rfl hdg kk
theorem aX0_x_reached {own : String} {i : Int32} (hC : Cx p m c cc nL s args own D E A) (hw : Wo D A s.heap H locs (WX0 h E t_cells t_points t_fouls t_evening t_sights t_seenStep t_seenCell t_isKept t_touches t_cushions t_p_row t_p_column t_p_down t_p_right t_p_cushions n_cells n_points n_fouls n_evening n_sights n_seenStep n_seenCell n_isKept n_touches n_cushions n_p_row n_p_column n_p_down n_p_right n_p_cushions i_cells i_points i_fouls i_evening i_sights i_seenStep i_seenCell i_isKept i_touches i_cushions i_p_row i_p_column i_p_down i_p_right i_p_cushions j_cells j_points j_fouls j_evening j_sights j_seenStep j_seenCell j_isKept j_touches j_cushions j_p_row j_p_column j_p_down j_p_right j_p_cushions x_signs x_sign x_reason x_acts x_candourAt p_row p_column p_down p_right p_cushions x_met x_reached x_firstWay x_queue x_queued x_fitting x_byCell x_wins x_ways)) (hi : bIn i 45) (hdg : decode cc pc = .ok (.iaload, 1)) (kk : W p l e R s m args below meth c H locs cel slo Q (F0 m (pc + 1) ls (.int (x_reached i.toNatClampNeg) :: rest))) : W p l e R s m args below meth c H locs cel slo Q (F0 m pc ls (.int i :: .ref (h 25) :: rest)) :=
  va_iald hC.1.1 hC.1.2.1 hC.2.1.1 hw.1 25 0 rfl rfl (bIn_in hi) hdg kk
theorem sX0_x_reached {own : String} {i : Int32} {x : Int32} (hC : Cx p m c cc nL s args own D E A) (hw : Wo D A s.heap H locs (WX0 h E t_cells t_points t_fouls t_evening t_sights t_seenStep t_seenCell t_isKept t_touches t_cushions t_p_row t_p_column t_p_down t_p_right t_p_cushions n_cells n_points n_fouls n_evening n_sights n_seenStep n_seenCell n_isKept n_touches n_cushions n_p_row n_p_column n_p_down n_p_right n_p_cushions i_cells i_points i_fouls i_evening i_sights i_seenStep i_seenCell i_isKept i_touches i_cushions i_p_row i_p_column i_p_down i_p_right i_p_cushions j_cells j_points j_fouls j_evening j_sights j_seenStep j_seenCell j_isKept j_touches j_cushions j_p_row j_p_column j_p_down j_p_right j_p_cushions x_signs x_sign x_reason x_acts x_candourAt p_row p_column p_down p_right p_cushions x_met x_reached x_firstWay x_queue x_queued x_fitting x_byCell x_wins x_ways)) (hi : bIn i 45) (hdg : decode cc pc = .ok (.iastore, 1)) (kk : ∀ (H1 : Heap) (locs1 : List Loc), Wo D A s.heap H1 locs1 (WX0 h E t_cells t_points t_fouls t_evening t_sights t_seenStep t_seenCell t_isKept t_touches t_cushions t_p_row t_p_column t_p_down t_p_right t_p_cushions n_cells n_points n_fouls n_evening n_sights n_seenStep n_seenCell n_isKept n_touches n_cushions n_p_row n_p_column n_p_down n_p_right n_p_cushions i_cells i_points i_fouls i_evening i_sights i_seenStep i_seenCell i_isKept i_touches i_cushions i_p_row i_p_column i_p_down i_p_right i_p_cushions j_cells j_points j_fouls j_evening j_sights j_seenStep j_seenCell j_isKept j_touches j_cushions j_p_row j_p_column j_p_down j_p_right j_p_cushions x_signs x_sign x_reason x_acts x_candourAt p_row p_column p_down p_right p_cushions x_met (upd x_reached i.toNatClampNeg x) x_firstWay x_queue x_queued x_fitting x_byCell x_wins x_ways) → W p l e R s m args below meth c H1 locs1 cel slo Q (F0 m (pc + 1) ls rest)) : W p l e R s m args below meth c H locs cel slo Q (F0 m pc ls (.int x :: .int i :: .ref (h 25) :: rest)) :=
  va_iast hC.1.1 hC.1.2.1 hC.2.1.1 hw.1 hw.2.1 hw.2.2 25 0 rfl rfl (bIn_in hi) hdg (fun H1 l1 a b c => kk H1 l1 ⟨a, b, c⟩)
theorem gX0_this_firstWay (hC : Cx p m c cc nL s args RX0 D E A) (hw : Wo D A s.heap H locs (WX0 h E t_cells t_points t_fouls t_evening t_sights t_seenStep t_seenCell t_isKept t_touches t_cushions t_p_row t_p_column t_p_down t_p_right t_p_cushions n_cells n_points n_fouls n_evening n_sights n_seenStep n_seenCell n_isKept n_touches n_cushions n_p_row n_p_column n_p_down n_p_right n_p_cushions i_cells i_points i_fouls i_evening i_sights i_seenStep i_seenCell i_isKept i_touches i_cushions i_p_row i_p_column i_p_down i_p_right i_p_cushions j_cells j_points j_fouls j_evening j_sights j_seenStep j_seenCell j_isKept j_touches j_cushions j_p_row j_p_column j_p_down j_p_right j_p_cushions x_signs x_sign x_reason x_acts x_candourAt p_row p_column p_down p_right p_cushions x_met x_reached x_firstWay x_queue x_queued x_fitting x_byCell x_wins x_ways)) (hdg : decode cc pc = .ok (.getfield 46, 3)) (kk : W p l e R s m args below meth c H locs cel slo Q (F0 m (pc + 3) ls (.ref (h 26) :: rest))) : W p l e R s m args below meth c H locs cel slo Q (F0 m pc ls (.ref (h 0) :: rest)) :=
  va_get (D := D) (ci := 0) (C := RX0) (T := TX0) (N := 18) hC.1.1 hC.1.2.1 hC.1.2.2.2.2 in_X0 hC.1.2.2.2.1 hC.2.1.1 hw.1 0 rfl rfl 11 (by decide) (hC.1.2.2.2.2 _ q149) (fun _ h9 => h9) rfl hdg kk
theorem aX0_x_firstWay {own : String} {i : Int32} (hC : Cx p m c cc nL s args own D E A) (hw : Wo D A s.heap H locs (WX0 h E t_cells t_points t_fouls t_evening t_sights t_seenStep t_seenCell t_isKept t_touches t_cushions t_p_row t_p_column t_p_down t_p_right t_p_cushions n_cells n_points n_fouls n_evening n_sights n_seenStep n_seenCell n_isKept n_touches n_cushions n_p_row n_p_column n_p_down n_p_right n_p_cushions i_cells i_points i_fouls i_evening i_sights i_seenStep i_seenCell i_isKept i_touches i_cushions i_p_row i_p_column i_p_down i_p_right i_p_cushions j_cells j_points j_fouls j_evening j_sights j_seenStep j_seenCell j_isKept j_touches j_cushions j_p_row j_p_column j_p_down j_p_right j_p_cushions x_signs x_sign x_reason x_acts x_candourAt p_row p_column p_down p_right p_cushions x_met x_reached x_firstWay x_queue x_queued x_fitting x_byCell x_wins x_ways)) (hi : bIn i 45) (hdg : decode cc pc = .ok (.iaload, 1)) (kk : W p l e R s m args below meth c H locs cel slo Q (F0 m (pc + 1) ls (.int (x_firstWay i.toNatClampNeg) :: rest))) : W p l e R s m args below meth c H locs cel slo Q (F0 m pc ls (.int i :: .ref (h 26) :: rest)) :=
  va_iald hC.1.1 hC.1.2.1 hC.2.1.1 hw.1 26 0 rfl rfl (bIn_in hi) hdg kk
theorem sX0_x_firstWay {own : String} {i : Int32} {x : Int32} (hC : Cx p m c cc nL s args own D E A) (hw : Wo D A s.heap H locs (WX0 h E t_cells t_points t_fouls t_evening t_sights t_seenStep t_seenCell t_isKept t_touches t_cushions t_p_row t_p_column t_p_down t_p_right t_p_cushions n_cells n_points n_fouls n_evening n_sights n_seenStep n_seenCell n_isKept n_touches n_cushions n_p_row n_p_column n_p_down n_p_right n_p_cushions i_cells i_points i_fouls i_evening i_sights i_seenStep i_seenCell i_isKept i_touches i_cushions i_p_row i_p_column i_p_down i_p_right i_p_cushions j_cells j_points j_fouls j_evening j_sights j_seenStep j_seenCell j_isKept j_touches j_cushions j_p_row j_p_column j_p_down j_p_right j_p_cushions x_signs x_sign x_reason x_acts x_candourAt p_row p_column p_down p_right p_cushions x_met x_reached x_firstWay x_queue x_queued x_fitting x_byCell x_wins x_ways)) (hi : bIn i 45) (hdg : decode cc pc = .ok (.iastore, 1)) (kk : ∀ (H1 : Heap) (locs1 : List Loc), Wo D A s.heap H1 locs1 (WX0 h E t_cells t_points t_fouls t_evening t_sights t_seenStep t_seenCell t_isKept t_touches t_cushions t_p_row t_p_column t_p_down t_p_right t_p_cushions n_cells n_points n_fouls n_evening n_sights n_seenStep n_seenCell n_isKept n_touches n_cushions n_p_row n_p_column n_p_down n_p_right n_p_cushions i_cells i_points i_fouls i_evening i_sights i_seenStep i_seenCell i_isKept i_touches i_cushions i_p_row i_p_column i_p_down i_p_right i_p_cushions j_cells j_points j_fouls j_evening j_sights j_seenStep j_seenCell j_isKept j_touches j_cushions j_p_row j_p_column j_p_down j_p_right j_p_cushions x_signs x_sign x_reason x_acts x_candourAt p_row p_column p_down p_right p_cushions x_met x_reached (upd x_firstWay i.toNatClampNeg x) x_queue x_queued x_fitting x_byCell x_wins x_ways) → W p l e R s m args below meth c H1 locs1 cel slo Q (F0 m (pc + 1) ls rest)) : W p l e R s m args below meth c H locs cel slo Q (F0 m pc ls (.int x :: .int i :: .ref (h 26) :: rest)) :=
  va_iast hC.1.1 hC.1.2.1 hC.2.1.1 hw.1 hw.2.1 hw.2.2 26 0 rfl rfl (bIn_in hi) hdg (fun H1 l1 a b c => kk H1 l1 ⟨a, b, c⟩)
theorem gX0_this_queue (hC : Cx p m c cc nL s args RX0 D E A) (hw : Wo D A s.heap H locs (WX0 h E t_cells t_points t_fouls t_evening t_sights t_seenStep t_seenCell t_isKept t_touches t_cushions t_p_row t_p_column t_p_down t_p_right t_p_cushions n_cells n_points n_fouls n_evening n_sights n_seenStep n_seenCell n_isKept n_touches n_cushions n_p_row n_p_column n_p_down n_p_right n_p_cushions i_cells i_points i_fouls i_evening i_sights i_seenStep i_seenCell i_isKept i_touches i_cushions i_p_row i_p_column i_p_down i_p_right i_p_cushions j_cells j_points j_fouls j_evening j_sights j_seenStep j_seenCell j_isKept j_touches j_cushions j_p_row j_p_column j_p_down j_p_right j_p_cushions x_signs x_sign x_reason x_acts x_candourAt p_row p_column p_down p_right p_cushions x_met x_reached x_firstWay x_queue x_queued x_fitting x_byCell x_wins x_ways)) (hdg : decode cc pc = .ok (.getfield 49, 3)) (kk : W p l e R s m args below meth c H locs cel slo Q (F0 m (pc + 3) ls (.ref (h 27) :: rest))) : W p l e R s m args below meth c H locs cel slo Q (F0 m pc ls (.ref (h 0) :: rest)) :=
  va_get (D := D) (ci := 0) (C := RX0) (T := TX0) (N := 18) hC.1.1 hC.1.2.1 hC.1.2.2.2.2 in_X0 hC.1.2.2.2.1 hC.2.1.1 hw.1 0 rfl rfl 12 (by decide) (hC.1.2.2.2.2 _ q150) (fun _ h9 => h9) rfl hdg kk
theorem gX0_this_queued (hC : Cx p m c cc nL s args RX0 D E A) (hw : Wo D A s.heap H locs (WX0 h E t_cells t_points t_fouls t_evening t_sights t_seenStep t_seenCell t_isKept t_touches t_cushions t_p_row t_p_column t_p_down t_p_right t_p_cushions n_cells n_points n_fouls n_evening n_sights n_seenStep n_seenCell n_isKept n_touches n_cushions n_p_row n_p_column n_p_down n_p_right n_p_cushions i_cells i_points i_fouls i_evening i_sights i_seenStep i_seenCell i_isKept i_touches i_cushions i_p_row i_p_column i_p_down i_p_right i_p_cushions j_cells j_points j_fouls j_evening j_sights j_seenStep j_seenCell j_isKept j_touches j_cushions j_p_row j_p_column j_p_down j_p_right j_p_cushions x_signs x_sign x_reason x_acts x_candourAt p_row p_column p_down p_right p_cushions x_met x_reached x_firstWay x_queue x_queued x_fitting x_byCell x_wins x_ways)) (hdg : decode cc pc = .ok (.getfield 193, 3)) (kk : W p l e R s m args below meth c H locs cel slo Q (F0 m (pc + 3) ls (.int x_queued :: rest))) : W p l e R s m args below meth c H locs cel slo Q (F0 m pc ls (.ref (h 0) :: rest)) :=
  va_get (D := D) (ci := 0) (C := RX0) (T := TX0) (N := 18) hC.1.1 hC.1.2.1 hC.1.2.2.2.2 in_X0 hC.1.2.2.2.1 hC.2.1.1 hw.1 0 rfl rfl 13 (by decide) (hC.1.2.2.2.2 _ q151) (fun _ h9 => h9) rfl hdg kk
theorem sX0_x_queue {own : String} {i : Int32} {x : Int32} (hC : Cx p m c cc nL s args own D E A) (hw : Wo D A s.heap H locs (WX0 h E t_cells t_points t_fouls t_evening t_sights t_seenStep t_seenCell t_isKept t_touches t_cushions t_p_row t_p_column t_p_down t_p_right t_p_cushions n_cells n_points n_fouls n_evening n_sights n_seenStep n_seenCell n_isKept n_touches n_cushions n_p_row n_p_column n_p_down n_p_right n_p_cushions i_cells i_points i_fouls i_evening i_sights i_seenStep i_seenCell i_isKept i_touches i_cushions i_p_row i_p_column i_p_down i_p_right i_p_cushions j_cells j_points j_fouls j_evening j_sights j_seenStep j_seenCell j_isKept j_touches j_cushions j_p_row j_p_column j_p_down j_p_right j_p_cushions x_signs x_sign x_reason x_acts x_candourAt p_row p_column p_down p_right p_cushions x_met x_reached x_firstWay x_queue x_queued x_fitting x_byCell x_wins x_ways)) (hi : bIn i 45) (hdg : decode cc pc = .ok (.iastore, 1)) (kk : ∀ (H1 : Heap) (locs1 : List Loc), Wo D A s.heap H1 locs1 (WX0 h E t_cells t_points t_fouls t_evening t_sights t_seenStep t_seenCell t_isKept t_touches t_cushions t_p_row t_p_column t_p_down t_p_right t_p_cushions n_cells n_points n_fouls n_evening n_sights n_seenStep n_seenCell n_isKept n_touches n_cushions n_p_row n_p_column n_p_down n_p_right n_p_cushions i_cells i_points i_fouls i_evening i_sights i_seenStep i_seenCell i_isKept i_touches i_cushions i_p_row i_p_column i_p_down i_p_right i_p_cushions j_cells j_points j_fouls j_evening j_sights j_seenStep j_seenCell j_isKept j_touches j_cushions j_p_row j_p_column j_p_down j_p_right j_p_cushions x_signs x_sign x_reason x_acts x_candourAt p_row p_column p_down p_right p_cushions x_met x_reached x_firstWay (upd x_queue i.toNatClampNeg x) x_queued x_fitting x_byCell x_wins x_ways) → W p l e R s m args below meth c H1 locs1 cel slo Q (F0 m (pc + 1) ls rest)) : W p l e R s m args below meth c H locs cel slo Q (F0 m pc ls (.int x :: .int i :: .ref (h 27) :: rest)) :=
  va_iast hC.1.1 hC.1.2.1 hC.2.1.1 hw.1 hw.2.1 hw.2.2 27 0 rfl rfl (bIn_in hi) hdg (fun H1 l1 a b c => kk H1 l1 ⟨a, b, c⟩)
theorem pX0_this_queued {v : Int32} (hC : Cx p m c cc nL s args RX0 D E A) (hw : Wo D A s.heap H locs (WX0 h E t_cells t_points t_fouls t_evening t_sights t_seenStep t_seenCell t_isKept t_touches t_cushions t_p_row t_p_column t_p_down t_p_right t_p_cushions n_cells n_points n_fouls n_evening n_sights n_seenStep n_seenCell n_isKept n_touches n_cushions n_p_row n_p_column n_p_down n_p_right n_p_cushions i_cells i_points i_fouls i_evening i_sights i_seenStep i_seenCell i_isKept i_touches i_cushions i_p_row i_p_column i_p_down i_p_right i_p_cushions j_cells j_points j_fouls j_evening j_sights j_seenStep j_seenCell j_isKept j_touches j_cushions j_p_row j_p_column j_p_down j_p_right j_p_cushions x_signs x_sign x_reason x_acts x_candourAt p_row p_column p_down p_right p_cushions x_met x_reached x_firstWay x_queue x_queued x_fitting x_byCell x_wins x_ways)) (hdg : decode cc pc = .ok (.putfield 193, 3)) (kk : ∀ (H1 : Heap) (locs1 : List Loc), Wo D A s.heap H1 locs1 (WX0 h E t_cells t_points t_fouls t_evening t_sights t_seenStep t_seenCell t_isKept t_touches t_cushions t_p_row t_p_column t_p_down t_p_right t_p_cushions n_cells n_points n_fouls n_evening n_sights n_seenStep n_seenCell n_isKept n_touches n_cushions n_p_row n_p_column n_p_down n_p_right n_p_cushions i_cells i_points i_fouls i_evening i_sights i_seenStep i_seenCell i_isKept i_touches i_cushions i_p_row i_p_column i_p_down i_p_right i_p_cushions j_cells j_points j_fouls j_evening j_sights j_seenStep j_seenCell j_isKept j_touches j_cushions j_p_row j_p_column j_p_down j_p_right j_p_cushions x_signs x_sign x_reason x_acts x_candourAt p_row p_column p_down p_right p_cushions x_met x_reached x_firstWay x_queue v x_fitting x_byCell x_wins x_ways) → W p l e R s m args below meth c H1 locs1 cel slo Q (F0 m (pc + 3) ls rest)) : W p l e R s m args below meth c H locs cel slo Q (F0 m pc ls (.int v :: .ref (h 0) :: rest)) :=
  va_put (D := D) (ci := 0) (v := .int v) (ty := .int) (C := RX0) (T := TX0) (N := 18) hC.1.1 hC.1.2.1 hC.1.2.2.2.2 in_X0 tyX0 tyX0_ok nmX0 hC.1.2.2.2.1 hC.2.1.1 hw.1 hw.2.1 hw.2.2 0 rfl rfl 13 (by decide) (hC.1.2.2.2.2 _ q151) (fun _ h9 => h9) rfl (by decide +kernel) rfl rfl (Nat.le_of_ble_eq_true rfl) hdg (fun H1 l1 a b c => kk H1 l1 ⟨a, b, c⟩)
theorem subX0_x_reached : (((WX0 h E t_cells t_points t_fouls t_evening t_sights t_seenStep t_seenCell t_isKept t_touches t_cushions t_p_row t_p_column t_p_down t_p_right t_p_cushions n_cells n_points n_fouls n_evening n_sights n_seenStep n_seenCell n_isKept n_touches n_cushions n_p_row n_p_column n_p_down n_p_right n_p_cushions i_cells i_points i_fouls i_evening i_sights i_seenStep i_seenCell i_isKept i_touches i_cushions i_p_row i_p_column i_p_down i_p_right i_p_cushions j_cells j_points j_fouls j_evening j_sights j_seenStep j_seenCell j_isKept j_touches j_cushions j_p_row j_p_column j_p_down j_p_right j_p_cushions x_signs x_sign x_reason x_acts x_candourAt p_row p_column p_down p_right p_cushions x_met x_reached x_firstWay x_queue x_queued x_fitting x_byCell x_wins x_ways)).drop 25).take 1 = (WAi45 (h 25) E x_reached) := rfl
theorem putX0_x_reached {z_arr : Nat → Int32} : ((WX0 h E t_cells t_points t_fouls t_evening t_sights t_seenStep t_seenCell t_isKept t_touches t_cushions t_p_row t_p_column t_p_down t_p_right t_p_cushions n_cells n_points n_fouls n_evening n_sights n_seenStep n_seenCell n_isKept n_touches n_cushions n_p_row n_p_column n_p_down n_p_right n_p_cushions i_cells i_points i_fouls i_evening i_sights i_seenStep i_seenCell i_isKept i_touches i_cushions i_p_row i_p_column i_p_down i_p_right i_p_cushions j_cells j_points j_fouls j_evening j_sights j_seenStep j_seenCell j_isKept j_touches j_cushions j_p_row j_p_column j_p_down j_p_right j_p_cushions x_signs x_sign x_reason x_acts x_candourAt p_row p_column p_down p_right p_cushions x_met x_reached x_firstWay x_queue x_queued x_fitting x_byCell x_wins x_ways)).take 25 ++ ((WAi45 (h 25) E z_arr) ++ ((WX0 h E t_cells t_points t_fouls t_evening t_sights t_seenStep t_seenCell t_isKept t_touches t_cushions t_p_row t_p_column t_p_down t_p_right t_p_cushions n_cells n_points n_fouls n_evening n_sights n_seenStep n_seenCell n_isKept n_touches n_cushions n_p_row n_p_column n_p_down n_p_right n_p_cushions i_cells i_points i_fouls i_evening i_sights i_seenStep i_seenCell i_isKept i_touches i_cushions i_p_row i_p_column i_p_down i_p_right i_p_cushions j_cells j_points j_fouls j_evening j_sights j_seenStep j_seenCell j_isKept j_touches j_cushions j_p_row j_p_column j_p_down j_p_right j_p_cushions x_signs x_sign x_reason x_acts x_candourAt p_row p_column p_down p_right p_cushions x_met x_reached x_firstWay x_queue x_queued x_fitting x_byCell x_wins x_ways)).drop (25 + 1)) = (WX0 h E t_cells t_points t_fouls t_evening t_sights t_seenStep t_seenCell t_isKept t_touches t_cushions t_p_row t_p_column t_p_down t_p_right t_p_cushions n_cells n_points n_fouls n_evening n_sights n_seenStep n_seenCell n_isKept n_touches n_cushions n_p_row n_p_column n_p_down n_p_right n_p_cushions i_cells i_points i_fouls i_evening i_sights i_seenStep i_seenCell i_isKept i_touches i_cushions i_p_row i_p_column i_p_down i_p_right i_p_cushions j_cells j_points j_fouls j_evening j_sights j_seenStep j_seenCell j_isKept j_touches j_cushions j_p_row j_p_column j_p_down j_p_right j_p_cushions x_signs x_sign x_reason x_acts x_candourAt p_row p_column p_down p_right p_cushions x_met z_arr x_firstWay x_queue x_queued x_fitting x_byCell x_wins x_ways) := rfl
theorem aX0_x_queue {own : String} {i : Int32} (hC : Cx p m c cc nL s args own D E A) (hw : Wo D A s.heap H locs (WX0 h E t_cells t_points t_fouls t_evening t_sights t_seenStep t_seenCell t_isKept t_touches t_cushions t_p_row t_p_column t_p_down t_p_right t_p_cushions n_cells n_points n_fouls n_evening n_sights n_seenStep n_seenCell n_isKept n_touches n_cushions n_p_row n_p_column n_p_down n_p_right n_p_cushions i_cells i_points i_fouls i_evening i_sights i_seenStep i_seenCell i_isKept i_touches i_cushions i_p_row i_p_column i_p_down i_p_right i_p_cushions j_cells j_points j_fouls j_evening j_sights j_seenStep j_seenCell j_isKept j_touches j_cushions j_p_row j_p_column j_p_down j_p_right j_p_cushions x_signs x_sign x_reason x_acts x_candourAt p_row p_column p_down p_right p_cushions x_met x_reached x_firstWay x_queue x_queued x_fitting x_byCell x_wins x_ways)) (hi : bIn i 45) (hdg : decode cc pc = .ok (.iaload, 1)) (kk : W p l e R s m args below meth c H locs cel slo Q (F0 m (pc + 1) ls (.int (x_queue i.toNatClampNeg) :: rest))) : W p l e R s m args below meth c H locs cel slo Q (F0 m pc ls (.int i :: .ref (h 27) :: rest)) :=
  va_iald hC.1.1 hC.1.2.1 hC.2.1.1 hw.1 27 0 rfl rfl (bIn_in hi) hdg kk
theorem gX0_t_sights (hC : Cx p m c cc nL s args RX0 D E A) (hw : Wo D A s.heap H locs (WX0 h E t_cells t_points t_fouls t_evening t_sights t_seenStep t_seenCell t_isKept t_touches t_cushions t_p_row t_p_column t_p_down t_p_right t_p_cushions n_cells n_points n_fouls n_evening n_sights n_seenStep n_seenCell n_isKept n_touches n_cushions n_p_row n_p_column n_p_down n_p_right n_p_cushions i_cells i_points i_fouls i_evening i_sights i_seenStep i_seenCell i_isKept i_touches i_cushions i_p_row i_p_column i_p_down i_p_right i_p_cushions j_cells j_points j_fouls j_evening j_sights j_seenStep j_seenCell j_isKept j_touches j_cushions j_p_row j_p_column j_p_down j_p_right j_p_cushions x_signs x_sign x_reason x_acts x_candourAt p_row p_column p_down p_right p_cushions x_met x_reached x_firstWay x_queue x_queued x_fitting x_byCell x_wins x_ways)) (hdg : decode cc pc = .ok (.getfield 203, 3)) (kk : W p l e R s m args below meth c H locs cel slo Q (F0 m (pc + 3) ls (.int t_sights :: rest))) : W p l e R s m args below meth c H locs cel slo Q (F0 m pc ls (.ref (h 1) :: rest)) :=
  va_getN (D := D) (ci := 1) (C := RX1) (T := TX1) (N := 11) hC.1.1 hC.1.2.1 hC.1.2.2.2.2 in_X1 hC.1.2.2.2.1 hC.2.1.1 hw.1 1 rfl rfl 4 (by decide) (va_Nw.use rfl (nq101 hC.2.1.2)) (fun _ h9 => h9) rfl hdg kk
theorem gX0_t_seenStep (hC : Cx p m c cc nL s args RX0 D E A) (hw : Wo D A s.heap H locs (WX0 h E t_cells t_points t_fouls t_evening t_sights t_seenStep t_seenCell t_isKept t_touches t_cushions t_p_row t_p_column t_p_down t_p_right t_p_cushions n_cells n_points n_fouls n_evening n_sights n_seenStep n_seenCell n_isKept n_touches n_cushions n_p_row n_p_column n_p_down n_p_right n_p_cushions i_cells i_points i_fouls i_evening i_sights i_seenStep i_seenCell i_isKept i_touches i_cushions i_p_row i_p_column i_p_down i_p_right i_p_cushions j_cells j_points j_fouls j_evening j_sights j_seenStep j_seenCell j_isKept j_touches j_cushions j_p_row j_p_column j_p_down j_p_right j_p_cushions x_signs x_sign x_reason x_acts x_candourAt p_row p_column p_down p_right p_cushions x_met x_reached x_firstWay x_queue x_queued x_fitting x_byCell x_wins x_ways)) (hdg : decode cc pc = .ok (.getfield 206, 3)) (kk : W p l e R s m args below meth c H locs cel slo Q (F0 m (pc + 3) ls (.ref (h 3) :: rest))) : W p l e R s m args below meth c H locs cel slo Q (F0 m pc ls (.ref (h 1) :: rest)) :=
  va_getN (D := D) (ci := 1) (C := RX1) (T := TX1) (N := 11) hC.1.1 hC.1.2.1 hC.1.2.2.2.2 in_X1 hC.1.2.2.2.1 hC.2.1.1 hw.1 1 rfl rfl 5 (by decide) (va_Nw.use rfl (nq103 hC.2.1.2)) (fun _ h9 => h9) rfl hdg kk
theorem sX0_t_seenStep {own : String} {i : Int32} {x : Int32} (hC : Cx p m c cc nL s args own D E A) (hw : Wo D A s.heap H locs (WX0 h E t_cells t_points t_fouls t_evening t_sights t_seenStep t_seenCell t_isKept t_touches t_cushions t_p_row t_p_column t_p_down t_p_right t_p_cushions n_cells n_points n_fouls n_evening n_sights n_seenStep n_seenCell n_isKept n_touches n_cushions n_p_row n_p_column n_p_down n_p_right n_p_cushions i_cells i_points i_fouls i_evening i_sights i_seenStep i_seenCell i_isKept i_touches i_cushions i_p_row i_p_column i_p_down i_p_right i_p_cushions j_cells j_points j_fouls j_evening j_sights j_seenStep j_seenCell j_isKept j_touches j_cushions j_p_row j_p_column j_p_down j_p_right j_p_cushions x_signs x_sign x_reason x_acts x_candourAt p_row p_column p_down p_right p_cushions x_met x_reached x_firstWay x_queue x_queued x_fitting x_byCell x_wins x_ways)) (hi : bIn i 8) (hdg : decode cc pc = .ok (.iastore, 1)) (kk : ∀ (H1 : Heap) (locs1 : List Loc), Wo D A s.heap H1 locs1 (WX0 h E t_cells t_points t_fouls t_evening t_sights (upd t_seenStep i.toNatClampNeg x) t_seenCell t_isKept t_touches t_cushions t_p_row t_p_column t_p_down t_p_right t_p_cushions n_cells n_points n_fouls n_evening n_sights n_seenStep n_seenCell n_isKept n_touches n_cushions n_p_row n_p_column n_p_down n_p_right n_p_cushions i_cells i_points i_fouls i_evening i_sights i_seenStep i_seenCell i_isKept i_touches i_cushions i_p_row i_p_column i_p_down i_p_right i_p_cushions j_cells j_points j_fouls j_evening j_sights j_seenStep j_seenCell j_isKept j_touches j_cushions j_p_row j_p_column j_p_down j_p_right j_p_cushions x_signs x_sign x_reason x_acts x_candourAt p_row p_column p_down p_right p_cushions x_met x_reached x_firstWay x_queue x_queued x_fitting x_byCell x_wins x_ways) → W p l e R s m args below meth c H1 locs1 cel slo Q (F0 m (pc + 1) ls rest)) : W p l e R s m args below meth c H locs cel slo Q (F0 m pc ls (.int x :: .int i :: .ref (h 3) :: rest)) :=
  va_iast hC.1.1 hC.1.2.1 hC.2.1.1 hw.1 hw.2.1 hw.2.2 3 0 rfl rfl (bIn_in hi) hdg (fun H1 l1 a b c => kk H1 l1 ⟨a, b, c⟩)
theorem gX0_t_seenCell (hC : Cx p m c cc nL s args RX0 D E A) (hw : Wo D A s.heap H locs (WX0 h E t_cells t_points t_fouls t_evening t_sights t_seenStep t_seenCell t_isKept t_touches t_cushions t_p_row t_p_column t_p_down t_p_right t_p_cushions n_cells n_points n_fouls n_evening n_sights n_seenStep n_seenCell n_isKept n_touches n_cushions n_p_row n_p_column n_p_down n_p_right n_p_cushions i_cells i_points i_fouls i_evening i_sights i_seenStep i_seenCell i_isKept i_touches i_cushions i_p_row i_p_column i_p_down i_p_right i_p_cushions j_cells j_points j_fouls j_evening j_sights j_seenStep j_seenCell j_isKept j_touches j_cushions j_p_row j_p_column j_p_down j_p_right j_p_cushions x_signs x_sign x_reason x_acts x_candourAt p_row p_column p_down p_right p_cushions x_met x_reached x_firstWay x_queue x_queued x_fitting x_byCell x_wins x_ways)) (hdg : decode cc pc = .ok (.getfield 209, 3)) (kk : W p l e R s m args below meth c H locs cel slo Q (F0 m (pc + 3) ls (.ref (h 4) :: rest))) : W p l e R s m args below meth c H locs cel slo Q (F0 m pc ls (.ref (h 1) :: rest)) :=
  va_getN (D := D) (ci := 1) (C := RX1) (T := TX1) (N := 11) hC.1.1 hC.1.2.1 hC.1.2.2.2.2 in_X1 hC.1.2.2.2.1 hC.2.1.1 hw.1 1 rfl rfl 6 (by decide) (va_Nw.use rfl (nq105 hC.2.1.2)) (fun _ h9 => h9) rfl hdg kk
theorem sX0_t_seenCell {own : String} {i : Int32} {x : Int32} (hC : Cx p m c cc nL s args own D E A) (hw : Wo D A s.heap H locs (WX0 h E t_cells t_points t_fouls t_evening t_sights t_seenStep t_seenCell t_isKept t_touches t_cushions t_p_row t_p_column t_p_down t_p_right t_p_cushions n_cells n_points n_fouls n_evening n_sights n_seenStep n_seenCell n_isKept n_touches n_cushions n_p_row n_p_column n_p_down n_p_right n_p_cushions i_cells i_points i_fouls i_evening i_sights i_seenStep i_seenCell i_isKept i_touches i_cushions i_p_row i_p_column i_p_down i_p_right i_p_cushions j_cells j_points j_fouls j_evening j_sights j_seenStep j_seenCell j_isKept j_touches j_cushions j_p_row j_p_column j_p_down j_p_right j_p_cushions x_signs x_sign x_reason x_acts x_candourAt p_row p_column p_down p_right p_cushions x_met x_reached x_firstWay x_queue x_queued x_fitting x_byCell x_wins x_ways)) (hi : bIn i 8) (hdg : decode cc pc = .ok (.iastore, 1)) (kk : ∀ (H1 : Heap) (locs1 : List Loc), Wo D A s.heap H1 locs1 (WX0 h E t_cells t_points t_fouls t_evening t_sights t_seenStep (upd t_seenCell i.toNatClampNeg x) t_isKept t_touches t_cushions t_p_row t_p_column t_p_down t_p_right t_p_cushions n_cells n_points n_fouls n_evening n_sights n_seenStep n_seenCell n_isKept n_touches n_cushions n_p_row n_p_column n_p_down n_p_right n_p_cushions i_cells i_points i_fouls i_evening i_sights i_seenStep i_seenCell i_isKept i_touches i_cushions i_p_row i_p_column i_p_down i_p_right i_p_cushions j_cells j_points j_fouls j_evening j_sights j_seenStep j_seenCell j_isKept j_touches j_cushions j_p_row j_p_column j_p_down j_p_right j_p_cushions x_signs x_sign x_reason x_acts x_candourAt p_row p_column p_down p_right p_cushions x_met x_reached x_firstWay x_queue x_queued x_fitting x_byCell x_wins x_ways) → W p l e R s m args below meth c H1 locs1 cel slo Q (F0 m (pc + 1) ls rest)) : W p l e R s m args below meth c H locs cel slo Q (F0 m pc ls (.int x :: .int i :: .ref (h 4) :: rest)) :=
  va_iast hC.1.1 hC.1.2.1 hC.2.1.1 hw.1 hw.2.1 hw.2.2 4 0 rfl rfl (bIn_in hi) hdg (fun H1 l1 a b c => kk H1 l1 ⟨a, b, c⟩)
theorem pX0_t_sights {v : Int32} (hC : Cx p m c cc nL s args RX0 D E A) (hw : Wo D A s.heap H locs (WX0 h E t_cells t_points t_fouls t_evening t_sights t_seenStep t_seenCell t_isKept t_touches t_cushions t_p_row t_p_column t_p_down t_p_right t_p_cushions n_cells n_points n_fouls n_evening n_sights n_seenStep n_seenCell n_isKept n_touches n_cushions n_p_row n_p_column n_p_down n_p_right n_p_cushions i_cells i_points i_fouls i_evening i_sights i_seenStep i_seenCell i_isKept i_touches i_cushions i_p_row i_p_column i_p_down i_p_right i_p_cushions j_cells j_points j_fouls j_evening j_sights j_seenStep j_seenCell j_isKept j_touches j_cushions j_p_row j_p_column j_p_down j_p_right j_p_cushions x_signs x_sign x_reason x_acts x_candourAt p_row p_column p_down p_right p_cushions x_met x_reached x_firstWay x_queue x_queued x_fitting x_byCell x_wins x_ways)) (hdg : decode cc pc = .ok (.putfield 203, 3)) (kk : ∀ (H1 : Heap) (locs1 : List Loc), Wo D A s.heap H1 locs1 (WX0 h E t_cells t_points t_fouls t_evening v t_seenStep t_seenCell t_isKept t_touches t_cushions t_p_row t_p_column t_p_down t_p_right t_p_cushions n_cells n_points n_fouls n_evening n_sights n_seenStep n_seenCell n_isKept n_touches n_cushions n_p_row n_p_column n_p_down n_p_right n_p_cushions i_cells i_points i_fouls i_evening i_sights i_seenStep i_seenCell i_isKept i_touches i_cushions i_p_row i_p_column i_p_down i_p_right i_p_cushions j_cells j_points j_fouls j_evening j_sights j_seenStep j_seenCell j_isKept j_touches j_cushions j_p_row j_p_column j_p_down j_p_right j_p_cushions x_signs x_sign x_reason x_acts x_candourAt p_row p_column p_down p_right p_cushions x_met x_reached x_firstWay x_queue x_queued x_fitting x_byCell x_wins x_ways) → W p l e R s m args below meth c H1 locs1 cel slo Q (F0 m (pc + 3) ls rest)) : W p l e R s m args below meth c H locs cel slo Q (F0 m pc ls (.int v :: .ref (h 1) :: rest)) :=
  va_putN (D := D) (ci := 1) (v := .int v) (ty := .int) (C := RX1) (T := TX1) (N := 11) hC.1.1 hC.1.2.1 hC.1.2.2.2.2 in_X1 tyX1 tyX1_ok nmX1 hC.1.2.2.2.1 hC.2.1.1 hw.1 hw.2.1 hw.2.2 1 rfl rfl 4 (by decide) (va_Nw.use rfl (nq101 hC.2.1.2)) (fun _ h9 => h9) rfl (by decide +kernel) rfl rfl (Nat.le_of_ble_eq_true rfl) hdg (fun H1 l1 a b c => kk H1 l1 ⟨a, b, c⟩)
theorem aX0_t_seenStep {own : String} {i : Int32} (hC : Cx p m c cc nL s args own D E A) (hw : Wo D A s.heap H locs (WX0 h E t_cells t_points t_fouls t_evening t_sights t_seenStep t_seenCell t_isKept t_touches t_cushions t_p_row t_p_column t_p_down t_p_right t_p_cushions n_cells n_points n_fouls n_evening n_sights n_seenStep n_seenCell n_isKept n_touches n_cushions n_p_row n_p_column n_p_down n_p_right n_p_cushions i_cells i_points i_fouls i_evening i_sights i_seenStep i_seenCell i_isKept i_touches i_cushions i_p_row i_p_column i_p_down i_p_right i_p_cushions j_cells j_points j_fouls j_evening j_sights j_seenStep j_seenCell j_isKept j_touches j_cushions j_p_row j_p_column j_p_down j_p_right j_p_cushions x_signs x_sign x_reason x_acts x_candourAt p_row p_column p_down p_right p_cushions x_met x_reached x_firstWay x_queue x_queued x_fitting x_byCell x_wins x_ways)) (hi : bIn i 8) (hdg : decode cc pc = .ok (.iaload, 1)) (kk : W p l e R s m args below meth c H locs cel slo Q (F0 m (pc + 1) ls (.int (t_seenStep i.toNatClampNeg) :: rest))) : W p l e R s m args below meth c H locs cel slo Q (F0 m pc ls (.int i :: .ref (h 3) :: rest)) :=
  va_iald hC.1.1 hC.1.2.1 hC.2.1.1 hw.1 3 0 rfl rfl (bIn_in hi) hdg kk
theorem aX0_t_seenCell {own : String} {i : Int32} (hC : Cx p m c cc nL s args own D E A) (hw : Wo D A s.heap H locs (WX0 h E t_cells t_points t_fouls t_evening t_sights t_seenStep t_seenCell t_isKept t_touches t_cushions t_p_row t_p_column t_p_down t_p_right t_p_cushions n_cells n_points n_fouls n_evening n_sights n_seenStep n_seenCell n_isKept n_touches n_cushions n_p_row n_p_column n_p_down n_p_right n_p_cushions i_cells i_points i_fouls i_evening i_sights i_seenStep i_seenCell i_isKept i_touches i_cushions i_p_row i_p_column i_p_down i_p_right i_p_cushions j_cells j_points j_fouls j_evening j_sights j_seenStep j_seenCell j_isKept j_touches j_cushions j_p_row j_p_column j_p_down j_p_right j_p_cushions x_signs x_sign x_reason x_acts x_candourAt p_row p_column p_down p_right p_cushions x_met x_reached x_firstWay x_queue x_queued x_fitting x_byCell x_wins x_ways)) (hi : bIn i 8) (hdg : decode cc pc = .ok (.iaload, 1)) (kk : W p l e R s m args below meth c H locs cel slo Q (F0 m (pc + 1) ls (.int (t_seenCell i.toNatClampNeg) :: rest))) : W p l e R s m args below meth c H locs cel slo Q (F0 m pc ls (.int i :: .ref (h 4) :: rest)) :=
  va_iald hC.1.1 hC.1.2.1 hC.2.1.1 hw.1 4 0 rfl rfl (bIn_in hi) hdg kk
theorem gX0_this_byCell (hC : Cx p m c cc nL s args RX0 D E A) (hw : Wo D A s.heap H locs (WX0 h E t_cells t_points t_fouls t_evening t_sights t_seenStep t_seenCell t_isKept t_touches t_cushions t_p_row t_p_column t_p_down t_p_right t_p_cushions n_cells n_points n_fouls n_evening n_sights n_seenStep n_seenCell n_isKept n_touches n_cushions n_p_row n_p_column n_p_down n_p_right n_p_cushions i_cells i_points i_fouls i_evening i_sights i_seenStep i_seenCell i_isKept i_touches i_cushions i_p_row i_p_column i_p_down i_p_right i_p_cushions j_cells j_points j_fouls j_evening j_sights j_seenStep j_seenCell j_isKept j_touches j_cushions j_p_row j_p_column j_p_down j_p_right j_p_cushions x_signs x_sign x_reason x_acts x_candourAt p_row p_column p_down p_right p_cushions x_met x_reached x_firstWay x_queue x_queued x_fitting x_byCell x_wins x_ways)) (hdg : decode cc pc = .ok (.getfield 55, 3)) (kk : W p l e R s m args below meth c H locs cel slo Q (F0 m (pc + 3) ls (.ref (h 29) :: rest))) : W p l e R s m args below meth c H locs cel slo Q (F0 m pc ls (.ref (h 0) :: rest)) :=
  va_get (D := D) (ci := 0) (C := RX0) (T := TX0) (N := 18) hC.1.1 hC.1.2.1 hC.1.2.2.2.2 in_X0 hC.1.2.2.2.1 hC.2.1.1 hw.1 0 rfl rfl 15 (by decide) (hC.1.2.2.2.2 _ q153) (fun _ h9 => h9) rfl hdg kk
theorem subX0_x_byCell : (((WX0 h E t_cells t_points t_fouls t_evening t_sights t_seenStep t_seenCell t_isKept t_touches t_cushions t_p_row t_p_column t_p_down t_p_right t_p_cushions n_cells n_points n_fouls n_evening n_sights n_seenStep n_seenCell n_isKept n_touches n_cushions n_p_row n_p_column n_p_down n_p_right n_p_cushions i_cells i_points i_fouls i_evening i_sights i_seenStep i_seenCell i_isKept i_touches i_cushions i_p_row i_p_column i_p_down i_p_right i_p_cushions j_cells j_points j_fouls j_evening j_sights j_seenStep j_seenCell j_isKept j_touches j_cushions j_p_row j_p_column j_p_down j_p_right j_p_cushions x_signs x_sign x_reason x_acts x_candourAt p_row p_column p_down p_right p_cushions x_met x_reached x_firstWay x_queue x_queued x_fitting x_byCell x_wins x_ways)).drop 29).take 1 = (WAi45 (h 29) E x_byCell) := rfl
theorem putX0_x_byCell {z_arr : Nat → Int32} : ((WX0 h E t_cells t_points t_fouls t_evening t_sights t_seenStep t_seenCell t_isKept t_touches t_cushions t_p_row t_p_column t_p_down t_p_right t_p_cushions n_cells n_points n_fouls n_evening n_sights n_seenStep n_seenCell n_isKept n_touches n_cushions n_p_row n_p_column n_p_down n_p_right n_p_cushions i_cells i_points i_fouls i_evening i_sights i_seenStep i_seenCell i_isKept i_touches i_cushions i_p_row i_p_column i_p_down i_p_right i_p_cushions j_cells j_points j_fouls j_evening j_sights j_seenStep j_seenCell j_isKept j_touches j_cushions j_p_row j_p_column j_p_down j_p_right j_p_cushions x_signs x_sign x_reason x_acts x_candourAt p_row p_column p_down p_right p_cushions x_met x_reached x_firstWay x_queue x_queued x_fitting x_byCell x_wins x_ways)).take 29 ++ ((WAi45 (h 29) E z_arr) ++ ((WX0 h E t_cells t_points t_fouls t_evening t_sights t_seenStep t_seenCell t_isKept t_touches t_cushions t_p_row t_p_column t_p_down t_p_right t_p_cushions n_cells n_points n_fouls n_evening n_sights n_seenStep n_seenCell n_isKept n_touches n_cushions n_p_row n_p_column n_p_down n_p_right n_p_cushions i_cells i_points i_fouls i_evening i_sights i_seenStep i_seenCell i_isKept i_touches i_cushions i_p_row i_p_column i_p_down i_p_right i_p_cushions j_cells j_points j_fouls j_evening j_sights j_seenStep j_seenCell j_isKept j_touches j_cushions j_p_row j_p_column j_p_down j_p_right j_p_cushions x_signs x_sign x_reason x_acts x_candourAt p_row p_column p_down p_right p_cushions x_met x_reached x_firstWay x_queue x_queued x_fitting x_byCell x_wins x_ways)).drop (29 + 1)) = (WX0 h E t_cells t_points t_fouls t_evening t_sights t_seenStep t_seenCell t_isKept t_touches t_cushions t_p_row t_p_column t_p_down t_p_right t_p_cushions n_cells n_points n_fouls n_evening n_sights n_seenStep n_seenCell n_isKept n_touches n_cushions n_p_row n_p_column n_p_down n_p_right n_p_cushions i_cells i_points i_fouls i_evening i_sights i_seenStep i_seenCell i_isKept i_touches i_cushions i_p_row i_p_column i_p_down i_p_right i_p_cushions j_cells j_points j_fouls j_evening j_sights j_seenStep j_seenCell j_isKept j_touches j_cushions j_p_row j_p_column j_p_down j_p_right j_p_cushions x_signs x_sign x_reason x_acts x_candourAt p_row p_column p_down p_right p_cushions x_met x_reached x_firstWay x_queue x_queued x_fitting z_arr x_wins x_ways) := rfl
theorem gX0_this_fitting (hC : Cx p m c cc nL s args RX0 D E A) (hw : Wo D A s.heap H locs (WX0 h E t_cells t_points t_fouls t_evening t_sights t_seenStep t_seenCell t_isKept t_touches t_cushions t_p_row t_p_column t_p_down t_p_right t_p_cushions n_cells n_points n_fouls n_evening n_sights n_seenStep n_seenCell n_isKept n_touches n_cushions n_p_row n_p_column n_p_down n_p_right n_p_cushions i_cells i_points i_fouls i_evening i_sights i_seenStep i_seenCell i_isKept i_touches i_cushions i_p_row i_p_column i_p_down i_p_right i_p_cushions j_cells j_points j_fouls j_evening j_sights j_seenStep j_seenCell j_isKept j_touches j_cushions j_p_row j_p_column j_p_down j_p_right j_p_cushions x_signs x_sign x_reason x_acts x_candourAt p_row p_column p_down p_right p_cushions x_met x_reached x_firstWay x_queue x_queued x_fitting x_byCell x_wins x_ways)) (hdg : decode cc pc = .ok (.getfield 52, 3)) (kk : W p l e R s m args below meth c H locs cel slo Q (F0 m (pc + 3) ls (.ref (h 28) :: rest))) : W p l e R s m args below meth c H locs cel slo Q (F0 m pc ls (.ref (h 0) :: rest)) :=
  va_get (D := D) (ci := 0) (C := RX0) (T := TX0) (N := 18) hC.1.1 hC.1.2.1 hC.1.2.2.2.2 in_X0 hC.1.2.2.2.1 hC.2.1.1 hw.1 0 rfl rfl 14 (by decide) (hC.1.2.2.2.2 _ q152) (fun _ h9 => h9) rfl hdg kk
theorem aX0_x_fitting {own : String} {i : Int32} (hC : Cx p m c cc nL s args own D E A) (hw : Wo D A s.heap H locs (WX0 h E t_cells t_points t_fouls t_evening t_sights t_seenStep t_seenCell t_isKept t_touches t_cushions t_p_row t_p_column t_p_down t_p_right t_p_cushions n_cells n_points n_fouls n_evening n_sights n_seenStep n_seenCell n_isKept n_touches n_cushions n_p_row n_p_column n_p_down n_p_right n_p_cushions i_cells i_points i_fouls i_evening i_sights i_seenStep i_seenCell i_isKept i_touches i_cushions i_p_row i_p_column i_p_down i_p_right i_p_cushions j_cells j_points j_fouls j_evening j_sights j_seenStep j_seenCell j_isKept j_touches j_cushions j_p_row j_p_column j_p_down j_p_right j_p_cushions x_signs x_sign x_reason x_acts x_candourAt p_row p_column p_down p_right p_cushions x_met x_reached x_firstWay x_queue x_queued x_fitting x_byCell x_wins x_ways)) (hi : bIn i 450) (hdg : decode cc pc = .ok (.iaload, 1)) (kk : W p l e R s m args below meth c H locs cel slo Q (F0 m (pc + 1) ls (.int (x_fitting i.toNatClampNeg) :: rest))) : W p l e R s m args below meth c H locs cel slo Q (F0 m pc ls (.int i :: .ref (h 28) :: rest)) :=
  va_iald hC.1.1 hC.1.2.1 hC.2.1.1 hw.1 28 0 rfl rfl (bIn_in hi) hdg kk
theorem aX0_x_byCell {own : String} {i : Int32} (hC : Cx p m c cc nL s args own D E A) (hw : Wo D A s.heap H locs (WX0 h E t_cells t_points t_fouls t_evening t_sights t_seenStep t_seenCell t_isKept t_touches t_cushions t_p_row t_p_column t_p_down t_p_right t_p_cushions n_cells n_points n_fouls n_evening n_sights n_seenStep n_seenCell n_isKept n_touches n_cushions n_p_row n_p_column n_p_down n_p_right n_p_cushions i_cells i_points i_fouls i_evening i_sights i_seenStep i_seenCell i_isKept i_touches i_cushions i_p_row i_p_column i_p_down i_p_right i_p_cushions j_cells j_points j_fouls j_evening j_sights j_seenStep j_seenCell j_isKept j_touches j_cushions j_p_row j_p_column j_p_down j_p_right j_p_cushions x_signs x_sign x_reason x_acts x_candourAt p_row p_column p_down p_right p_cushions x_met x_reached x_firstWay x_queue x_queued x_fitting x_byCell x_wins x_ways)) (hi : bIn i 45) (hdg : decode cc pc = .ok (.iaload, 1)) (kk : W p l e R s m args below meth c H locs cel slo Q (F0 m (pc + 1) ls (.int (x_byCell i.toNatClampNeg) :: rest))) : W p l e R s m args below meth c H locs cel slo Q (F0 m pc ls (.int i :: .ref (h 29) :: rest)) :=
  va_iald hC.1.1 hC.1.2.1 hC.2.1.1 hw.1 29 0 rfl rfl (bIn_in hi) hdg kk
theorem sX0_x_byCell {own : String} {i : Int32} {x : Int32} (hC : Cx p m c cc nL s args own D E A) (hw : Wo D A s.heap H locs (WX0 h E t_cells t_points t_fouls t_evening t_sights t_seenStep t_seenCell t_isKept t_touches t_cushions t_p_row t_p_column t_p_down t_p_right t_p_cushions n_cells n_points n_fouls n_evening n_sights n_seenStep n_seenCell n_isKept n_touches n_cushions n_p_row n_p_column n_p_down n_p_right n_p_cushions i_cells i_points i_fouls i_evening i_sights i_seenStep i_seenCell i_isKept i_touches i_cushions i_p_row i_p_column i_p_down i_p_right i_p_cushions j_cells j_points j_fouls j_evening j_sights j_seenStep j_seenCell j_isKept j_touches j_cushions j_p_row j_p_column j_p_down j_p_right j_p_cushions x_signs x_sign x_reason x_acts x_candourAt p_row p_column p_down p_right p_cushions x_met x_reached x_firstWay x_queue x_queued x_fitting x_byCell x_wins x_ways)) (hi : bIn i 45) (hdg : decode cc pc = .ok (.iastore, 1)) (kk : ∀ (H1 : Heap) (locs1 : List Loc), Wo D A s.heap H1 locs1 (WX0 h E t_cells t_points t_fouls t_evening t_sights t_seenStep t_seenCell t_isKept t_touches t_cushions t_p_row t_p_column t_p_down t_p_right t_p_cushions n_cells n_points n_fouls n_evening n_sights n_seenStep n_seenCell n_isKept n_touches n_cushions n_p_row n_p_column n_p_down n_p_right n_p_cushions i_cells i_points i_fouls i_evening i_sights i_seenStep i_seenCell i_isKept i_touches i_cushions i_p_row i_p_column i_p_down i_p_right i_p_cushions j_cells j_points j_fouls j_evening j_sights j_seenStep j_seenCell j_isKept j_touches j_cushions j_p_row j_p_column j_p_down j_p_right j_p_cushions x_signs x_sign x_reason x_acts x_candourAt p_row p_column p_down p_right p_cushions x_met x_reached x_firstWay x_queue x_queued x_fitting (upd x_byCell i.toNatClampNeg x) x_wins x_ways) → W p l e R s m args below meth c H1 locs1 cel slo Q (F0 m (pc + 1) ls rest)) : W p l e R s m args below meth c H locs cel slo Q (F0 m pc ls (.int x :: .int i :: .ref (h 29) :: rest)) :=
  va_iast hC.1.1 hC.1.2.1 hC.2.1.1 hw.1 hw.2.1 hw.2.2 29 0 rfl rfl (bIn_in hi) hdg (fun H1 l1 a b c => kk H1 l1 ⟨a, b, c⟩)
theorem sX0_x_fitting {own : String} {i : Int32} {x : Int32} (hC : Cx p m c cc nL s args own D E A) (hw : Wo D A s.heap H locs (WX0 h E t_cells t_points t_fouls t_evening t_sights t_seenStep t_seenCell t_isKept t_touches t_cushions t_p_row t_p_column t_p_down t_p_right t_p_cushions n_cells n_points n_fouls n_evening n_sights n_seenStep n_seenCell n_isKept n_touches n_cushions n_p_row n_p_column n_p_down n_p_right n_p_cushions i_cells i_points i_fouls i_evening i_sights i_seenStep i_seenCell i_isKept i_touches i_cushions i_p_row i_p_column i_p_down i_p_right i_p_cushions j_cells j_points j_fouls j_evening j_sights j_seenStep j_seenCell j_isKept j_touches j_cushions j_p_row j_p_column j_p_down j_p_right j_p_cushions x_signs x_sign x_reason x_acts x_candourAt p_row p_column p_down p_right p_cushions x_met x_reached x_firstWay x_queue x_queued x_fitting x_byCell x_wins x_ways)) (hi : bIn i 450) (hdg : decode cc pc = .ok (.iastore, 1)) (kk : ∀ (H1 : Heap) (locs1 : List Loc), Wo D A s.heap H1 locs1 (WX0 h E t_cells t_points t_fouls t_evening t_sights t_seenStep t_seenCell t_isKept t_touches t_cushions t_p_row t_p_column t_p_down t_p_right t_p_cushions n_cells n_points n_fouls n_evening n_sights n_seenStep n_seenCell n_isKept n_touches n_cushions n_p_row n_p_column n_p_down n_p_right n_p_cushions i_cells i_points i_fouls i_evening i_sights i_seenStep i_seenCell i_isKept i_touches i_cushions i_p_row i_p_column i_p_down i_p_right i_p_cushions j_cells j_points j_fouls j_evening j_sights j_seenStep j_seenCell j_isKept j_touches j_cushions j_p_row j_p_column j_p_down j_p_right j_p_cushions x_signs x_sign x_reason x_acts x_candourAt p_row p_column p_down p_right p_cushions x_met x_reached x_firstWay x_queue x_queued (upd x_fitting i.toNatClampNeg x) x_byCell x_wins x_ways) → W p l e R s m args below meth c H1 locs1 cel slo Q (F0 m (pc + 1) ls rest)) : W p l e R s m args below meth c H locs cel slo Q (F0 m pc ls (.int x :: .int i :: .ref (h 28) :: rest)) :=
  va_iast hC.1.1 hC.1.2.1 hC.2.1.1 hw.1 hw.2.1 hw.2.2 28 0 rfl rfl (bIn_in hi) hdg (fun H1 l1 a b c => kk H1 l1 ⟨a, b, c⟩)
theorem gX0_this_wins (hC : Cx p m c cc nL s args RX0 D E A) (hw : Wo D A s.heap H locs (WX0 h E t_cells t_points t_fouls t_evening t_sights t_seenStep t_seenCell t_isKept t_touches t_cushions t_p_row t_p_column t_p_down t_p_right t_p_cushions n_cells n_points n_fouls n_evening n_sights n_seenStep n_seenCell n_isKept n_touches n_cushions n_p_row n_p_column n_p_down n_p_right n_p_cushions i_cells i_points i_fouls i_evening i_sights i_seenStep i_seenCell i_isKept i_touches i_cushions i_p_row i_p_column i_p_down i_p_right i_p_cushions j_cells j_points j_fouls j_evening j_sights j_seenStep j_seenCell j_isKept j_touches j_cushions j_p_row j_p_column j_p_down j_p_right j_p_cushions x_signs x_sign x_reason x_acts x_candourAt p_row p_column p_down p_right p_cushions x_met x_reached x_firstWay x_queue x_queued x_fitting x_byCell x_wins x_ways)) (hdg : decode cc pc = .ok (.getfield 58, 3)) (kk : W p l e R s m args below meth c H locs cel slo Q (F0 m (pc + 3) ls (.ref (h 30) :: rest))) : W p l e R s m args below meth c H locs cel slo Q (F0 m pc ls (.ref (h 0) :: rest)) :=
  va_get (D := D) (ci := 0) (C := RX0) (T := TX0) (N := 18) hC.1.1 hC.1.2.1 hC.1.2.2.2.2 in_X0 hC.1.2.2.2.1 hC.2.1.1 hw.1 0 rfl rfl 16 (by decide) (hC.1.2.2.2.2 _ q154) (fun _ h9 => h9) rfl hdg kk
theorem aX0_x_wins {own : String} {i : Int32} (hC : Cx p m c cc nL s args own D E A) (hw : Wo D A s.heap H locs (WX0 h E t_cells t_points t_fouls t_evening t_sights t_seenStep t_seenCell t_isKept t_touches t_cushions t_p_row t_p_column t_p_down t_p_right t_p_cushions n_cells n_points n_fouls n_evening n_sights n_seenStep n_seenCell n_isKept n_touches n_cushions n_p_row n_p_column n_p_down n_p_right n_p_cushions i_cells i_points i_fouls i_evening i_sights i_seenStep i_seenCell i_isKept i_touches i_cushions i_p_row i_p_column i_p_down i_p_right i_p_cushions j_cells j_points j_fouls j_evening j_sights j_seenStep j_seenCell j_isKept j_touches j_cushions j_p_row j_p_column j_p_down j_p_right j_p_cushions x_signs x_sign x_reason x_acts x_candourAt p_row p_column p_down p_right p_cushions x_met x_reached x_firstWay x_queue x_queued x_fitting x_byCell x_wins x_ways)) (hi : bIn i 2000) (hdg : decode cc pc = .ok (.baload, 1)) (kk : W p l e R s m args below meth c H locs cel slo Q (F0 m (pc + 1) ls (.int (x_wins i.toNatClampNeg) :: rest))) : W p l e R s m args below meth c H locs cel slo Q (F0 m pc ls (.int i :: .ref (h 30) :: rest)) :=
  va_zald hC.1.1 hC.1.2.1 hC.2.1.1 hw.1 30 1 rfl rfl (bIn_in hi) hdg kk
theorem sX0_x_wins {own : String} {i : Int32} {x : Int32} (hC : Cx p m c cc nL s args own D E A) (hw : Wo D A s.heap H locs (WX0 h E t_cells t_points t_fouls t_evening t_sights t_seenStep t_seenCell t_isKept t_touches t_cushions t_p_row t_p_column t_p_down t_p_right t_p_cushions n_cells n_points n_fouls n_evening n_sights n_seenStep n_seenCell n_isKept n_touches n_cushions n_p_row n_p_column n_p_down n_p_right n_p_cushions i_cells i_points i_fouls i_evening i_sights i_seenStep i_seenCell i_isKept i_touches i_cushions i_p_row i_p_column i_p_down i_p_right i_p_cushions j_cells j_points j_fouls j_evening j_sights j_seenStep j_seenCell j_isKept j_touches j_cushions j_p_row j_p_column j_p_down j_p_right j_p_cushions x_signs x_sign x_reason x_acts x_candourAt p_row p_column p_down p_right p_cushions x_met x_reached x_firstWay x_queue x_queued x_fitting x_byCell x_wins x_ways)) (hi : bIn i 2000) (hdg : decode cc pc = .ok (.bastore, 1)) (kk : ∀ (H1 : Heap) (locs1 : List Loc), Wo D A s.heap H1 locs1 (WX0 h E t_cells t_points t_fouls t_evening t_sights t_seenStep t_seenCell t_isKept t_touches t_cushions t_p_row t_p_column t_p_down t_p_right t_p_cushions n_cells n_points n_fouls n_evening n_sights n_seenStep n_seenCell n_isKept n_touches n_cushions n_p_row n_p_column n_p_down n_p_right n_p_cushions i_cells i_points i_fouls i_evening i_sights i_seenStep i_seenCell i_isKept i_touches i_cushions i_p_row i_p_column i_p_down i_p_right i_p_cushions j_cells j_points j_fouls j_evening j_sights j_seenStep j_seenCell j_isKept j_touches j_cushions j_p_row j_p_column j_p_down j_p_right j_p_cushions x_signs x_sign x_reason x_acts x_candourAt p_row p_column p_down p_right p_cushions x_met x_reached x_firstWay x_queue x_queued x_fitting x_byCell (upd x_wins i.toNatClampNeg (vp_nar .boolean x)) x_ways) → W p l e R s m args below meth c H1 locs1 cel slo Q (F0 m (pc + 1) ls rest)) : W p l e R s m args below meth c H locs cel slo Q (F0 m pc ls (.int x :: .int i :: .ref (h 30) :: rest)) :=
  va_zast hC.1.1 hC.1.2.1 hC.2.1.1 hw.1 hw.2.1 hw.2.2 30 1 rfl rfl (bIn_in hi) hdg (fun H1 l1 a b c => kk H1 l1 ⟨a, b, c⟩)
theorem gX0_this_ways (hC : Cx p m c cc nL s args RX0 D E A) (hw : Wo D A s.heap H locs (WX0 h E t_cells t_points t_fouls t_evening t_sights t_seenStep t_seenCell t_isKept t_touches t_cushions t_p_row t_p_column t_p_down t_p_right t_p_cushions n_cells n_points n_fouls n_evening n_sights n_seenStep n_seenCell n_isKept n_touches n_cushions n_p_row n_p_column n_p_down n_p_right n_p_cushions i_cells i_points i_fouls i_evening i_sights i_seenStep i_seenCell i_isKept i_touches i_cushions i_p_row i_p_column i_p_down i_p_right i_p_cushions j_cells j_points j_fouls j_evening j_sights j_seenStep j_seenCell j_isKept j_touches j_cushions j_p_row j_p_column j_p_down j_p_right j_p_cushions x_signs x_sign x_reason x_acts x_candourAt p_row p_column p_down p_right p_cushions x_met x_reached x_firstWay x_queue x_queued x_fitting x_byCell x_wins x_ways)) (hdg : decode cc pc = .ok (.getfield 61, 3)) (kk : W p l e R s m args below meth c H locs cel slo Q (F0 m (pc + 3) ls (.ref (h 31) :: rest))) : W p l e R s m args below meth c H locs cel slo Q (F0 m pc ls (.ref (h 0) :: rest)) :=
  va_get (D := D) (ci := 0) (C := RX0) (T := TX0) (N := 18) hC.1.1 hC.1.2.1 hC.1.2.2.2.2 in_X0 hC.1.2.2.2.1 hC.2.1.1 hw.1 0 rfl rfl 17 (by decide) (hC.1.2.2.2.2 _ q155) (fun _ h9 => h9) rfl hdg kk
theorem subX0_x_ways : (((WX0 h E t_cells t_points t_fouls t_evening t_sights t_seenStep t_seenCell t_isKept t_touches t_cushions t_p_row t_p_column t_p_down t_p_right t_p_cushions n_cells n_points n_fouls n_evening n_sights n_seenStep n_seenCell n_isKept n_touches n_cushions n_p_row n_p_column n_p_down n_p_right n_p_cushions i_cells i_points i_fouls i_evening i_sights i_seenStep i_seenCell i_isKept i_touches i_cushions i_p_row i_p_column i_p_down i_p_right i_p_cushions j_cells j_points j_fouls j_evening j_sights j_seenStep j_seenCell j_isKept j_touches j_cushions j_p_row j_p_column j_p_down j_p_right j_p_cushions x_signs x_sign x_reason x_acts x_candourAt p_row p_column p_down p_right p_cushions x_met x_reached x_firstWay x_queue x_queued x_fitting x_byCell x_wins x_ways)).drop 31).take 1 = (WAl81 (h 31) E x_ways) := rfl
theorem putX0_x_ways {z_arr : Nat → Int64} : ((WX0 h E t_cells t_points t_fouls t_evening t_sights t_seenStep t_seenCell t_isKept t_touches t_cushions t_p_row t_p_column t_p_down t_p_right t_p_cushions n_cells n_points n_fouls n_evening n_sights n_seenStep n_seenCell n_isKept n_touches n_cushions n_p_row n_p_column n_p_down n_p_right n_p_cushions i_cells i_points i_fouls i_evening i_sights i_seenStep i_seenCell i_isKept i_touches i_cushions i_p_row i_p_column i_p_down i_p_right i_p_cushions j_cells j_points j_fouls j_evening j_sights j_seenStep j_seenCell j_isKept j_touches j_cushions j_p_row j_p_column j_p_down j_p_right j_p_cushions x_signs x_sign x_reason x_acts x_candourAt p_row p_column p_down p_right p_cushions x_met x_reached x_firstWay x_queue x_queued x_fitting x_byCell x_wins x_ways)).take 31 ++ ((WAl81 (h 31) E z_arr) ++ ((WX0 h E t_cells t_points t_fouls t_evening t_sights t_seenStep t_seenCell t_isKept t_touches t_cushions t_p_row t_p_column t_p_down t_p_right t_p_cushions n_cells n_points n_fouls n_evening n_sights n_seenStep n_seenCell n_isKept n_touches n_cushions n_p_row n_p_column n_p_down n_p_right n_p_cushions i_cells i_points i_fouls i_evening i_sights i_seenStep i_seenCell i_isKept i_touches i_cushions i_p_row i_p_column i_p_down i_p_right i_p_cushions j_cells j_points j_fouls j_evening j_sights j_seenStep j_seenCell j_isKept j_touches j_cushions j_p_row j_p_column j_p_down j_p_right j_p_cushions x_signs x_sign x_reason x_acts x_candourAt p_row p_column p_down p_right p_cushions x_met x_reached x_firstWay x_queue x_queued x_fitting x_byCell x_wins x_ways)).drop (31 + 1)) = (WX0 h E t_cells t_points t_fouls t_evening t_sights t_seenStep t_seenCell t_isKept t_touches t_cushions t_p_row t_p_column t_p_down t_p_right t_p_cushions n_cells n_points n_fouls n_evening n_sights n_seenStep n_seenCell n_isKept n_touches n_cushions n_p_row n_p_column n_p_down n_p_right n_p_cushions i_cells i_points i_fouls i_evening i_sights i_seenStep i_seenCell i_isKept i_touches i_cushions i_p_row i_p_column i_p_down i_p_right i_p_cushions j_cells j_points j_fouls j_evening j_sights j_seenStep j_seenCell j_isKept j_touches j_cushions j_p_row j_p_column j_p_down j_p_right j_p_cushions x_signs x_sign x_reason x_acts x_candourAt p_row p_column p_down p_right p_cushions x_met x_reached x_firstWay x_queue x_queued x_fitting x_byCell x_wins z_arr) := rfl
theorem sX0_x_ways {own : String} {i : Int32} {x : Int64} (hC : Cx p m c cc nL s args own D E A) (hw : Wo D A s.heap H locs (WX0 h E t_cells t_points t_fouls t_evening t_sights t_seenStep t_seenCell t_isKept t_touches t_cushions t_p_row t_p_column t_p_down t_p_right t_p_cushions n_cells n_points n_fouls n_evening n_sights n_seenStep n_seenCell n_isKept n_touches n_cushions n_p_row n_p_column n_p_down n_p_right n_p_cushions i_cells i_points i_fouls i_evening i_sights i_seenStep i_seenCell i_isKept i_touches i_cushions i_p_row i_p_column i_p_down i_p_right i_p_cushions j_cells j_points j_fouls j_evening j_sights j_seenStep j_seenCell j_isKept j_touches j_cushions j_p_row j_p_column j_p_down j_p_right j_p_cushions x_signs x_sign x_reason x_acts x_candourAt p_row p_column p_down p_right p_cushions x_met x_reached x_firstWay x_queue x_queued x_fitting x_byCell x_wins x_ways)) (hi : bIn i 81) (hdg : decode cc pc = .ok (.lastore, 1)) (kk : ∀ (H1 : Heap) (locs1 : List Loc), Wo D A s.heap H1 locs1 (WX0 h E t_cells t_points t_fouls t_evening t_sights t_seenStep t_seenCell t_isKept t_touches t_cushions t_p_row t_p_column t_p_down t_p_right t_p_cushions n_cells n_points n_fouls n_evening n_sights n_seenStep n_seenCell n_isKept n_touches n_cushions n_p_row n_p_column n_p_down n_p_right n_p_cushions i_cells i_points i_fouls i_evening i_sights i_seenStep i_seenCell i_isKept i_touches i_cushions i_p_row i_p_column i_p_down i_p_right i_p_cushions j_cells j_points j_fouls j_evening j_sights j_seenStep j_seenCell j_isKept j_touches j_cushions j_p_row j_p_column j_p_down j_p_right j_p_cushions x_signs x_sign x_reason x_acts x_candourAt p_row p_column p_down p_right p_cushions x_met x_reached x_firstWay x_queue x_queued x_fitting x_byCell x_wins (vp_updL x_ways i.toNatClampNeg x)) → W p l e R s m args below meth c H1 locs1 cel slo Q (F0 m (pc + 1) ls rest)) : W p l e R s m args below meth c H locs cel slo Q (F0 m pc ls (.long x :: .int i :: .ref (h 31) :: rest)) :=
  va_last hC.1.1 hC.1.2.1 hC.2.1.1 hw.1 hw.2.1 hw.2.2 31 3 rfl rfl (bIn_in hi) hdg (fun H1 l1 a b c => kk H1 l1 ⟨a, b, c⟩)
theorem aX0_x_ways {own : String} {i : Int32} (hC : Cx p m c cc nL s args own D E A) (hw : Wo D A s.heap H locs (WX0 h E t_cells t_points t_fouls t_evening t_sights t_seenStep t_seenCell t_isKept t_touches t_cushions t_p_row t_p_column t_p_down t_p_right t_p_cushions n_cells n_points n_fouls n_evening n_sights n_seenStep n_seenCell n_isKept n_touches n_cushions n_p_row n_p_column n_p_down n_p_right n_p_cushions i_cells i_points i_fouls i_evening i_sights i_seenStep i_seenCell i_isKept i_touches i_cushions i_p_row i_p_column i_p_down i_p_right i_p_cushions j_cells j_points j_fouls j_evening j_sights j_seenStep j_seenCell j_isKept j_touches j_cushions j_p_row j_p_column j_p_down j_p_right j_p_cushions x_signs x_sign x_reason x_acts x_candourAt p_row p_column p_down p_right p_cushions x_met x_reached x_firstWay x_queue x_queued x_fitting x_byCell x_wins x_ways)) (hi : bIn i 81) (hdg : decode cc pc = .ok (.laload, 1)) (kk : W p l e R s m args below meth c H locs cel slo Q (F0 m (pc + 1) ls (.long (x_ways i.toNatClampNeg) :: rest))) : W p l e R s m args below meth c H locs cel slo Q (F0 m pc ls (.int i :: .ref (h 31) :: rest)) :=
  va_lald hC.1.1 hC.1.2.1 hC.2.1.1 hw.1 31 3 rfl rfl (bIn_in hi) hdg kk
theorem gX0_this_images (hC : Cx p m c cc nL s args RX0 D E A) (hw : Wo D A s.heap H locs (WX0 h E t_cells t_points t_fouls t_evening t_sights t_seenStep t_seenCell t_isKept t_touches t_cushions t_p_row t_p_column t_p_down t_p_right t_p_cushions n_cells n_points n_fouls n_evening n_sights n_seenStep n_seenCell n_isKept n_touches n_cushions n_p_row n_p_column n_p_down n_p_right n_p_cushions i_cells i_points i_fouls i_evening i_sights i_seenStep i_seenCell i_isKept i_touches i_cushions i_p_row i_p_column i_p_down i_p_right i_p_cushions j_cells j_points j_fouls j_evening j_sights j_seenStep j_seenCell j_isKept j_touches j_cushions j_p_row j_p_column j_p_down j_p_right j_p_cushions x_signs x_sign x_reason x_acts x_candourAt p_row p_column p_down p_right p_cushions x_met x_reached x_firstWay x_queue x_queued x_fitting x_byCell x_wins x_ways)) (hdg : decode cc pc = .ok (.getfield 23, 3)) (kk : W p l e R s m args below meth c H locs cel slo Q (F0 m (pc + 3) ls (.ref (h 11) :: rest))) : W p l e R s m args below meth c H locs cel slo Q (F0 m pc ls (.ref (h 0) :: rest)) :=
  va_get (D := D) (ci := 0) (C := RX0) (T := TX0) (N := 18) hC.1.1 hC.1.2.1 hC.1.2.2.2.2 in_X0 hC.1.2.2.2.1 hC.2.1.1 hw.1 0 rfl rfl 2 (by decide) (hC.1.2.2.2.2 _ q140) (fun _ h9 => h9) rfl hdg kk
set_option maxHeartbeats 4000000 in
theorem ccX0_i_t {z_d_cells : Nat → Int32} {z_d_points : Int32} {z_d_fouls : Int32} {z_d_evening : Int32} {z_d_sights : Int32} {z_d_seenStep : Nat → Int32} {z_d_seenCell : Nat → Int32} {z_d_isKept : Int32} {z_d_touches : Int32} {z_d_cushions : Int32} {z_d_p_row : Int32} {z_d_p_column : Int32} {z_d_p_down : Int32} {z_d_p_right : Int32} {z_d_p_cushions : Int32} {z_s_cells : Nat → Int32} {z_s_points : Int32} {z_s_fouls : Int32} {z_s_evening : Int32} {z_s_sights : Int32} {z_s_seenStep : Nat → Int32} {z_s_seenCell : Nat → Int32} {z_s_isKept : Int32} {z_s_touches : Int32} {z_s_cushions : Int32} {z_s_p_row : Int32} {z_s_p_column : Int32} {z_s_p_down : Int32} {z_s_p_right : Int32} {z_s_p_cushions : Int32} (hC : Cx p m c cc nL s args RX0 D E A) (hsz : ls.size = nL) (hw : Wo D A s.heap H locs (WX0 h E t_cells t_points t_fouls t_evening t_sights t_seenStep t_seenCell t_isKept t_touches t_cushions t_p_row t_p_column t_p_down t_p_right t_p_cushions n_cells n_points n_fouls n_evening n_sights n_seenStep n_seenCell n_isKept n_touches n_cushions n_p_row n_p_column n_p_down n_p_right n_p_cushions i_cells i_points i_fouls i_evening i_sights i_seenStep i_seenCell i_isKept i_touches i_cushions i_p_row i_p_column i_p_down i_p_right i_p_cushions j_cells j_points j_fouls j_evening j_sights j_seenStep j_seenCell j_isKept j_touches j_cushions j_p_row j_p_column j_p_down j_p_right j_p_cushions x_signs x_sign x_reason x_acts x_candourAt p_row p_column p_down p_right p_cushions x_met x_reached x_firstWay x_queue x_queued x_fitting x_byCell x_wins x_ways)) (hM : CtV l yX1_copy cX1_copy 2 2 D E H.size [.ref (h 12), .ref (h 1)] (WC (h 12) (h 13) (h 14) (h 15) (h 16) (h 1) (h 2) (h 3) (h 4) (h 5) E i_cells i_points i_fouls i_evening i_sights i_seenStep i_seenCell i_isKept i_touches i_cushions i_p_row i_p_column i_p_down i_p_right i_p_cushions t_cells t_points t_fouls t_evening t_sights t_seenStep t_seenCell t_isKept t_touches t_cushions t_p_row t_p_column t_p_down t_p_right t_p_cushions) (WC (h 12) (h 13) (h 14) (h 15) (h 16) (h 1) (h 2) (h 3) (h 4) (h 5) E z_d_cells z_d_points z_d_fouls z_d_evening z_d_sights z_d_seenStep z_d_seenCell z_d_isKept z_d_touches z_d_cushions z_d_p_row z_d_p_column z_d_p_down z_d_p_right z_d_p_cushions z_s_cells z_s_points z_s_fouls z_s_evening z_s_sights z_s_seenStep z_s_seenCell z_s_isKept z_s_touches z_s_cushions z_s_p_row z_s_p_column z_s_p_down z_s_p_right z_s_p_cushions)) (hR : (rmN 2).frames + 1 ≤ R.frames ∧ 8 + (2 + 11) + (rmN 2).locals ≤ R.locals) (hrest : (rest.map fun v => v.category).sum ≤ 8) (hdg : decode cc pc = .ok (.invokevirtual 116, 3)) (hf : cel ≤ R.cells ∧ slo ≤ R.slots) (kk : ∀ (H1 : Heap) (locs1 : List Loc), Wo D A s.heap H1 locs1 (WX0 h E z_s_cells z_s_points z_s_fouls z_s_evening z_s_sights z_s_seenStep z_s_seenCell z_s_isKept z_s_touches z_s_cushions z_s_p_row z_s_p_column z_s_p_down z_s_p_right z_s_p_cushions n_cells n_points n_fouls n_evening n_sights n_seenStep n_seenCell n_isKept n_touches n_cushions n_p_row n_p_column n_p_down n_p_right n_p_cushions z_d_cells z_d_points z_d_fouls z_d_evening z_d_sights z_d_seenStep z_d_seenCell z_d_isKept z_d_touches z_d_cushions z_d_p_row z_d_p_column z_d_p_down z_d_p_right z_d_p_cushions j_cells j_points j_fouls j_evening j_sights j_seenStep j_seenCell j_isKept j_touches j_cushions j_p_row j_p_column j_p_down j_p_right j_p_cushions x_signs x_sign x_reason x_acts x_candourAt p_row p_column p_down p_right p_cushions x_met x_reached x_firstWay x_queue x_queued x_fitting x_byCell x_wins x_ways) → W p l e R s m args below meth c H1 locs1 cel slo Q (F0 m (pc + 3) ls rest)) : W p l e R s m args below meth c H locs cel slo Q (F0 m pc ls (.ref (h 1) :: .ref (h 12) :: rest)) := by
  have hPc := hw.1.sub (ws' := (WC (h 12) (h 13) (h 14) (h 15) (h 16) (h 1) (h 2) (h 3) (h 4) (h 5) E i_cells i_points i_fouls i_evening i_sights i_seenStep i_seenCell i_isKept i_touches i_cushions i_p_row i_p_column i_p_down i_p_right i_p_cushions t_cells t_points t_fouls t_evening t_sights t_seenStep t_seenCell t_isKept t_touches t_cushions t_p_row t_p_column t_p_down t_p_right t_p_cushions)) [12, 13, 14, 15, 16, 1, 2, 3, 4, 5] rfl
  have hDc := hw.2.1.sub (ws' := (WC (h 12) (h 13) (h 14) (h 15) (h 16) (h 1) (h 2) (h 3) (h 4) (h 5) E i_cells i_points i_fouls i_evening i_sights i_seenStep i_seenCell i_isKept i_touches i_cushions i_p_row i_p_column i_p_down i_p_right i_p_cushions t_cells t_points t_fouls t_evening t_sights t_seenStep t_seenCell t_isKept t_touches t_cushions t_p_row t_p_column t_p_down t_p_right t_p_cushions)) [12, 13, 14, 15, 16, 1, 2, 3, 4, 5] (by decide) rfl
  have hFc := va_free (wc := (WC (h 12) (h 13) (h 14) (h 15) (h 16) (h 1) (h 2) (h 3) (h 4) (h 5) E i_cells i_points i_fouls i_evening i_sights i_seenStep i_seenCell i_isKept i_touches i_cushions i_p_row i_p_column i_p_down i_p_right i_p_cushions t_cells t_points t_fouls t_evening t_sights t_seenStep t_seenCell t_isKept t_touches t_cushions t_p_row t_p_column t_p_down t_p_right t_p_cushions)) hw.2.1 hw.2.2 hC.2.2 [12, 13, 14, 15, 16, 1, 2, 3, 4, 5] rfl
  refine va_callv (va_runV (As := [.ref (h 1)]) (rest := rest) hC.1 hM (cwV 1 hC.1.2.2.2.2 (lw_V q247 mi_X1_copy.1 mi_X1_copy.2.1 mi_X1_copy.2.2.1 mi_X1_copy.2.2.2.1) rfl rfl rfl mi_X1_copy.2.2.2.2.1 hR) (preV (ci := 1) (q0 := 0) (r := (RX1, TX1, 11)) hC.2.1 hPc hDc rfl rfl) rfl rfl hsz rfl (lv_room hrest) hdg hf) hw.2.2 (fun q _ h => hFc q h) hFc (fun u t H1 locs1 ht hvm hp hB hz hk hS => ?_)
  have hP1 := hB.1
  rw [ht] at hP1
  obtain ⟨hP2, hD2⟩ := va_join (w1 := (WC (h 12) (h 13) (h 14) (h 15) (h 16) (h 1) (h 2) (h 3) (h 4) (h 5) E z_d_cells z_d_points z_d_fouls z_d_evening z_d_sights z_d_seenStep z_d_seenCell z_d_isKept z_d_touches z_d_cushions z_d_p_row z_d_p_column z_d_p_down z_d_p_right z_d_p_cushions z_s_cells z_s_points z_s_fouls z_s_evening z_s_sights z_s_seenStep z_s_seenCell z_s_isKept z_s_touches z_s_cushions z_s_p_row z_s_p_column z_s_p_down z_s_p_right z_s_p_cushions)) hw.1 hw.2.1 [12, 13, 14, 15, 16, 1, 2, 3, 4, 5] [0, 6, 7, 8, 9, 10, 11, 17, 18, 19, 20, 21, 22, 23, 24, 25, 26, 27, 28, 29, 30, 31] rfl (wr := [0, 6, 7, 8, 9, 10, 11, 17, 18, 19, 20, 21, 22, 23, 24, 25, 26, 27, 28, 29, 30, 31].filterMap (fun i => (WX0 h E t_cells t_points t_fouls t_evening t_sights t_seenStep t_seenCell t_isKept t_touches t_cushions t_p_row t_p_column t_p_down t_p_right t_p_cushions n_cells n_points n_fouls n_evening n_sights n_seenStep n_seenCell n_isKept n_touches n_cushions n_p_row n_p_column n_p_down n_p_right n_p_cushions i_cells i_points i_fouls i_evening i_sights i_seenStep i_seenCell i_isKept i_touches i_cushions i_p_row i_p_column i_p_down i_p_right i_p_cushions j_cells j_points j_fouls j_evening j_sights j_seenStep j_seenCell j_isKept j_touches j_cushions j_p_row j_p_column j_p_down j_p_right j_p_cushions x_signs x_sign x_reason x_acts x_candourAt p_row p_column p_down p_right p_cushions x_met x_reached x_firstWay x_queue x_queued x_fitting x_byCell x_wins x_ways)[i]?)) rfl (by decide) (by decide) hk hFc hP1 hB.2
  exact kk H1 locs1 ⟨hP2.sub [0, 27, 28, 29, 30, 31, 1, 2, 3, 4, 5, 6, 22, 23, 24, 25, 26, 7, 8, 9, 10, 11, 12, 13, 14, 15, 16, 17, 18, 19, 20, 21] rfl, hD2.sub [0, 27, 28, 29, 30, 31, 1, 2, 3, 4, 5, 6, 22, 23, 24, 25, 26, 7, 8, 9, 10, 11, 12, 13, 14, 15, 16, 17, 18, 19, 20, 21] (by decide) rfl, hS⟩
theorem pX0_i_isKept_1 (hC : Cx p m c cc nL s args RX0 D E A) (hw : Wo D A s.heap H locs (WX0 h E t_cells t_points t_fouls t_evening t_sights t_seenStep t_seenCell t_isKept t_touches t_cushions t_p_row t_p_column t_p_down t_p_right t_p_cushions n_cells n_points n_fouls n_evening n_sights n_seenStep n_seenCell n_isKept n_touches n_cushions n_p_row n_p_column n_p_down n_p_right n_p_cushions i_cells i_points i_fouls i_evening i_sights i_seenStep i_seenCell i_isKept i_touches i_cushions i_p_row i_p_column i_p_down i_p_right i_p_cushions j_cells j_points j_fouls j_evening j_sights j_seenStep j_seenCell j_isKept j_touches j_cushions j_p_row j_p_column j_p_down j_p_right j_p_cushions x_signs x_sign x_reason x_acts x_candourAt p_row p_column p_down p_right p_cushions x_met x_reached x_firstWay x_queue x_queued x_fitting x_byCell x_wins x_ways)) (hdg : decode cc pc = .ok (.putfield 254, 3)) (kk : ∀ (H1 : Heap) (locs1 : List Loc), Wo D A s.heap H1 locs1 (WX0 h E t_cells t_points t_fouls t_evening t_sights t_seenStep t_seenCell t_isKept t_touches t_cushions t_p_row t_p_column t_p_down t_p_right t_p_cushions n_cells n_points n_fouls n_evening n_sights n_seenStep n_seenCell n_isKept n_touches n_cushions n_p_row n_p_column n_p_down n_p_right n_p_cushions i_cells i_points i_fouls i_evening i_sights i_seenStep i_seenCell 1 i_touches i_cushions i_p_row i_p_column i_p_down i_p_right i_p_cushions j_cells j_points j_fouls j_evening j_sights j_seenStep j_seenCell j_isKept j_touches j_cushions j_p_row j_p_column j_p_down j_p_right j_p_cushions x_signs x_sign x_reason x_acts x_candourAt p_row p_column p_down p_right p_cushions x_met x_reached x_firstWay x_queue x_queued x_fitting x_byCell x_wins x_ways) → W p l e R s m args below meth c H1 locs1 cel slo Q (F0 m (pc + 3) ls rest)) : W p l e R s m args below meth c H locs cel slo Q (F0 m pc ls (.int 1 :: .ref (h 12) :: rest)) :=
  va_putN (D := D) (ci := 1) (v := .int 1) (ty := .boolean) (C := RX1) (T := TX1) (N := 11) hC.1.1 hC.1.2.1 hC.1.2.2.2.2 in_X1 tyX1 tyX1_ok nmX1 hC.1.2.2.2.1 hC.2.1.1 hw.1 hw.2.1 hw.2.2 12 rfl rfl 7 (by decide) (va_Nw.use rfl (nq106 hC.2.1.2)) (fun _ h9 => h9) rfl (by decide +kernel) rfl rfl (Nat.le_of_ble_eq_true rfl) hdg (fun H1 l1 a b c => kk H1 l1 ⟨a, b, c⟩)
theorem pX0_j_isKept_1 (hC : Cx p m c cc nL s args RX0 D E A) (hw : Wo D A s.heap H locs (WX0 h E t_cells t_points t_fouls t_evening t_sights t_seenStep t_seenCell t_isKept t_touches t_cushions t_p_row t_p_column t_p_down t_p_right t_p_cushions n_cells n_points n_fouls n_evening n_sights n_seenStep n_seenCell n_isKept n_touches n_cushions n_p_row n_p_column n_p_down n_p_right n_p_cushions i_cells i_points i_fouls i_evening i_sights i_seenStep i_seenCell i_isKept i_touches i_cushions i_p_row i_p_column i_p_down i_p_right i_p_cushions j_cells j_points j_fouls j_evening j_sights j_seenStep j_seenCell j_isKept j_touches j_cushions j_p_row j_p_column j_p_down j_p_right j_p_cushions x_signs x_sign x_reason x_acts x_candourAt p_row p_column p_down p_right p_cushions x_met x_reached x_firstWay x_queue x_queued x_fitting x_byCell x_wins x_ways)) (hdg : decode cc pc = .ok (.putfield 254, 3)) (kk : ∀ (H1 : Heap) (locs1 : List Loc), Wo D A s.heap H1 locs1 (WX0 h E t_cells t_points t_fouls t_evening t_sights t_seenStep t_seenCell t_isKept t_touches t_cushions t_p_row t_p_column t_p_down t_p_right t_p_cushions n_cells n_points n_fouls n_evening n_sights n_seenStep n_seenCell n_isKept n_touches n_cushions n_p_row n_p_column n_p_down n_p_right n_p_cushions i_cells i_points i_fouls i_evening i_sights i_seenStep i_seenCell i_isKept i_touches i_cushions i_p_row i_p_column i_p_down i_p_right i_p_cushions j_cells j_points j_fouls j_evening j_sights j_seenStep j_seenCell 1 j_touches j_cushions j_p_row j_p_column j_p_down j_p_right j_p_cushions x_signs x_sign x_reason x_acts x_candourAt p_row p_column p_down p_right p_cushions x_met x_reached x_firstWay x_queue x_queued x_fitting x_byCell x_wins x_ways) → W p l e R s m args below meth c H1 locs1 cel slo Q (F0 m (pc + 3) ls rest)) : W p l e R s m args below meth c H locs cel slo Q (F0 m pc ls (.int 1 :: .ref (h 17) :: rest)) :=
  va_putN (D := D) (ci := 1) (v := .int 1) (ty := .boolean) (C := RX1) (T := TX1) (N := 11) hC.1.1 hC.1.2.1 hC.1.2.2.2.2 in_X1 tyX1 tyX1_ok nmX1 hC.1.2.2.2.1 hC.2.1.1 hw.1 hw.2.1 hw.2.2 17 rfl rfl 7 (by decide) (va_Nw.use rfl (nq106 hC.2.1.2)) (fun _ h9 => h9) rfl (by decide +kernel) rfl rfl (Nat.le_of_ble_eq_true rfl) hdg (fun H1 l1 a b c => kk H1 l1 ⟨a, b, c⟩)
theorem aX0_img0 {own : String} {i : Int32} (hC : Cx p m c cc nL s args own D E A) (hw : Wo D A s.heap H locs (WX0 h E t_cells t_points t_fouls t_evening t_sights t_seenStep t_seenCell t_isKept t_touches t_cushions t_p_row t_p_column t_p_down t_p_right t_p_cushions n_cells n_points n_fouls n_evening n_sights n_seenStep n_seenCell n_isKept n_touches n_cushions n_p_row n_p_column n_p_down n_p_right n_p_cushions i_cells i_points i_fouls i_evening i_sights i_seenStep i_seenCell i_isKept i_touches i_cushions i_p_row i_p_column i_p_down i_p_right i_p_cushions j_cells j_points j_fouls j_evening j_sights j_seenStep j_seenCell j_isKept j_touches j_cushions j_p_row j_p_column j_p_down j_p_right j_p_cushions x_signs x_sign x_reason x_acts x_candourAt p_row p_column p_down p_right p_cushions x_met x_reached x_firstWay x_queue x_queued x_fitting x_byCell x_wins x_ways)) (hi : i = 0) (hdg : decode cc pc = .ok (.aaload, 1)) (kk : W p l e R s m args below meth c H locs cel slo Q (F0 m (pc + 1) ls (.ref (h 12) :: rest))) : W p l e R s m args below meth c H locs cel slo Q (F0 m pc ls (.int i :: .ref (h 11) :: rest)) := by
  subst hi
  exact va_aldq hC.1.1 hC.1.2.1 hC.2.1.1 hw.1 11 4 rfl rfl (bIn_in (by decide)) hdg kk
theorem aX0_img1 {own : String} {i : Int32} (hC : Cx p m c cc nL s args own D E A) (hw : Wo D A s.heap H locs (WX0 h E t_cells t_points t_fouls t_evening t_sights t_seenStep t_seenCell t_isKept t_touches t_cushions t_p_row t_p_column t_p_down t_p_right t_p_cushions n_cells n_points n_fouls n_evening n_sights n_seenStep n_seenCell n_isKept n_touches n_cushions n_p_row n_p_column n_p_down n_p_right n_p_cushions i_cells i_points i_fouls i_evening i_sights i_seenStep i_seenCell i_isKept i_touches i_cushions i_p_row i_p_column i_p_down i_p_right i_p_cushions j_cells j_points j_fouls j_evening j_sights j_seenStep j_seenCell j_isKept j_touches j_cushions j_p_row j_p_column j_p_down j_p_right j_p_cushions x_signs x_sign x_reason x_acts x_candourAt p_row p_column p_down p_right p_cushions x_met x_reached x_firstWay x_queue x_queued x_fitting x_byCell x_wins x_ways)) (hi : i = 1) (hdg : decode cc pc = .ok (.aaload, 1)) (kk : W p l e R s m args below meth c H locs cel slo Q (F0 m (pc + 1) ls (.ref (h 17) :: rest))) : W p l e R s m args below meth c H locs cel slo Q (F0 m pc ls (.int i :: .ref (h 11) :: rest)) := by
  subst hi
  exact va_aldq hC.1.1 hC.1.2.1 hC.2.1.1 hw.1 11 4 rfl rfl (bIn_in (by decide)) hdg kk
set_option maxHeartbeats 4000000 in
theorem ccX0_j_t {z_d_cells : Nat → Int32} {z_d_points : Int32} {z_d_fouls : Int32} {z_d_evening : Int32} {z_d_sights : Int32} {z_d_seenStep : Nat → Int32} {z_d_seenCell : Nat → Int32} {z_d_isKept : Int32} {z_d_touches : Int32} {z_d_cushions : Int32} {z_d_p_row : Int32} {z_d_p_column : Int32} {z_d_p_down : Int32} {z_d_p_right : Int32} {z_d_p_cushions : Int32} {z_s_cells : Nat → Int32} {z_s_points : Int32} {z_s_fouls : Int32} {z_s_evening : Int32} {z_s_sights : Int32} {z_s_seenStep : Nat → Int32} {z_s_seenCell : Nat → Int32} {z_s_isKept : Int32} {z_s_touches : Int32} {z_s_cushions : Int32} {z_s_p_row : Int32} {z_s_p_column : Int32} {z_s_p_down : Int32} {z_s_p_right : Int32} {z_s_p_cushions : Int32} (hC : Cx p m c cc nL s args RX0 D E A) (hsz : ls.size = nL) (hw : Wo D A s.heap H locs (WX0 h E t_cells t_points t_fouls t_evening t_sights t_seenStep t_seenCell t_isKept t_touches t_cushions t_p_row t_p_column t_p_down t_p_right t_p_cushions n_cells n_points n_fouls n_evening n_sights n_seenStep n_seenCell n_isKept n_touches n_cushions n_p_row n_p_column n_p_down n_p_right n_p_cushions i_cells i_points i_fouls i_evening i_sights i_seenStep i_seenCell i_isKept i_touches i_cushions i_p_row i_p_column i_p_down i_p_right i_p_cushions j_cells j_points j_fouls j_evening j_sights j_seenStep j_seenCell j_isKept j_touches j_cushions j_p_row j_p_column j_p_down j_p_right j_p_cushions x_signs x_sign x_reason x_acts x_candourAt p_row p_column p_down p_right p_cushions x_met x_reached x_firstWay x_queue x_queued x_fitting x_byCell x_wins x_ways)) (hM : CtV l yX1_copy cX1_copy 2 2 D E H.size [.ref (h 17), .ref (h 1)] (WC (h 17) (h 18) (h 19) (h 20) (h 21) (h 1) (h 2) (h 3) (h 4) (h 5) E j_cells j_points j_fouls j_evening j_sights j_seenStep j_seenCell j_isKept j_touches j_cushions j_p_row j_p_column j_p_down j_p_right j_p_cushions t_cells t_points t_fouls t_evening t_sights t_seenStep t_seenCell t_isKept t_touches t_cushions t_p_row t_p_column t_p_down t_p_right t_p_cushions) (WC (h 17) (h 18) (h 19) (h 20) (h 21) (h 1) (h 2) (h 3) (h 4) (h 5) E z_d_cells z_d_points z_d_fouls z_d_evening z_d_sights z_d_seenStep z_d_seenCell z_d_isKept z_d_touches z_d_cushions z_d_p_row z_d_p_column z_d_p_down z_d_p_right z_d_p_cushions z_s_cells z_s_points z_s_fouls z_s_evening z_s_sights z_s_seenStep z_s_seenCell z_s_isKept z_s_touches z_s_cushions z_s_p_row z_s_p_column z_s_p_down z_s_p_right z_s_p_cushions)) (hR : (rmN 2).frames + 1 ≤ R.frames ∧ 8 + (2 + 11) + (rmN 2).locals ≤ R.locals) (hrest : (rest.map fun v => v.category).sum ≤ 8) (hdg : decode cc pc = .ok (.invokevirtual 116, 3)) (hf : cel ≤ R.cells ∧ slo ≤ R.slots) (kk : ∀ (H1 : Heap) (locs1 : List Loc), Wo D A s.heap H1 locs1 (WX0 h E z_s_cells z_s_points z_s_fouls z_s_evening z_s_sights z_s_seenStep z_s_seenCell z_s_isKept z_s_touches z_s_cushions z_s_p_row z_s_p_column z_s_p_down z_s_p_right z_s_p_cushions n_cells n_points n_fouls n_evening n_sights n_seenStep n_seenCell n_isKept n_touches n_cushions n_p_row n_p_column n_p_down n_p_right n_p_cushions i_cells i_points i_fouls i_evening i_sights i_seenStep i_seenCell i_isKept i_touches i_cushions i_p_row i_p_column i_p_down i_p_right i_p_cushions z_d_cells z_d_points z_d_fouls z_d_evening z_d_sights z_d_seenStep z_d_seenCell z_d_isKept z_d_touches z_d_cushions z_d_p_row z_d_p_column z_d_p_down z_d_p_right z_d_p_cushions x_signs x_sign x_reason x_acts x_candourAt p_row p_column p_down p_right p_cushions x_met x_reached x_firstWay x_queue x_queued x_fitting x_byCell x_wins x_ways) → W p l e R s m args below meth c H1 locs1 cel slo Q (F0 m (pc + 3) ls rest)) : W p l e R s m args below meth c H locs cel slo Q (F0 m pc ls (.ref (h 1) :: .ref (h 17) :: rest)) := by
  have hPc := hw.1.sub (ws' := (WC (h 17) (h 18) (h 19) (h 20) (h 21) (h 1) (h 2) (h 3) (h 4) (h 5) E j_cells j_points j_fouls j_evening j_sights j_seenStep j_seenCell j_isKept j_touches j_cushions j_p_row j_p_column j_p_down j_p_right j_p_cushions t_cells t_points t_fouls t_evening t_sights t_seenStep t_seenCell t_isKept t_touches t_cushions t_p_row t_p_column t_p_down t_p_right t_p_cushions)) [17, 18, 19, 20, 21, 1, 2, 3, 4, 5] rfl
  have hDc := hw.2.1.sub (ws' := (WC (h 17) (h 18) (h 19) (h 20) (h 21) (h 1) (h 2) (h 3) (h 4) (h 5) E j_cells j_points j_fouls j_evening j_sights j_seenStep j_seenCell j_isKept j_touches j_cushions j_p_row j_p_column j_p_down j_p_right j_p_cushions t_cells t_points t_fouls t_evening t_sights t_seenStep t_seenCell t_isKept t_touches t_cushions t_p_row t_p_column t_p_down t_p_right t_p_cushions)) [17, 18, 19, 20, 21, 1, 2, 3, 4, 5] (by decide) rfl
  have hFc := va_free (wc := (WC (h 17) (h 18) (h 19) (h 20) (h 21) (h 1) (h 2) (h 3) (h 4) (h 5) E j_cells j_points j_fouls j_evening j_sights j_seenStep j_seenCell j_isKept j_touches j_cushions j_p_row j_p_column j_p_down j_p_right j_p_cushions t_cells t_points t_fouls t_evening t_sights t_seenStep t_seenCell t_isKept t_touches t_cushions t_p_row t_p_column t_p_down t_p_right t_p_cushions)) hw.2.1 hw.2.2 hC.2.2 [17, 18, 19, 20, 21, 1, 2, 3, 4, 5] rfl
  refine va_callv (va_runV (As := [.ref (h 1)]) (rest := rest) hC.1 hM (cwV 1 hC.1.2.2.2.2 (lw_V q247 mi_X1_copy.1 mi_X1_copy.2.1 mi_X1_copy.2.2.1 mi_X1_copy.2.2.2.1) rfl rfl rfl mi_X1_copy.2.2.2.2.1 hR) (preV (ci := 1) (q0 := 0) (r := (RX1, TX1, 11)) hC.2.1 hPc hDc rfl rfl) rfl rfl hsz rfl (lv_room hrest) hdg hf) hw.2.2 (fun q _ h => hFc q h) hFc (fun u t H1 locs1 ht hvm hp hB hz hk hS => ?_)
  have hP1 := hB.1
  rw [ht] at hP1
  obtain ⟨hP2, hD2⟩ := va_join (w1 := (WC (h 17) (h 18) (h 19) (h 20) (h 21) (h 1) (h 2) (h 3) (h 4) (h 5) E z_d_cells z_d_points z_d_fouls z_d_evening z_d_sights z_d_seenStep z_d_seenCell z_d_isKept z_d_touches z_d_cushions z_d_p_row z_d_p_column z_d_p_down z_d_p_right z_d_p_cushions z_s_cells z_s_points z_s_fouls z_s_evening z_s_sights z_s_seenStep z_s_seenCell z_s_isKept z_s_touches z_s_cushions z_s_p_row z_s_p_column z_s_p_down z_s_p_right z_s_p_cushions)) hw.1 hw.2.1 [17, 18, 19, 20, 21, 1, 2, 3, 4, 5] [0, 6, 7, 8, 9, 10, 11, 12, 13, 14, 15, 16, 22, 23, 24, 25, 26, 27, 28, 29, 30, 31] rfl (wr := [0, 6, 7, 8, 9, 10, 11, 12, 13, 14, 15, 16, 22, 23, 24, 25, 26, 27, 28, 29, 30, 31].filterMap (fun i => (WX0 h E t_cells t_points t_fouls t_evening t_sights t_seenStep t_seenCell t_isKept t_touches t_cushions t_p_row t_p_column t_p_down t_p_right t_p_cushions n_cells n_points n_fouls n_evening n_sights n_seenStep n_seenCell n_isKept n_touches n_cushions n_p_row n_p_column n_p_down n_p_right n_p_cushions i_cells i_points i_fouls i_evening i_sights i_seenStep i_seenCell i_isKept i_touches i_cushions i_p_row i_p_column i_p_down i_p_right i_p_cushions j_cells j_points j_fouls j_evening j_sights j_seenStep j_seenCell j_isKept j_touches j_cushions j_p_row j_p_column j_p_down j_p_right j_p_cushions x_signs x_sign x_reason x_acts x_candourAt p_row p_column p_down p_right p_cushions x_met x_reached x_firstWay x_queue x_queued x_fitting x_byCell x_wins x_ways)[i]?)) rfl (by decide) (by decide) hk hFc hP1 hB.2
  exact kk H1 locs1 ⟨hP2.sub [0, 27, 28, 29, 30, 31, 1, 2, 3, 4, 5, 6, 7, 8, 9, 10, 11, 22, 23, 24, 25, 26, 12, 13, 14, 15, 16, 17, 18, 19, 20, 21] rfl, hD2.sub [0, 27, 28, 29, 30, 31, 1, 2, 3, 4, 5, 6, 7, 8, 9, 10, 11, 22, 23, 24, 25, 26, 12, 13, 14, 15, 16, 17, 18, 19, 20, 21] (by decide) rfl, hS⟩
theorem gX0_i_isKept (hC : Cx p m c cc nL s args RX0 D E A) (hw : Wo D A s.heap H locs (WX0 h E t_cells t_points t_fouls t_evening t_sights t_seenStep t_seenCell t_isKept t_touches t_cushions t_p_row t_p_column t_p_down t_p_right t_p_cushions n_cells n_points n_fouls n_evening n_sights n_seenStep n_seenCell n_isKept n_touches n_cushions n_p_row n_p_column n_p_down n_p_right n_p_cushions i_cells i_points i_fouls i_evening i_sights i_seenStep i_seenCell i_isKept i_touches i_cushions i_p_row i_p_column i_p_down i_p_right i_p_cushions j_cells j_points j_fouls j_evening j_sights j_seenStep j_seenCell j_isKept j_touches j_cushions j_p_row j_p_column j_p_down j_p_right j_p_cushions x_signs x_sign x_reason x_acts x_candourAt p_row p_column p_down p_right p_cushions x_met x_reached x_firstWay x_queue x_queued x_fitting x_byCell x_wins x_ways)) (hdg : decode cc pc = .ok (.getfield 254, 3)) (kk : W p l e R s m args below meth c H locs cel slo Q (F0 m (pc + 3) ls (.int i_isKept :: rest))) : W p l e R s m args below meth c H locs cel slo Q (F0 m pc ls (.ref (h 12) :: rest)) :=
  va_getN (D := D) (ci := 1) (C := RX1) (T := TX1) (N := 11) hC.1.1 hC.1.2.1 hC.1.2.2.2.2 in_X1 hC.1.2.2.2.1 hC.2.1.1 hw.1 12 rfl rfl 7 (by decide) (va_Nw.use rfl (nq106 hC.2.1.2)) (fun _ h9 => h9) rfl hdg kk
set_option maxHeartbeats 4000000 in
theorem ccX0_t_i {z_d_cells : Nat → Int32} {z_d_points : Int32} {z_d_fouls : Int32} {z_d_evening : Int32} {z_d_sights : Int32} {z_d_seenStep : Nat → Int32} {z_d_seenCell : Nat → Int32} {z_d_isKept : Int32} {z_d_touches : Int32} {z_d_cushions : Int32} {z_d_p_row : Int32} {z_d_p_column : Int32} {z_d_p_down : Int32} {z_d_p_right : Int32} {z_d_p_cushions : Int32} {z_s_cells : Nat → Int32} {z_s_points : Int32} {z_s_fouls : Int32} {z_s_evening : Int32} {z_s_sights : Int32} {z_s_seenStep : Nat → Int32} {z_s_seenCell : Nat → Int32} {z_s_isKept : Int32} {z_s_touches : Int32} {z_s_cushions : Int32} {z_s_p_row : Int32} {z_s_p_column : Int32} {z_s_p_down : Int32} {z_s_p_right : Int32} {z_s_p_cushions : Int32} (hC : Cx p m c cc nL s args RX0 D E A) (hsz : ls.size = nL) (hw : Wo D A s.heap H locs (WX0 h E t_cells t_points t_fouls t_evening t_sights t_seenStep t_seenCell t_isKept t_touches t_cushions t_p_row t_p_column t_p_down t_p_right t_p_cushions n_cells n_points n_fouls n_evening n_sights n_seenStep n_seenCell n_isKept n_touches n_cushions n_p_row n_p_column n_p_down n_p_right n_p_cushions i_cells i_points i_fouls i_evening i_sights i_seenStep i_seenCell i_isKept i_touches i_cushions i_p_row i_p_column i_p_down i_p_right i_p_cushions j_cells j_points j_fouls j_evening j_sights j_seenStep j_seenCell j_isKept j_touches j_cushions j_p_row j_p_column j_p_down j_p_right j_p_cushions x_signs x_sign x_reason x_acts x_candourAt p_row p_column p_down p_right p_cushions x_met x_reached x_firstWay x_queue x_queued x_fitting x_byCell x_wins x_ways)) (hM : CtV l yX1_copy cX1_copy 2 2 D E H.size [.ref (h 1), .ref (h 12)] (WC (h 1) (h 2) (h 3) (h 4) (h 5) (h 12) (h 13) (h 14) (h 15) (h 16) E t_cells t_points t_fouls t_evening t_sights t_seenStep t_seenCell t_isKept t_touches t_cushions t_p_row t_p_column t_p_down t_p_right t_p_cushions i_cells i_points i_fouls i_evening i_sights i_seenStep i_seenCell i_isKept i_touches i_cushions i_p_row i_p_column i_p_down i_p_right i_p_cushions) (WC (h 1) (h 2) (h 3) (h 4) (h 5) (h 12) (h 13) (h 14) (h 15) (h 16) E z_d_cells z_d_points z_d_fouls z_d_evening z_d_sights z_d_seenStep z_d_seenCell z_d_isKept z_d_touches z_d_cushions z_d_p_row z_d_p_column z_d_p_down z_d_p_right z_d_p_cushions z_s_cells z_s_points z_s_fouls z_s_evening z_s_sights z_s_seenStep z_s_seenCell z_s_isKept z_s_touches z_s_cushions z_s_p_row z_s_p_column z_s_p_down z_s_p_right z_s_p_cushions)) (hR : (rmN 2).frames + 1 ≤ R.frames ∧ 8 + (2 + 11) + (rmN 2).locals ≤ R.locals) (hrest : (rest.map fun v => v.category).sum ≤ 8) (hdg : decode cc pc = .ok (.invokevirtual 116, 3)) (hf : cel ≤ R.cells ∧ slo ≤ R.slots) (kk : ∀ (H1 : Heap) (locs1 : List Loc), Wo D A s.heap H1 locs1 (WX0 h E z_d_cells z_d_points z_d_fouls z_d_evening z_d_sights z_d_seenStep z_d_seenCell z_d_isKept z_d_touches z_d_cushions z_d_p_row z_d_p_column z_d_p_down z_d_p_right z_d_p_cushions n_cells n_points n_fouls n_evening n_sights n_seenStep n_seenCell n_isKept n_touches n_cushions n_p_row n_p_column n_p_down n_p_right n_p_cushions z_s_cells z_s_points z_s_fouls z_s_evening z_s_sights z_s_seenStep z_s_seenCell z_s_isKept z_s_touches z_s_cushions z_s_p_row z_s_p_column z_s_p_down z_s_p_right z_s_p_cushions j_cells j_points j_fouls j_evening j_sights j_seenStep j_seenCell j_isKept j_touches j_cushions j_p_row j_p_column j_p_down j_p_right j_p_cushions x_signs x_sign x_reason x_acts x_candourAt p_row p_column p_down p_right p_cushions x_met x_reached x_firstWay x_queue x_queued x_fitting x_byCell x_wins x_ways) → W p l e R s m args below meth c H1 locs1 cel slo Q (F0 m (pc + 3) ls rest)) : W p l e R s m args below meth c H locs cel slo Q (F0 m pc ls (.ref (h 12) :: .ref (h 1) :: rest)) := by
  have hPc := hw.1.sub (ws' := (WC (h 1) (h 2) (h 3) (h 4) (h 5) (h 12) (h 13) (h 14) (h 15) (h 16) E t_cells t_points t_fouls t_evening t_sights t_seenStep t_seenCell t_isKept t_touches t_cushions t_p_row t_p_column t_p_down t_p_right t_p_cushions i_cells i_points i_fouls i_evening i_sights i_seenStep i_seenCell i_isKept i_touches i_cushions i_p_row i_p_column i_p_down i_p_right i_p_cushions)) [1, 2, 3, 4, 5, 12, 13, 14, 15, 16] rfl
  have hDc := hw.2.1.sub (ws' := (WC (h 1) (h 2) (h 3) (h 4) (h 5) (h 12) (h 13) (h 14) (h 15) (h 16) E t_cells t_points t_fouls t_evening t_sights t_seenStep t_seenCell t_isKept t_touches t_cushions t_p_row t_p_column t_p_down t_p_right t_p_cushions i_cells i_points i_fouls i_evening i_sights i_seenStep i_seenCell i_isKept i_touches i_cushions i_p_row i_p_column i_p_down i_p_right i_p_cushions)) [1, 2, 3, 4, 5, 12, 13, 14, 15, 16] (by decide) rfl
  have hFc := va_free (wc := (WC (h 1) (h 2) (h 3) (h 4) (h 5) (h 12) (h 13) (h 14) (h 15) (h 16) E t_cells t_points t_fouls t_evening t_sights t_seenStep t_seenCell t_isKept t_touches t_cushions t_p_row t_p_column t_p_down t_p_right t_p_cushions i_cells i_points i_fouls i_evening i_sights i_seenStep i_seenCell i_isKept i_touches i_cushions i_p_row i_p_column i_p_down i_p_right i_p_cushions)) hw.2.1 hw.2.2 hC.2.2 [1, 2, 3, 4, 5, 12, 13, 14, 15, 16] rfl
  refine va_callv (va_runV (As := [.ref (h 12)]) (rest := rest) hC.1 hM (cwV 1 hC.1.2.2.2.2 (lw_V q247 mi_X1_copy.1 mi_X1_copy.2.1 mi_X1_copy.2.2.1 mi_X1_copy.2.2.2.1) rfl rfl rfl mi_X1_copy.2.2.2.2.1 hR) (preV (ci := 1) (q0 := 0) (r := (RX1, TX1, 11)) hC.2.1 hPc hDc rfl rfl) rfl rfl hsz rfl (lv_room hrest) hdg hf) hw.2.2 (fun q _ h => hFc q h) hFc (fun u t H1 locs1 ht hvm hp hB hz hk hS => ?_)
  have hP1 := hB.1
  rw [ht] at hP1
  obtain ⟨hP2, hD2⟩ := va_join (w1 := (WC (h 1) (h 2) (h 3) (h 4) (h 5) (h 12) (h 13) (h 14) (h 15) (h 16) E z_d_cells z_d_points z_d_fouls z_d_evening z_d_sights z_d_seenStep z_d_seenCell z_d_isKept z_d_touches z_d_cushions z_d_p_row z_d_p_column z_d_p_down z_d_p_right z_d_p_cushions z_s_cells z_s_points z_s_fouls z_s_evening z_s_sights z_s_seenStep z_s_seenCell z_s_isKept z_s_touches z_s_cushions z_s_p_row z_s_p_column z_s_p_down z_s_p_right z_s_p_cushions)) hw.1 hw.2.1 [1, 2, 3, 4, 5, 12, 13, 14, 15, 16] [0, 6, 7, 8, 9, 10, 11, 17, 18, 19, 20, 21, 22, 23, 24, 25, 26, 27, 28, 29, 30, 31] rfl (wr := [0, 6, 7, 8, 9, 10, 11, 17, 18, 19, 20, 21, 22, 23, 24, 25, 26, 27, 28, 29, 30, 31].filterMap (fun i => (WX0 h E t_cells t_points t_fouls t_evening t_sights t_seenStep t_seenCell t_isKept t_touches t_cushions t_p_row t_p_column t_p_down t_p_right t_p_cushions n_cells n_points n_fouls n_evening n_sights n_seenStep n_seenCell n_isKept n_touches n_cushions n_p_row n_p_column n_p_down n_p_right n_p_cushions i_cells i_points i_fouls i_evening i_sights i_seenStep i_seenCell i_isKept i_touches i_cushions i_p_row i_p_column i_p_down i_p_right i_p_cushions j_cells j_points j_fouls j_evening j_sights j_seenStep j_seenCell j_isKept j_touches j_cushions j_p_row j_p_column j_p_down j_p_right j_p_cushions x_signs x_sign x_reason x_acts x_candourAt p_row p_column p_down p_right p_cushions x_met x_reached x_firstWay x_queue x_queued x_fitting x_byCell x_wins x_ways)[i]?)) rfl (by decide) (by decide) hk hFc hP1 hB.2
  exact kk H1 locs1 ⟨hP2.sub [0, 22, 23, 24, 25, 26, 1, 2, 3, 4, 5, 6, 27, 28, 29, 30, 31, 7, 8, 9, 10, 11, 12, 13, 14, 15, 16, 17, 18, 19, 20, 21] rfl, hD2.sub [0, 22, 23, 24, 25, 26, 1, 2, 3, 4, 5, 6, 27, 28, 29, 30, 31, 7, 8, 9, 10, 11, 12, 13, 14, 15, 16, 17, 18, 19, 20, 21] (by decide) rfl, hS⟩
set_option maxHeartbeats 4000000 in
theorem ccX0_t_j {z_d_cells : Nat → Int32} {z_d_points : Int32} {z_d_fouls : Int32} {z_d_evening : Int32} {z_d_sights : Int32} {z_d_seenStep : Nat → Int32} {z_d_seenCell : Nat → Int32} {z_d_isKept : Int32} {z_d_touches : Int32} {z_d_cushions : Int32} {z_d_p_row : Int32} {z_d_p_column : Int32} {z_d_p_down : Int32} {z_d_p_right : Int32} {z_d_p_cushions : Int32} {z_s_cells : Nat → Int32} {z_s_points : Int32} {z_s_fouls : Int32} {z_s_evening : Int32} {z_s_sights : Int32} {z_s_seenStep : Nat → Int32} {z_s_seenCell : Nat → Int32} {z_s_isKept : Int32} {z_s_touches : Int32} {z_s_cushions : Int32} {z_s_p_row : Int32} {z_s_p_column : Int32} {z_s_p_down : Int32} {z_s_p_right : Int32} {z_s_p_cushions : Int32} (hC : Cx p m c cc nL s args RX0 D E A) (hsz : ls.size = nL) (hw : Wo D A s.heap H locs (WX0 h E t_cells t_points t_fouls t_evening t_sights t_seenStep t_seenCell t_isKept t_touches t_cushions t_p_row t_p_column t_p_down t_p_right t_p_cushions n_cells n_points n_fouls n_evening n_sights n_seenStep n_seenCell n_isKept n_touches n_cushions n_p_row n_p_column n_p_down n_p_right n_p_cushions i_cells i_points i_fouls i_evening i_sights i_seenStep i_seenCell i_isKept i_touches i_cushions i_p_row i_p_column i_p_down i_p_right i_p_cushions j_cells j_points j_fouls j_evening j_sights j_seenStep j_seenCell j_isKept j_touches j_cushions j_p_row j_p_column j_p_down j_p_right j_p_cushions x_signs x_sign x_reason x_acts x_candourAt p_row p_column p_down p_right p_cushions x_met x_reached x_firstWay x_queue x_queued x_fitting x_byCell x_wins x_ways)) (hM : CtV l yX1_copy cX1_copy 2 2 D E H.size [.ref (h 1), .ref (h 17)] (WC (h 1) (h 2) (h 3) (h 4) (h 5) (h 17) (h 18) (h 19) (h 20) (h 21) E t_cells t_points t_fouls t_evening t_sights t_seenStep t_seenCell t_isKept t_touches t_cushions t_p_row t_p_column t_p_down t_p_right t_p_cushions j_cells j_points j_fouls j_evening j_sights j_seenStep j_seenCell j_isKept j_touches j_cushions j_p_row j_p_column j_p_down j_p_right j_p_cushions) (WC (h 1) (h 2) (h 3) (h 4) (h 5) (h 17) (h 18) (h 19) (h 20) (h 21) E z_d_cells z_d_points z_d_fouls z_d_evening z_d_sights z_d_seenStep z_d_seenCell z_d_isKept z_d_touches z_d_cushions z_d_p_row z_d_p_column z_d_p_down z_d_p_right z_d_p_cushions z_s_cells z_s_points z_s_fouls z_s_evening z_s_sights z_s_seenStep z_s_seenCell z_s_isKept z_s_touches z_s_cushions z_s_p_row z_s_p_column z_s_p_down z_s_p_right z_s_p_cushions)) (hR : (rmN 2).frames + 1 ≤ R.frames ∧ 8 + (2 + 11) + (rmN 2).locals ≤ R.locals) (hrest : (rest.map fun v => v.category).sum ≤ 8) (hdg : decode cc pc = .ok (.invokevirtual 116, 3)) (hf : cel ≤ R.cells ∧ slo ≤ R.slots) (kk : ∀ (H1 : Heap) (locs1 : List Loc), Wo D A s.heap H1 locs1 (WX0 h E z_d_cells z_d_points z_d_fouls z_d_evening z_d_sights z_d_seenStep z_d_seenCell z_d_isKept z_d_touches z_d_cushions z_d_p_row z_d_p_column z_d_p_down z_d_p_right z_d_p_cushions n_cells n_points n_fouls n_evening n_sights n_seenStep n_seenCell n_isKept n_touches n_cushions n_p_row n_p_column n_p_down n_p_right n_p_cushions i_cells i_points i_fouls i_evening i_sights i_seenStep i_seenCell i_isKept i_touches i_cushions i_p_row i_p_column i_p_down i_p_right i_p_cushions z_s_cells z_s_points z_s_fouls z_s_evening z_s_sights z_s_seenStep z_s_seenCell z_s_isKept z_s_touches z_s_cushions z_s_p_row z_s_p_column z_s_p_down z_s_p_right z_s_p_cushions x_signs x_sign x_reason x_acts x_candourAt p_row p_column p_down p_right p_cushions x_met x_reached x_firstWay x_queue x_queued x_fitting x_byCell x_wins x_ways) → W p l e R s m args below meth c H1 locs1 cel slo Q (F0 m (pc + 3) ls rest)) : W p l e R s m args below meth c H locs cel slo Q (F0 m pc ls (.ref (h 17) :: .ref (h 1) :: rest)) := by
  have hPc := hw.1.sub (ws' := (WC (h 1) (h 2) (h 3) (h 4) (h 5) (h 17) (h 18) (h 19) (h 20) (h 21) E t_cells t_points t_fouls t_evening t_sights t_seenStep t_seenCell t_isKept t_touches t_cushions t_p_row t_p_column t_p_down t_p_right t_p_cushions j_cells j_points j_fouls j_evening j_sights j_seenStep j_seenCell j_isKept j_touches j_cushions j_p_row j_p_column j_p_down j_p_right j_p_cushions)) [1, 2, 3, 4, 5, 17, 18, 19, 20, 21] rfl
  have hDc := hw.2.1.sub (ws' := (WC (h 1) (h 2) (h 3) (h 4) (h 5) (h 17) (h 18) (h 19) (h 20) (h 21) E t_cells t_points t_fouls t_evening t_sights t_seenStep t_seenCell t_isKept t_touches t_cushions t_p_row t_p_column t_p_down t_p_right t_p_cushions j_cells j_points j_fouls j_evening j_sights j_seenStep j_seenCell j_isKept j_touches j_cushions j_p_row j_p_column j_p_down j_p_right j_p_cushions)) [1, 2, 3, 4, 5, 17, 18, 19, 20, 21] (by decide) rfl
  have hFc := va_free (wc := (WC (h 1) (h 2) (h 3) (h 4) (h 5) (h 17) (h 18) (h 19) (h 20) (h 21) E t_cells t_points t_fouls t_evening t_sights t_seenStep t_seenCell t_isKept t_touches t_cushions t_p_row t_p_column t_p_down t_p_right t_p_cushions j_cells j_points j_fouls j_evening j_sights j_seenStep j_seenCell j_isKept j_touches j_cushions j_p_row j_p_column j_p_down j_p_right j_p_cushions)) hw.2.1 hw.2.2 hC.2.2 [1, 2, 3, 4, 5, 17, 18, 19, 20, 21] rfl
  refine va_callv (va_runV (As := [.ref (h 17)]) (rest := rest) hC.1 hM (cwV 1 hC.1.2.2.2.2 (lw_V q247 mi_X1_copy.1 mi_X1_copy.2.1 mi_X1_copy.2.2.1 mi_X1_copy.2.2.2.1) rfl rfl rfl mi_X1_copy.2.2.2.2.1 hR) (preV (ci := 1) (q0 := 0) (r := (RX1, TX1, 11)) hC.2.1 hPc hDc rfl rfl) rfl rfl hsz rfl (lv_room hrest) hdg hf) hw.2.2 (fun q _ h => hFc q h) hFc (fun u t H1 locs1 ht hvm hp hB hz hk hS => ?_)
  have hP1 := hB.1
  rw [ht] at hP1
  obtain ⟨hP2, hD2⟩ := va_join (w1 := (WC (h 1) (h 2) (h 3) (h 4) (h 5) (h 17) (h 18) (h 19) (h 20) (h 21) E z_d_cells z_d_points z_d_fouls z_d_evening z_d_sights z_d_seenStep z_d_seenCell z_d_isKept z_d_touches z_d_cushions z_d_p_row z_d_p_column z_d_p_down z_d_p_right z_d_p_cushions z_s_cells z_s_points z_s_fouls z_s_evening z_s_sights z_s_seenStep z_s_seenCell z_s_isKept z_s_touches z_s_cushions z_s_p_row z_s_p_column z_s_p_down z_s_p_right z_s_p_cushions)) hw.1 hw.2.1 [1, 2, 3, 4, 5, 17, 18, 19, 20, 21] [0, 6, 7, 8, 9, 10, 11, 12, 13, 14, 15, 16, 22, 23, 24, 25, 26, 27, 28, 29, 30, 31] rfl (wr := [0, 6, 7, 8, 9, 10, 11, 12, 13, 14, 15, 16, 22, 23, 24, 25, 26, 27, 28, 29, 30, 31].filterMap (fun i => (WX0 h E t_cells t_points t_fouls t_evening t_sights t_seenStep t_seenCell t_isKept t_touches t_cushions t_p_row t_p_column t_p_down t_p_right t_p_cushions n_cells n_points n_fouls n_evening n_sights n_seenStep n_seenCell n_isKept n_touches n_cushions n_p_row n_p_column n_p_down n_p_right n_p_cushions i_cells i_points i_fouls i_evening i_sights i_seenStep i_seenCell i_isKept i_touches i_cushions i_p_row i_p_column i_p_down i_p_right i_p_cushions j_cells j_points j_fouls j_evening j_sights j_seenStep j_seenCell j_isKept j_touches j_cushions j_p_row j_p_column j_p_down j_p_right j_p_cushions x_signs x_sign x_reason x_acts x_candourAt p_row p_column p_down p_right p_cushions x_met x_reached x_firstWay x_queue x_queued x_fitting x_byCell x_wins x_ways)[i]?)) rfl (by decide) (by decide) hk hFc hP1 hB.2
  exact kk H1 locs1 ⟨hP2.sub [0, 22, 23, 24, 25, 26, 1, 2, 3, 4, 5, 6, 7, 8, 9, 10, 11, 27, 28, 29, 30, 31, 12, 13, 14, 15, 16, 17, 18, 19, 20, 21] rfl, hD2.sub [0, 22, 23, 24, 25, 26, 1, 2, 3, 4, 5, 6, 7, 8, 9, 10, 11, 27, 28, 29, 30, 31, 12, 13, 14, 15, 16, 17, 18, 19, 20, 21] (by decide) rfl, hS⟩
theorem gX0_j_isKept (hC : Cx p m c cc nL s args RX0 D E A) (hw : Wo D A s.heap H locs (WX0 h E t_cells t_points t_fouls t_evening t_sights t_seenStep t_seenCell t_isKept t_touches t_cushions t_p_row t_p_column t_p_down t_p_right t_p_cushions n_cells n_points n_fouls n_evening n_sights n_seenStep n_seenCell n_isKept n_touches n_cushions n_p_row n_p_column n_p_down n_p_right n_p_cushions i_cells i_points i_fouls i_evening i_sights i_seenStep i_seenCell i_isKept i_touches i_cushions i_p_row i_p_column i_p_down i_p_right i_p_cushions j_cells j_points j_fouls j_evening j_sights j_seenStep j_seenCell j_isKept j_touches j_cushions j_p_row j_p_column j_p_down j_p_right j_p_cushions x_signs x_sign x_reason x_acts x_candourAt p_row p_column p_down p_right p_cushions x_met x_reached x_firstWay x_queue x_queued x_fitting x_byCell x_wins x_ways)) (hdg : decode cc pc = .ok (.getfield 254, 3)) (kk : W p l e R s m args below meth c H locs cel slo Q (F0 m (pc + 3) ls (.int j_isKept :: rest))) : W p l e R s m args below meth c H locs cel slo Q (F0 m pc ls (.ref (h 17) :: rest)) :=
  va_getN (D := D) (ci := 1) (C := RX1) (T := TX1) (N := 11) hC.1.1 hC.1.2.1 hC.1.2.2.2.2 in_X1 hC.1.2.2.2.1 hC.2.1.1 hw.1 17 rfl rfl 7 (by decide) (va_Nw.use rfl (nq106 hC.2.1.2)) (fun _ h9 => h9) rfl hdg kk
theorem gX0_t_evening (hC : Cx p m c cc nL s args RX0 D E A) (hw : Wo D A s.heap H locs (WX0 h E t_cells t_points t_fouls t_evening t_sights t_seenStep t_seenCell t_isKept t_touches t_cushions t_p_row t_p_column t_p_down t_p_right t_p_cushions n_cells n_points n_fouls n_evening n_sights n_seenStep n_seenCell n_isKept n_touches n_cushions n_p_row n_p_column n_p_down n_p_right n_p_cushions i_cells i_points i_fouls i_evening i_sights i_seenStep i_seenCell i_isKept i_touches i_cushions i_p_row i_p_column i_p_down i_p_right i_p_cushions j_cells j_points j_fouls j_evening j_sights j_seenStep j_seenCell j_isKept j_touches j_cushions j_p_row j_p_column j_p_down j_p_right j_p_cushions x_signs x_sign x_reason x_acts x_candourAt p_row p_column p_down p_right p_cushions x_met x_reached x_firstWay x_queue x_queued x_fitting x_byCell x_wins x_ways)) (hdg : decode cc pc = .ok (.getfield 141, 3)) (kk : W p l e R s m args below meth c H locs cel slo Q (F0 m (pc + 3) ls (.int t_evening :: rest))) : W p l e R s m args below meth c H locs cel slo Q (F0 m pc ls (.ref (h 1) :: rest)) :=
  va_getN (D := D) (ci := 1) (C := RX1) (T := TX1) (N := 11) hC.1.1 hC.1.2.1 hC.1.2.2.2.2 in_X1 hC.1.2.2.2.1 hC.2.1.1 hw.1 1 rfl rfl 3 (by decide) (va_Nw.use rfl (nq99 hC.2.1.2)) (fun _ h9 => h9) rfl hdg kk
end ROWSX0
section METX0
variable {l : Launch} {D : va_G} {E : Nat → ClassId} {sz : Nat}
variable {h : Nat → Nat}
variable {t_cells t_seenStep t_seenCell n_cells n_seenStep n_seenCell i_cells i_seenStep i_seenCell j_cells j_seenStep j_seenCell x_sign x_met x_reached x_firstWay x_queue x_fitting x_byCell x_wins : Nat → Int32}
variable {t_points t_fouls t_evening t_sights t_isKept t_touches t_cushions t_p_row t_p_column t_p_down t_p_right t_p_cushions n_points n_fouls n_evening n_sights n_isKept n_touches n_cushions n_p_row n_p_column n_p_down n_p_right n_p_cushions i_points i_fouls i_evening i_sights i_isKept i_touches i_cushions i_p_row i_p_column i_p_down i_p_right i_p_cushions j_points j_fouls j_evening j_sights j_isKept j_touches j_cushions j_p_row j_p_column j_p_down j_p_right j_p_cushions x_signs x_reason x_acts x_candourAt p_row p_column p_down p_right p_cushions x_queued : Int32}
variable {x_ways : Nat → Int64}
def fX0_ball_L57 (v1 : Int32) (v2 : Int32)   (t_cells : Nat → Int32) : Option (Int32 × (Nat → Int32)) := (if bIn v1 3 then (if (0 : Int32) ≤ v2 then (if bIn v1 3 then (some ((t_cells v1.toNatClampNeg), (upd t_cells v1.toNatClampNeg v2))) else none) else (if bIn v1 3 then (some ((t_cells v1.toNatClampNeg), (upd t_cells v1.toNatClampNeg (-6)))) else none)) else none)
def fX0_ball_L44 (v1 : Int32) (v2 : Int32)   (k0 : Int32) (t_cells : Nat → Int32) : Option (Int32 × (Nat → Int32)) := (if k0 < 0 then (fX0_ball_L57 v1 v2 t_cells) else (if k0 = v1 then (fX0_ball_L57 v1 v2 t_cells) else (some ((-3), t_cells))))
def fX0_ball_L28 (v1 : Int32) (v2 : Int32)   (t_cells : Nat → Int32) : Option (Int32 × (Nat → Int32)) := (if (0 : Int32) ≤ v2 then (Option.bind (fX1_ballOn v2 t_cells) fun z1 => (fX0_ball_L44 v1 v2 z1 t_cells)) else (fX0_ball_L44 v1 v2 v1 t_cells))
def fX0_ball (v1 : Int32) (v2 : Int32) (t_cells : Nat → Int32) : Option (Int32 × (Nat → Int32)) := (if (fX0_isBall v1) = 0 then (some ((-1), t_cells)) else (if v2 = (-1) then (fX0_ball_L28 v1 v2 t_cells) else (if (fX0_isCell v2) = 0 then (some ((-1), t_cells)) else (if (fX0_isPocket v2) = 0 then (fX0_ball_L28 v1 v2 t_cells) else (some ((-1), t_cells))))))
def fX0_score (v1 : Int32) (v2 : Int32) (t_points : Int32) (t_fouls : Int32) : Option (Int32 × Int32 × Int32) := (if (fX0_isIn v1 0 99) = 0 then (some ((-2), t_points, t_fouls)) else (if (fX0_isIn v2 0 99) = 0 then (some ((-2), t_points, t_fouls)) else (some ((((100 : Int32) * t_points) + t_fouls), v1, v2))))
def fX0_say (v1 : Int32) (x_signs : Int32) (x_sign : Nat → Int32) : Option (Int32 × Int32 × (Nat → Int32)) := (if (fX0_isIn v1 33 126) = 0 then (some ((-2), x_signs, x_sign)) else (if x_signs = 60 then (some ((-4), x_signs, x_sign)) else (if bIn x_signs 60 then (some ((x_signs + 1), (x_signs + 1), (upd x_sign x_signs.toNatClampNeg (vp_nar .char ((v1.toUInt32 % 65536).toInt32))))) else none)))
def fX0_wipe  (x_signs : Int32) : Option (Int32 × Int32) := (some (x_signs, 0))
def fX0_faultOf_L4  (x_signs : Int32) (x_sign : Nat → Int32)  : Nat → Int32 → Int32 → Option (Int32)
  | 0, _, _ => none
  | n + 1, v1, v2 => (if x_signs ≤ v2 then (if v1 = 0 then (some (-6)) else (some x_signs)) else (if bIn v2 60 then (if (0 : Int32) ≤ (fX0_step v1 (x_sign v2.toNatClampNeg)) then (fX0_faultOf_L4 x_signs x_sign n (fX0_step v1 (x_sign v2.toNatClampNeg)) (v2 + 1)) else (some v2)) else none))
def fX0_faultOf  (x_signs : Int32) (x_sign : Nat → Int32) : Option (Int32) := (fX0_faultOf_L4 x_signs x_sign FU 0 0)
def fX0_fault  (x_signs : Int32) (x_sign : Nat → Int32) : Option (Int32) := (Option.bind (fX0_faultOf x_signs x_sign) fun z1 => (some z1))
def fX0_act (v1 : Int32) (n_cells : Nat → Int32) (n_points : Int32) (n_fouls : Int32) (n_evening : Int32) (n_touches : Int32) (n_cushions : Int32) (n_p_row : Int32) (n_p_column : Int32) (n_p_down : Int32) (n_p_right : Int32) (n_p_cushions : Int32) (x_sign : Nat → Int32) (x_reason : Int32) : Option (Int32 × (Nat → Int32) × Int32 × Int32 × Int32 × Int32 × Int32 × Int32 × Int32 × Int32 × Int32 × Int32 × Int32) := (if bIn v1 60 then (if (x_sign v1.toNatClampNeg) = 46 then (Option.bind (fX1_pass n_evening) fun z3 => (some ((v1 + 1), n_cells, n_points, n_fouls, z3.2, n_touches, n_cushions, n_p_row, n_p_column, n_p_down, n_p_right, n_p_cushions, z3.1))) else (if (x_sign v1.toNatClampNeg) = 126 then (Option.bind (fX1_nap n_cells) fun z5 => (some ((v1 + 1), z5, n_points, n_fouls, n_evening, n_touches, n_cushions, n_p_row, n_p_column, n_p_down, n_p_right, n_p_cushions, 0))) else (if bIn v1 60 then (if bIn (v1 + 1) 60 then (if (x_sign (v1 + 1).toNatClampNeg) = 94 then (Option.bind (fX1_bringUp ((x_sign v1.toNatClampNeg) - 65) n_cells) fun z11 => (some ((v1 + 2), z11.2, n_points, n_fouls, n_evening, n_touches, n_cushions, n_p_row, n_p_column, n_p_down, n_p_right, n_p_cushions, z11.1))) else (if bIn (v1 + 1) 60 then (if bIn (v1 + 2) 60 then (Option.bind (fX1_stroke ((x_sign v1.toNatClampNeg) - 65) ((x_sign (v1 + 1).toNatClampNeg) - 48) ((x_sign (v1 + 2).toNatClampNeg) - 48) n_cells n_points n_fouls n_touches n_cushions n_p_row n_p_column n_p_down n_p_right n_p_cushions) fun z10 => (some ((v1 + 3), z10.2.1, z10.2.2.1, z10.2.2.2.1, n_evening, z10.2.2.2.2.1, z10.2.2.2.2.2.1, z10.2.2.2.2.2.2.1, z10.2.2.2.2.2.2.2.1, z10.2.2.2.2.2.2.2.2.1, z10.2.2.2.2.2.2.2.2.2.1, z10.2.2.2.2.2.2.2.2.2.2, z10.1))) else none) else none)) else none) else none))) else none)
def fX0_goCrises_L24  (t_cells : Nat → Int32) (t_points : Int32) (t_fouls : Int32) (t_evening : Int32) (t_sights : Int32) (t_seenStep : Nat → Int32) (t_seenCell : Nat → Int32) (x_signs : Int32) (x_sign : Nat → Int32)  : Nat → Int32 → (Nat → Int32) → Int32 → Int32 → Int32 → Int32 → (Nat → Int32) → (Nat → Int32) → Int32 → Int32 → Int32 → Int32 → Int32 → Int32 → Int32 → Int32 → Int32 → Int32 → Option (Int32 × (Nat → Int32) × Int32 × Int32 × Int32 × Int32 × (Nat → Int32) × (Nat → Int32) × Int32 × Int32 × Int32 × Int32 × Int32 × Int32 × Int32 × Int32 × Int32 × Int32)
  | 0, _, _, _, _, _, _, _, _, _, _, _, _, _, _, _, _, _, _ => none
  | n + 1, v1, n_cells, n_points, n_fouls, n_evening, n_sights, n_seenStep, n_seenCell, n_touches, n_cushions, n_p_row, n_p_column, n_p_down, n_p_right, n_p_cushions, x_reason, x_acts, x_candourAt => (if x_signs ≤ v1 then (some ((-6), n_cells, n_points, n_fouls, n_evening, n_sights, n_seenStep, n_seenCell, n_touches, n_cushions, n_p_row, n_p_column, n_p_down, n_p_right, n_p_cushions, x_reason, x_acts, x_candourAt)) else (Option.bind (fX0_act v1 n_cells n_points n_fouls n_evening n_touches n_cushions n_p_row n_p_column n_p_down n_p_right n_p_cushions x_sign x_reason) fun z2 => (if z2.2.2.2.2.2.2.2.2.2.2.2.2 ≤ 0 then (if z2.2.2.2.1 ≤ n_fouls then (fX0_goCrises_L24 t_cells t_points t_fouls t_evening t_sights t_seenStep t_seenCell x_signs x_sign n z2.1 z2.2.1 z2.2.2.1 z2.2.2.2.1 z2.2.2.2.2.1 n_sights n_seenStep n_seenCell z2.2.2.2.2.2.1 z2.2.2.2.2.2.2.1 z2.2.2.2.2.2.2.2.1 z2.2.2.2.2.2.2.2.2.1 z2.2.2.2.2.2.2.2.2.2.1 z2.2.2.2.2.2.2.2.2.2.2.1 z2.2.2.2.2.2.2.2.2.2.2.2.1 z2.2.2.2.2.2.2.2.2.2.2.2.2 (x_acts + 1) x_candourAt) else (if (0 : Int32) ≤ x_candourAt then (fX0_goCrises_L24 t_cells t_points t_fouls t_evening t_sights t_seenStep t_seenCell x_signs x_sign n z2.1 z2.2.1 z2.2.2.1 z2.2.2.2.1 z2.2.2.2.2.1 n_sights n_seenStep n_seenCell z2.2.2.2.2.2.1 z2.2.2.2.2.2.2.1 z2.2.2.2.2.2.2.2.1 z2.2.2.2.2.2.2.2.2.1 z2.2.2.2.2.2.2.2.2.2.1 z2.2.2.2.2.2.2.2.2.2.2.1 z2.2.2.2.2.2.2.2.2.2.2.2.1 z2.2.2.2.2.2.2.2.2.2.2.2.2 (x_acts + 1) x_candourAt) else (fX0_goCrises_L24 t_cells t_points t_fouls t_evening t_sights t_seenStep t_seenCell x_signs x_sign n z2.1 z2.2.1 z2.2.2.1 z2.2.2.2.1 z2.2.2.2.2.1 n_sights n_seenStep n_seenCell z2.2.2.2.2.2.1 z2.2.2.2.2.2.2.1 z2.2.2.2.2.2.2.2.1 z2.2.2.2.2.2.2.2.2.1 z2.2.2.2.2.2.2.2.2.2.1 z2.2.2.2.2.2.2.2.2.2.2.1 z2.2.2.2.2.2.2.2.2.2.2.2.1 z2.2.2.2.2.2.2.2.2.2.2.2.2 (x_acts + 1) x_acts))) else (some (x_acts, z2.2.1, z2.2.2.1, z2.2.2.2.1, z2.2.2.2.2.1, n_sights, n_seenStep, n_seenCell, z2.2.2.2.2.2.1, z2.2.2.2.2.2.2.1, z2.2.2.2.2.2.2.2.1, z2.2.2.2.2.2.2.2.2.1, z2.2.2.2.2.2.2.2.2.2.1, z2.2.2.2.2.2.2.2.2.2.2.1, z2.2.2.2.2.2.2.2.2.2.2.2.1, z2.2.2.2.2.2.2.2.2.2.2.2.2, x_acts, x_candourAt)))))
def fX0_goCrises  (t_cells : Nat → Int32) (t_points : Int32) (t_fouls : Int32) (t_evening : Int32) (t_sights : Int32) (t_seenStep : Nat → Int32) (t_seenCell : Nat → Int32) (n_cells : Nat → Int32) (n_points : Int32) (n_fouls : Int32) (n_evening : Int32) (n_sights : Int32) (n_seenStep : Nat → Int32) (n_seenCell : Nat → Int32) (n_touches : Int32) (n_cushions : Int32) (n_p_row : Int32) (n_p_column : Int32) (n_p_down : Int32) (n_p_right : Int32) (n_p_cushions : Int32) (x_signs : Int32) (x_sign : Nat → Int32) (x_reason : Int32) (x_acts : Int32) (x_candourAt : Int32) : Option (Int32 × (Nat → Int32) × Int32 × Int32 × Int32 × Int32 × (Nat → Int32) × (Nat → Int32) × Int32 × Int32 × Int32 × Int32 × Int32 × Int32 × Int32 × Int32 × Int32 × Int32) := (Option.bind (fX1_copy n_cells n_points n_fouls n_evening n_sights n_seenStep n_seenCell n_touches n_cushions t_cells t_points t_fouls t_evening t_sights t_seenStep t_seenCell) fun z1 => (fX0_goCrises_L24 t_cells t_points t_fouls t_evening t_sights t_seenStep t_seenCell x_signs x_sign FU 0 z1.1 z1.2.1 z1.2.2.1 z1.2.2.2.1 z1.2.2.2.2.1 z1.2.2.2.2.2.1 z1.2.2.2.2.2.2.1 z1.2.2.2.2.2.2.2.1 z1.2.2.2.2.2.2.2.2 n_p_row n_p_column n_p_down n_p_right n_p_cushions x_reason 0 (-6)))
def fX0_judge (v1 : Int32) (t_cells : Nat → Int32) (t_points : Int32) (t_fouls : Int32) (t_evening : Int32) (t_sights : Int32) (t_seenStep : Nat → Int32) (t_seenCell : Nat → Int32) (n_cells : Nat → Int32) (n_points : Int32) (n_fouls : Int32) (n_evening : Int32) (n_sights : Int32) (n_seenStep : Nat → Int32) (n_seenCell : Nat → Int32) (n_touches : Int32) (n_cushions : Int32) (n_p_row : Int32) (n_p_column : Int32) (n_p_down : Int32) (n_p_right : Int32) (n_p_cushions : Int32) (x_signs : Int32) (x_sign : Nat → Int32) (x_reason : Int32) (x_acts : Int32) (x_candourAt : Int32) : Option (Int32 × (Nat → Int32) × Int32 × Int32 × Int32 × Int32 × (Nat → Int32) × (Nat → Int32) × Int32 × Int32 × Int32 × Int32 × Int32 × Int32 × Int32 × Int32 × Int32 × Int32) := (if (fX0_isIn v1 0 2) = 0 then (some ((-2), n_cells, n_points, n_fouls, n_evening, n_sights, n_seenStep, n_seenCell, n_touches, n_cushions, n_p_row, n_p_column, n_p_down, n_p_right, n_p_cushions, x_reason, x_acts, x_candourAt)) else (Option.bind (fX0_faultOf x_signs x_sign) fun z1 => (if z1 < 0 then (Option.bind (fX0_goCrises t_cells t_points t_fouls t_evening t_sights t_seenStep t_seenCell n_cells n_points n_fouls n_evening n_sights n_seenStep n_seenCell n_touches n_cushions n_p_row n_p_column n_p_down n_p_right n_p_cushions x_signs x_sign x_reason x_acts x_candourAt) fun z2 => (if (2 : Int32) ≤ v1 then (if z2.1 < 0 then (some (z2.2.2.2.2.2.2.2.2.1, z2.2.1, z2.2.2.1, z2.2.2.2.1, z2.2.2.2.2.1, z2.2.2.2.2.2.1, z2.2.2.2.2.2.2.1, z2.2.2.2.2.2.2.2.1, z2.2.2.2.2.2.2.2.2.1, z2.2.2.2.2.2.2.2.2.2.1, z2.2.2.2.2.2.2.2.2.2.2.1, z2.2.2.2.2.2.2.2.2.2.2.2.1, z2.2.2.2.2.2.2.2.2.2.2.2.2.1, z2.2.2.2.2.2.2.2.2.2.2.2.2.2.1, z2.2.2.2.2.2.2.2.2.2.2.2.2.2.2.1, z2.2.2.2.2.2.2.2.2.2.2.2.2.2.2.2.1, z2.2.2.2.2.2.2.2.2.2.2.2.2.2.2.2.2.1, z2.2.2.2.2.2.2.2.2.2.2.2.2.2.2.2.2.2)) else (some ((-3), z2.2.1, z2.2.2.1, z2.2.2.2.1, z2.2.2.2.2.1, z2.2.2.2.2.2.1, z2.2.2.2.2.2.2.1, z2.2.2.2.2.2.2.2.1, z2.2.2.2.2.2.2.2.2.1, z2.2.2.2.2.2.2.2.2.2.1, z2.2.2.2.2.2.2.2.2.2.2.1, z2.2.2.2.2.2.2.2.2.2.2.2.1, z2.2.2.2.2.2.2.2.2.2.2.2.2.1, z2.2.2.2.2.2.2.2.2.2.2.2.2.2.1, z2.2.2.2.2.2.2.2.2.2.2.2.2.2.2.1, z2.2.2.2.2.2.2.2.2.2.2.2.2.2.2.2.1, z2.2.2.2.2.2.2.2.2.2.2.2.2.2.2.2.2.1, z2.2.2.2.2.2.2.2.2.2.2.2.2.2.2.2.2.2))) else (if z2.1 < 0 then (some (z2.1, z2.2.1, z2.2.2.1, z2.2.2.2.1, z2.2.2.2.2.1, z2.2.2.2.2.2.1, z2.2.2.2.2.2.2.1, z2.2.2.2.2.2.2.2.1, z2.2.2.2.2.2.2.2.2.1, z2.2.2.2.2.2.2.2.2.2.1, z2.2.2.2.2.2.2.2.2.2.2.1, z2.2.2.2.2.2.2.2.2.2.2.2.1, z2.2.2.2.2.2.2.2.2.2.2.2.2.1, z2.2.2.2.2.2.2.2.2.2.2.2.2.2.1, z2.2.2.2.2.2.2.2.2.2.2.2.2.2.2.1, z2.2.2.2.2.2.2.2.2.2.2.2.2.2.2.2.1, z2.2.2.2.2.2.2.2.2.2.2.2.2.2.2.2.2.1, z2.2.2.2.2.2.2.2.2.2.2.2.2.2.2.2.2.2)) else (if v1 = 0 then (some (z2.1, z2.2.1, z2.2.2.1, z2.2.2.2.1, z2.2.2.2.2.1, z2.2.2.2.2.2.1, z2.2.2.2.2.2.2.1, z2.2.2.2.2.2.2.2.1, z2.2.2.2.2.2.2.2.2.1, z2.2.2.2.2.2.2.2.2.2.1, z2.2.2.2.2.2.2.2.2.2.2.1, z2.2.2.2.2.2.2.2.2.2.2.2.1, z2.2.2.2.2.2.2.2.2.2.2.2.2.1, z2.2.2.2.2.2.2.2.2.2.2.2.2.2.1, z2.2.2.2.2.2.2.2.2.2.2.2.2.2.2.1, z2.2.2.2.2.2.2.2.2.2.2.2.2.2.2.2.1, z2.2.2.2.2.2.2.2.2.2.2.2.2.2.2.2.2.1, z2.2.2.2.2.2.2.2.2.2.2.2.2.2.2.2.2.2)) else (some (z2.2.2.2.2.2.2.2.2.2.2.2.2.2.2.2.1, z2.2.1, z2.2.2.1, z2.2.2.2.1, z2.2.2.2.2.1, z2.2.2.2.2.2.1, z2.2.2.2.2.2.2.1, z2.2.2.2.2.2.2.2.1, z2.2.2.2.2.2.2.2.2.1, z2.2.2.2.2.2.2.2.2.2.1, z2.2.2.2.2.2.2.2.2.2.2.1, z2.2.2.2.2.2.2.2.2.2.2.2.1, z2.2.2.2.2.2.2.2.2.2.2.2.2.1, z2.2.2.2.2.2.2.2.2.2.2.2.2.2.1, z2.2.2.2.2.2.2.2.2.2.2.2.2.2.2.1, z2.2.2.2.2.2.2.2.2.2.2.2.2.2.2.2.1, z2.2.2.2.2.2.2.2.2.2.2.2.2.2.2.2.2.1, z2.2.2.2.2.2.2.2.2.2.2.2.2.2.2.2.2.2)))))) else (some ((-5), n_cells, n_points, n_fouls, n_evening, n_sights, n_seenStep, n_seenCell, n_touches, n_cushions, n_p_row, n_p_column, n_p_down, n_p_right, n_p_cushions, x_reason, x_acts, x_candourAt)))))
def fX0_barOfCrises  (t_cells : Nat → Int32) (t_points : Int32) (t_fouls : Int32) (t_evening : Int32) (t_sights : Int32) (t_seenStep : Nat → Int32) (t_seenCell : Nat → Int32) (n_cells : Nat → Int32) (n_points : Int32) (n_fouls : Int32) (n_evening : Int32) (n_sights : Int32) (n_seenStep : Nat → Int32) (n_seenCell : Nat → Int32) (n_touches : Int32) (n_cushions : Int32) (n_p_row : Int32) (n_p_column : Int32) (n_p_down : Int32) (n_p_right : Int32) (n_p_cushions : Int32) (x_signs : Int32) (x_sign : Nat → Int32) (x_reason : Int32) (x_acts : Int32) (x_candourAt : Int32) : Option (Int32 × (Nat → Int32) × Int32 × Int32 × Int32 × Int32 × (Nat → Int32) × (Nat → Int32) × Int32 × Int32 × Int32 × Int32 × Int32 × Int32 × Int32 × Int32 × Int32 × Int32) := (Option.bind (fX0_faultOf x_signs x_sign) fun z1 => (if z1 < 0 then (Option.bind (fX0_goCrises t_cells t_points t_fouls t_evening t_sights t_seenStep t_seenCell n_cells n_points n_fouls n_evening n_sights n_seenStep n_seenCell n_touches n_cushions n_p_row n_p_column n_p_down n_p_right n_p_cushions x_signs x_sign x_reason x_acts x_candourAt) fun z2 => (if z2.1 < 0 then (some (0, z2.2.1, z2.2.2.1, z2.2.2.2.1, z2.2.2.2.2.1, z2.2.2.2.2.2.1, z2.2.2.2.2.2.2.1, z2.2.2.2.2.2.2.2.1, z2.2.2.2.2.2.2.2.2.1, z2.2.2.2.2.2.2.2.2.2.1, z2.2.2.2.2.2.2.2.2.2.2.1, z2.2.2.2.2.2.2.2.2.2.2.2.1, z2.2.2.2.2.2.2.2.2.2.2.2.2.1, z2.2.2.2.2.2.2.2.2.2.2.2.2.2.1, z2.2.2.2.2.2.2.2.2.2.2.2.2.2.2.1, z2.2.2.2.2.2.2.2.2.2.2.2.2.2.2.2.1, z2.2.2.2.2.2.2.2.2.2.2.2.2.2.2.2.2.1, z2.2.2.2.2.2.2.2.2.2.2.2.2.2.2.2.2.2)) else (some ((-3), z2.2.1, z2.2.2.1, z2.2.2.2.1, z2.2.2.2.2.1, z2.2.2.2.2.2.1, z2.2.2.2.2.2.2.1, z2.2.2.2.2.2.2.2.1, z2.2.2.2.2.2.2.2.2.1, z2.2.2.2.2.2.2.2.2.2.1, z2.2.2.2.2.2.2.2.2.2.2.1, z2.2.2.2.2.2.2.2.2.2.2.2.1, z2.2.2.2.2.2.2.2.2.2.2.2.2.1, z2.2.2.2.2.2.2.2.2.2.2.2.2.2.1, z2.2.2.2.2.2.2.2.2.2.2.2.2.2.2.1, z2.2.2.2.2.2.2.2.2.2.2.2.2.2.2.2.1, z2.2.2.2.2.2.2.2.2.2.2.2.2.2.2.2.2.1, z2.2.2.2.2.2.2.2.2.2.2.2.2.2.2.2.2.2)))) else (some ((-5), n_cells, n_points, n_fouls, n_evening, n_sights, n_seenStep, n_seenCell, n_touches, n_cushions, n_p_row, n_p_column, n_p_down, n_p_right, n_p_cushions, x_reason, x_acts, x_candourAt))))
def fX0_behind (v1 : Int32) (t_cells : Nat → Int32) (t_points : Int32) (t_fouls : Int32) (t_evening : Int32) (t_sights : Int32) (t_seenStep : Nat → Int32) (t_seenCell : Nat → Int32) (n_cells : Nat → Int32) (n_points : Int32) (n_fouls : Int32) (n_evening : Int32) (n_sights : Int32) (n_seenStep : Nat → Int32) (n_seenCell : Nat → Int32) (n_touches : Int32) (n_cushions : Int32) (n_p_row : Int32) (n_p_column : Int32) (n_p_down : Int32) (n_p_right : Int32) (n_p_cushions : Int32) (x_signs : Int32) (x_sign : Nat → Int32) (x_reason : Int32) (x_acts : Int32) (x_candourAt : Int32) : Option (Int32 × (Nat → Int32) × Int32 × Int32 × Int32 × Int32 × (Nat → Int32) × (Nat → Int32) × Int32 × Int32 × Int32 × Int32 × Int32 × Int32 × Int32 × Int32 × Int32 × Int32) := (if (fX0_isBall v1) = 0 then (some ((-1), n_cells, n_points, n_fouls, n_evening, n_sights, n_seenStep, n_seenCell, n_touches, n_cushions, n_p_row, n_p_column, n_p_down, n_p_right, n_p_cushions, x_reason, x_acts, x_candourAt)) else (Option.bind (fX0_barOfCrises t_cells t_points t_fouls t_evening t_sights t_seenStep t_seenCell n_cells n_points n_fouls n_evening n_sights n_seenStep n_seenCell n_touches n_cushions n_p_row n_p_column n_p_down n_p_right n_p_cushions x_signs x_sign x_reason x_acts x_candourAt) fun z1 => (if (0 : Int32) ≤ z1.1 then (if bIn v1 3 then (some ((z1.2.1 v1.toNatClampNeg), z1.2.1, z1.2.2.1, z1.2.2.2.1, z1.2.2.2.2.1, z1.2.2.2.2.2.1, z1.2.2.2.2.2.2.1, z1.2.2.2.2.2.2.2.1, z1.2.2.2.2.2.2.2.2.1, z1.2.2.2.2.2.2.2.2.2.1, z1.2.2.2.2.2.2.2.2.2.2.1, z1.2.2.2.2.2.2.2.2.2.2.2.1, z1.2.2.2.2.2.2.2.2.2.2.2.2.1, z1.2.2.2.2.2.2.2.2.2.2.2.2.2.1, z1.2.2.2.2.2.2.2.2.2.2.2.2.2.2.1, z1.2.2.2.2.2.2.2.2.2.2.2.2.2.2.2.1, z1.2.2.2.2.2.2.2.2.2.2.2.2.2.2.2.2.1, z1.2.2.2.2.2.2.2.2.2.2.2.2.2.2.2.2.2)) else none) else (some (z1.1, z1.2.1, z1.2.2.1, z1.2.2.2.1, z1.2.2.2.2.1, z1.2.2.2.2.2.1, z1.2.2.2.2.2.2.1, z1.2.2.2.2.2.2.2.1, z1.2.2.2.2.2.2.2.2.1, z1.2.2.2.2.2.2.2.2.2.1, z1.2.2.2.2.2.2.2.2.2.2.1, z1.2.2.2.2.2.2.2.2.2.2.2.1, z1.2.2.2.2.2.2.2.2.2.2.2.2.1, z1.2.2.2.2.2.2.2.2.2.2.2.2.2.1, z1.2.2.2.2.2.2.2.2.2.2.2.2.2.2.1, z1.2.2.2.2.2.2.2.2.2.2.2.2.2.2.2.1, z1.2.2.2.2.2.2.2.2.2.2.2.2.2.2.2.2.1, z1.2.2.2.2.2.2.2.2.2.2.2.2.2.2.2.2.2)))))
def fX0_table (v1 : Int32) (t_cells : Nat → Int32) (t_points : Int32) (t_fouls : Int32) (t_evening : Int32) (t_sights : Int32) (t_seenStep : Nat → Int32) (t_seenCell : Nat → Int32) (n_cells : Nat → Int32) (n_points : Int32) (n_fouls : Int32) (n_evening : Int32) (n_sights : Int32) (n_seenStep : Nat → Int32) (n_seenCell : Nat → Int32) (n_touches : Int32) (n_cushions : Int32) (n_p_row : Int32) (n_p_column : Int32) (n_p_down : Int32) (n_p_right : Int32) (n_p_cushions : Int32) (x_signs : Int32) (x_sign : Nat → Int32) (x_reason : Int32) (x_acts : Int32) (x_candourAt : Int32) : Option (Int32 × (Nat → Int32) × Int32 × Int32 × Int32 × Int32 × (Nat → Int32) × (Nat → Int32) × Int32 × Int32 × Int32 × Int32 × Int32 × Int32 × Int32 × Int32 × Int32 × Int32) := (if (fX0_isIn v1 0 3) = 0 then (some ((-2), n_cells, n_points, n_fouls, n_evening, n_sights, n_seenStep, n_seenCell, n_touches, n_cushions, n_p_row, n_p_column, n_p_down, n_p_right, n_p_cushions, x_reason, x_acts, x_candourAt)) else (Option.bind (fX0_barOfCrises t_cells t_points t_fouls t_evening t_sights t_seenStep t_seenCell n_cells n_points n_fouls n_evening n_sights n_seenStep n_seenCell n_touches n_cushions n_p_row n_p_column n_p_down n_p_right n_p_cushions x_signs x_sign x_reason x_acts x_candourAt) fun z1 => (if (0 : Int32) ≤ z1.1 then (if v1 = 0 then (some (z1.2.2.1, z1.2.1, z1.2.2.1, z1.2.2.2.1, z1.2.2.2.2.1, z1.2.2.2.2.2.1, z1.2.2.2.2.2.2.1, z1.2.2.2.2.2.2.2.1, z1.2.2.2.2.2.2.2.2.1, z1.2.2.2.2.2.2.2.2.2.1, z1.2.2.2.2.2.2.2.2.2.2.1, z1.2.2.2.2.2.2.2.2.2.2.2.1, z1.2.2.2.2.2.2.2.2.2.2.2.2.1, z1.2.2.2.2.2.2.2.2.2.2.2.2.2.1, z1.2.2.2.2.2.2.2.2.2.2.2.2.2.2.1, z1.2.2.2.2.2.2.2.2.2.2.2.2.2.2.2.1, z1.2.2.2.2.2.2.2.2.2.2.2.2.2.2.2.2.1, z1.2.2.2.2.2.2.2.2.2.2.2.2.2.2.2.2.2)) else (if v1 = 1 then (some (z1.2.2.2.1, z1.2.1, z1.2.2.1, z1.2.2.2.1, z1.2.2.2.2.1, z1.2.2.2.2.2.1, z1.2.2.2.2.2.2.1, z1.2.2.2.2.2.2.2.1, z1.2.2.2.2.2.2.2.2.1, z1.2.2.2.2.2.2.2.2.2.1, z1.2.2.2.2.2.2.2.2.2.2.1, z1.2.2.2.2.2.2.2.2.2.2.2.1, z1.2.2.2.2.2.2.2.2.2.2.2.2.1, z1.2.2.2.2.2.2.2.2.2.2.2.2.2.1, z1.2.2.2.2.2.2.2.2.2.2.2.2.2.2.1, z1.2.2.2.2.2.2.2.2.2.2.2.2.2.2.2.1, z1.2.2.2.2.2.2.2.2.2.2.2.2.2.2.2.2.1, z1.2.2.2.2.2.2.2.2.2.2.2.2.2.2.2.2.2)) else (if v1 = 2 then (Option.bind (fX1_countDown z1.2.1) fun z5 => (some (z5, z1.2.1, z1.2.2.1, z1.2.2.2.1, z1.2.2.2.2.1, z1.2.2.2.2.2.1, z1.2.2.2.2.2.2.1, z1.2.2.2.2.2.2.2.1, z1.2.2.2.2.2.2.2.2.1, z1.2.2.2.2.2.2.2.2.2.1, z1.2.2.2.2.2.2.2.2.2.2.1, z1.2.2.2.2.2.2.2.2.2.2.2.1, z1.2.2.2.2.2.2.2.2.2.2.2.2.1, z1.2.2.2.2.2.2.2.2.2.2.2.2.2.1, z1.2.2.2.2.2.2.2.2.2.2.2.2.2.2.1, z1.2.2.2.2.2.2.2.2.2.2.2.2.2.2.2.1, z1.2.2.2.2.2.2.2.2.2.2.2.2.2.2.2.2.1, z1.2.2.2.2.2.2.2.2.2.2.2.2.2.2.2.2.2))) else (some (z1.2.2.2.2.1, z1.2.1, z1.2.2.1, z1.2.2.2.1, z1.2.2.2.2.1, z1.2.2.2.2.2.1, z1.2.2.2.2.2.2.1, z1.2.2.2.2.2.2.2.1, z1.2.2.2.2.2.2.2.2.1, z1.2.2.2.2.2.2.2.2.2.1, z1.2.2.2.2.2.2.2.2.2.2.1, z1.2.2.2.2.2.2.2.2.2.2.2.1, z1.2.2.2.2.2.2.2.2.2.2.2.2.1, z1.2.2.2.2.2.2.2.2.2.2.2.2.2.1, z1.2.2.2.2.2.2.2.2.2.2.2.2.2.2.1, z1.2.2.2.2.2.2.2.2.2.2.2.2.2.2.2.1, z1.2.2.2.2.2.2.2.2.2.2.2.2.2.2.2.2.1, z1.2.2.2.2.2.2.2.2.2.2.2.2.2.2.2.2.2))))) else (some (z1.1, z1.2.1, z1.2.2.1, z1.2.2.2.1, z1.2.2.2.2.1, z1.2.2.2.2.2.1, z1.2.2.2.2.2.2.1, z1.2.2.2.2.2.2.2.1, z1.2.2.2.2.2.2.2.2.1, z1.2.2.2.2.2.2.2.2.2.1, z1.2.2.2.2.2.2.2.2.2.2.1, z1.2.2.2.2.2.2.2.2.2.2.2.1, z1.2.2.2.2.2.2.2.2.2.2.2.2.1, z1.2.2.2.2.2.2.2.2.2.2.2.2.2.1, z1.2.2.2.2.2.2.2.2.2.2.2.2.2.2.1, z1.2.2.2.2.2.2.2.2.2.2.2.2.2.2.2.1, z1.2.2.2.2.2.2.2.2.2.2.2.2.2.2.2.2.1, z1.2.2.2.2.2.2.2.2.2.2.2.2.2.2.2.2.2)))))
def fX0_candour (v1 : Int32) (t_cells : Nat → Int32) (t_points : Int32) (t_fouls : Int32) (t_evening : Int32) (t_sights : Int32) (t_seenStep : Nat → Int32) (t_seenCell : Nat → Int32) (n_cells : Nat → Int32) (n_points : Int32) (n_fouls : Int32) (n_evening : Int32) (n_sights : Int32) (n_seenStep : Nat → Int32) (n_seenCell : Nat → Int32) (n_touches : Int32) (n_cushions : Int32) (n_p_row : Int32) (n_p_column : Int32) (n_p_down : Int32) (n_p_right : Int32) (n_p_cushions : Int32) (x_signs : Int32) (x_sign : Nat → Int32) (x_reason : Int32) (x_acts : Int32) (x_candourAt : Int32) : Option (Int32 × (Nat → Int32) × Int32 × Int32 × Int32 × Int32 × (Nat → Int32) × (Nat → Int32) × Int32 × Int32 × Int32 × Int32 × Int32 × Int32 × Int32 × Int32 × Int32 × Int32) := (if (fX0_isIn v1 0 1) = 0 then (some ((-2), n_cells, n_points, n_fouls, n_evening, n_sights, n_seenStep, n_seenCell, n_touches, n_cushions, n_p_row, n_p_column, n_p_down, n_p_right, n_p_cushions, x_reason, x_acts, x_candourAt)) else (Option.bind (fX0_barOfCrises t_cells t_points t_fouls t_evening t_sights t_seenStep t_seenCell n_cells n_points n_fouls n_evening n_sights n_seenStep n_seenCell n_touches n_cushions n_p_row n_p_column n_p_down n_p_right n_p_cushions x_signs x_sign x_reason x_acts x_candourAt) fun z1 => (if (0 : Int32) ≤ z1.1 then (if v1 = 0 then (some (z1.2.2.2.2.2.2.2.2.2.2.2.2.2.2.2.2.2, z1.2.1, z1.2.2.1, z1.2.2.2.1, z1.2.2.2.2.1, z1.2.2.2.2.2.1, z1.2.2.2.2.2.2.1, z1.2.2.2.2.2.2.2.1, z1.2.2.2.2.2.2.2.2.1, z1.2.2.2.2.2.2.2.2.2.1, z1.2.2.2.2.2.2.2.2.2.2.1, z1.2.2.2.2.2.2.2.2.2.2.2.1, z1.2.2.2.2.2.2.2.2.2.2.2.2.1, z1.2.2.2.2.2.2.2.2.2.2.2.2.2.1, z1.2.2.2.2.2.2.2.2.2.2.2.2.2.2.1, z1.2.2.2.2.2.2.2.2.2.2.2.2.2.2.2.1, z1.2.2.2.2.2.2.2.2.2.2.2.2.2.2.2.2.1, z1.2.2.2.2.2.2.2.2.2.2.2.2.2.2.2.2.2)) else (some (z1.2.2.2.2.2.2.2.2.2.1, z1.2.1, z1.2.2.1, z1.2.2.2.1, z1.2.2.2.2.1, z1.2.2.2.2.2.1, z1.2.2.2.2.2.2.1, z1.2.2.2.2.2.2.2.1, z1.2.2.2.2.2.2.2.2.1, z1.2.2.2.2.2.2.2.2.2.1, z1.2.2.2.2.2.2.2.2.2.2.1, z1.2.2.2.2.2.2.2.2.2.2.2.1, z1.2.2.2.2.2.2.2.2.2.2.2.2.1, z1.2.2.2.2.2.2.2.2.2.2.2.2.2.1, z1.2.2.2.2.2.2.2.2.2.2.2.2.2.2.1, z1.2.2.2.2.2.2.2.2.2.2.2.2.2.2.2.1, z1.2.2.2.2.2.2.2.2.2.2.2.2.2.2.2.2.1, z1.2.2.2.2.2.2.2.2.2.2.2.2.2.2.2.2.2))) else (some (z1.1, z1.2.1, z1.2.2.1, z1.2.2.2.1, z1.2.2.2.2.1, z1.2.2.2.2.2.1, z1.2.2.2.2.2.2.1, z1.2.2.2.2.2.2.2.1, z1.2.2.2.2.2.2.2.2.1, z1.2.2.2.2.2.2.2.2.2.1, z1.2.2.2.2.2.2.2.2.2.2.1, z1.2.2.2.2.2.2.2.2.2.2.2.1, z1.2.2.2.2.2.2.2.2.2.2.2.2.1, z1.2.2.2.2.2.2.2.2.2.2.2.2.2.1, z1.2.2.2.2.2.2.2.2.2.2.2.2.2.2.1, z1.2.2.2.2.2.2.2.2.2.2.2.2.2.2.2.1, z1.2.2.2.2.2.2.2.2.2.2.2.2.2.2.2.2.1, z1.2.2.2.2.2.2.2.2.2.2.2.2.2.2.2.2.2)))))
def fX0_done  (t_cells : Nat → Int32) (t_points : Int32) (t_fouls : Int32) (t_evening : Int32) (t_sights : Int32) (t_seenStep : Nat → Int32) (t_seenCell : Nat → Int32) (t_touches : Int32) (t_cushions : Int32) (n_cells : Nat → Int32) (n_points : Int32) (n_fouls : Int32) (n_evening : Int32) (n_sights : Int32) (n_seenStep : Nat → Int32) (n_seenCell : Nat → Int32) (n_touches : Int32) (n_cushions : Int32) (n_p_row : Int32) (n_p_column : Int32) (n_p_down : Int32) (n_p_right : Int32) (n_p_cushions : Int32) (x_signs : Int32) (x_sign : Nat → Int32) (x_reason : Int32) (x_acts : Int32) (x_candourAt : Int32) : Option (Int32 × (Nat → Int32) × Int32 × Int32 × Int32 × Int32 × (Nat → Int32) × (Nat → Int32) × Int32 × Int32 × (Nat → Int32) × Int32 × Int32 × Int32 × Int32 × (Nat → Int32) × (Nat → Int32) × Int32 × Int32 × Int32 × Int32 × Int32 × Int32 × Int32 × Int32 × Int32 × Int32 × Int32) := (Option.bind (fX0_barOfCrises t_cells t_points t_fouls t_evening t_sights t_seenStep t_seenCell n_cells n_points n_fouls n_evening n_sights n_seenStep n_seenCell n_touches n_cushions n_p_row n_p_column n_p_down n_p_right n_p_cushions x_signs x_sign x_reason x_acts x_candourAt) fun z1 => (if (0 : Int32) ≤ z1.1 then (Option.bind (fX1_copy t_cells t_points t_fouls t_evening t_sights t_seenStep t_seenCell t_touches t_cushions z1.2.1 z1.2.2.1 z1.2.2.2.1 z1.2.2.2.2.1 z1.2.2.2.2.2.1 z1.2.2.2.2.2.2.1 z1.2.2.2.2.2.2.2.1) fun z2 => (some (z1.2.2.2.2.2.2.2.2.2.2.2.2.2.2.2.2.1, z2.1, z2.2.1, z2.2.2.1, z2.2.2.2.1, z2.2.2.2.2.1, z2.2.2.2.2.2.1, z2.2.2.2.2.2.2.1, z2.2.2.2.2.2.2.2.1, z2.2.2.2.2.2.2.2.2, z1.2.1, z1.2.2.1, z1.2.2.2.1, z1.2.2.2.2.1, z1.2.2.2.2.2.1, z1.2.2.2.2.2.2.1, z1.2.2.2.2.2.2.2.1, z1.2.2.2.2.2.2.2.2.1, z1.2.2.2.2.2.2.2.2.2.1, z1.2.2.2.2.2.2.2.2.2.2.1, z1.2.2.2.2.2.2.2.2.2.2.2.1, z1.2.2.2.2.2.2.2.2.2.2.2.2.1, z1.2.2.2.2.2.2.2.2.2.2.2.2.2.1, z1.2.2.2.2.2.2.2.2.2.2.2.2.2.2.1, 0, z1.2.2.2.2.2.2.2.2.2.2.2.2.2.2.2.1, z1.2.2.2.2.2.2.2.2.2.2.2.2.2.2.2.2.1, z1.2.2.2.2.2.2.2.2.2.2.2.2.2.2.2.2.2))) else (some (z1.1, t_cells, t_points, t_fouls, t_evening, t_sights, t_seenStep, t_seenCell, t_touches, t_cushions, z1.2.1, z1.2.2.1, z1.2.2.2.1, z1.2.2.2.2.1, z1.2.2.2.2.2.1, z1.2.2.2.2.2.2.1, z1.2.2.2.2.2.2.2.1, z1.2.2.2.2.2.2.2.2.1, z1.2.2.2.2.2.2.2.2.2.1, z1.2.2.2.2.2.2.2.2.2.2.1, z1.2.2.2.2.2.2.2.2.2.2.2.1, z1.2.2.2.2.2.2.2.2.2.2.2.2.1, z1.2.2.2.2.2.2.2.2.2.2.2.2.2.1, z1.2.2.2.2.2.2.2.2.2.2.2.2.2.2.1, x_signs, z1.2.2.2.2.2.2.2.2.2.2.2.2.2.2.2.1, z1.2.2.2.2.2.2.2.2.2.2.2.2.2.2.2.2.1, z1.2.2.2.2.2.2.2.2.2.2.2.2.2.2.2.2.2))))
def fX0_forceBy_L84 (v1 : Int32) (v2 : Int32) (v3 : Int32) (v4 : Int32) (t_cells : Nat → Int32) (k20c : Int32 → Int32 → Int32 → Int32 → Int32 → Int32 → Option (Int32 × Int32 × Int32 × Int32 × Int32 × Int32)) (v5 : Int32) (v6 : Int32) (p_row : Int32) (p_column : Int32) (p_down : Int32) (p_right : Int32) (p_cushions : Int32) : Option (Int32 × Int32 × Int32 × Int32 × Int32 × Int32) := (if (fX0_isPocket v6) = 0 then (Option.bind (fX2_go p_row p_column p_down p_right) fun z5 => (k20c (v5 + 1) z5.1 z5.2 p_down p_right p_cushions)) else (some (1000000, p_row, p_column, p_down, p_right, p_cushions)))
def fX0_forceBy_L20 (v1 : Int32) (v2 : Int32) (v3 : Int32) (v4 : Int32) (t_cells : Nat → Int32)  : Nat → Int32 → Int32 → Int32 → Int32 → Int32 → Int32 → Option (Int32 × Int32 × Int32 × Int32 × Int32 × Int32)
  | 0, _, _, _, _, _, _ => none
  | n + 1, v5, p_row, p_column, p_down, p_right, p_cushions => (if (9 : Int32) < v5 then (some (1000000, p_row, p_column, p_down, p_right, p_cushions)) else (Option.bind (fX2_next p_row p_column p_down p_right p_cushions) fun z3 => (Option.bind (fX1_ballOn z3.1 t_cells) fun z4 => (if z4 < 0 then (fX0_forceBy_L84 v1 v2 v3 v4 t_cells (fun y0 y1 y2 y3 y4 y5 => fX0_forceBy_L20 v1 v2 v3 v4 t_cells n y0 y1 y2 y3 y4 y5) v5 z3.1 p_row p_column z3.2.1 z3.2.2.1 z3.2.2.2) else (if z4 = v1 then (fX0_forceBy_L84 v1 v2 v3 v4 t_cells (fun y0 y1 y2 y3 y4 y5 => fX0_forceBy_L20 v1 v2 v3 v4 t_cells n y0 y1 y2 y3 y4 y5) v5 z3.1 p_row p_column z3.2.1 z3.2.2.1 z3.2.2.2) else (if z4 = v3 then (if z3.2.2.2 = v4 then (some (v5, p_row, p_column, z3.2.1, z3.2.2.1, z3.2.2.2)) else (some (1000000, p_row, p_column, z3.2.1, z3.2.2.1, z3.2.2.2))) else (some (1000000, p_row, p_column, z3.2.1, z3.2.2.1, z3.2.2.2))))))))
def fX0_forceBy (v1 : Int32) (v2 : Int32) (v3 : Int32) (v4 : Int32) (t_cells : Nat → Int32) (p_row : Int32) (p_column : Int32) (p_down : Int32) (p_right : Int32) (p_cushions : Int32) : Option (Int32 × Int32 × Int32 × Int32 × Int32 × Int32) := (if bIn v1 3 then (Option.bind (fX2_send (t_cells v1.toNatClampNeg) v2 p_row p_column p_down p_right p_cushions) fun z2 => (fX0_forceBy_L20 v1 v2 v3 v4 t_cells FU 1 z2.1 z2.2.1 z2.2.2.1 z2.2.2.2.1 z2.2.2.2.2)) else none)
def fX0_hint_L127 (v1 : Int32) (v2 : Int32) (v3 : Int32) (v4 : Int32) (t_cells : Nat → Int32)  (v5 : Int32) (v6 : Int32) (p_row : Int32) (p_column : Int32) (p_down : Int32) (p_right : Int32) (p_cushions : Int32) : Option (Int32 × Int32 × Int32 × Int32 × Int32 × Int32) := (if v6 < 0 then (some (v6, p_row, p_column, p_down, p_right, p_cushions)) else (if v4 = 1 then (some (v6, p_row, p_column, p_down, p_right, p_cushions)) else (some (v5, p_row, p_column, p_down, p_right, p_cushions))))
def fX0_hint_L54 (v1 : Int32) (v2 : Int32) (v3 : Int32) (v4 : Int32) (t_cells : Nat → Int32)  : Nat → Int32 → Int32 → Int32 → Int32 → Int32 → Int32 → Int32 → Int32 → Option (Int32 × Int32 × Int32 × Int32 × Int32 × Int32)
  | 0, _, _, _, _, _, _, _, _ => none
  | n + 1, v5, v6, v7, p_row, p_column, p_down, p_right, p_cushions => (if (8 : Int32) ≤ v7 then (fX0_hint_L127 v1 v2 v3 v4 t_cells v5 v6 p_row p_column p_down p_right p_cushions) else (if bIn v1 3 then (if (t_cells v1.toNatClampNeg) < 0 then (fX0_hint_L127 v1 v2 v3 v4 t_cells v5 v6 p_row p_column p_down p_right p_cushions) else (if bIn v2 3 then (if (t_cells v2.toNatClampNeg) < 0 then (fX0_hint_L127 v1 v2 v3 v4 t_cells v5 v6 p_row p_column p_down p_right p_cushions) else (Option.bind (fX0_forceBy v1 v7 v2 v3 t_cells p_row p_column p_down p_right p_cushions) fun z5 => (if v5 ≤ z5.1 then (fX0_hint_L54 v1 v2 v3 v4 t_cells n (if z5.1 < v5 then z5.1 else v5) v6 (v7 + 1) z5.2.1 z5.2.2.1 z5.2.2.2.1 z5.2.2.2.2.1 z5.2.2.2.2.2) else (fX0_hint_L54 v1 v2 v3 v4 t_cells n (if z5.1 < v5 then z5.1 else v5) v7 (v7 + 1) z5.2.1 z5.2.2.1 z5.2.2.2.1 z5.2.2.2.2.1 z5.2.2.2.2.2)))) else none)) else none))
def fX0_hint (v1 : Int32) (v2 : Int32) (v3 : Int32) (v4 : Int32) (t_cells : Nat → Int32) (p_row : Int32) (p_column : Int32) (p_down : Int32) (p_right : Int32) (p_cushions : Int32) : Option (Int32 × Int32 × Int32 × Int32 × Int32 × Int32) := (if (fX0_isBall v1) = 0 then (some ((-1), p_row, p_column, p_down, p_right, p_cushions)) else (if (fX0_isBall v2) = 0 then (some ((-1), p_row, p_column, p_down, p_right, p_cushions)) else (if v1 = v2 then (some ((-1), p_row, p_column, p_down, p_right, p_cushions)) else (if (fX0_isIn v3 0 4) = 0 then (some ((-2), p_row, p_column, p_down, p_right, p_cushions)) else (if (fX0_isIn v4 0 1) = 0 then (some ((-2), p_row, p_column, p_down, p_right, p_cushions)) else (fX0_hint_L54 v1 v2 v3 v4 t_cells FU 1000000 (-6) 0 p_row p_column p_down p_right p_cushions))))))
def fX0_walkAlone_L31 (v1 : Int32) (v2 : Int32) (v3 : Int32)   : Nat → Int32 → Int32 → Int32 → Int32 → Int32 → Int32 → Int32 → Option (Int32 × Int32 × Int32 × Int32 × Int32)
  | 0, _, _, _, _, _, _, _ => none
  | n + 1, v4, v5, p_row, p_column, p_down, p_right, p_cushions => (if v4 ≤ v5 then (some (p_row, p_column, p_down, p_right, p_cushions)) else (Option.bind (fX2_next p_row p_column p_down p_right p_cushions) fun z2 => (Option.bind (fX2_go p_row p_column z2.2.1 z2.2.2.1) fun z3 => (fX0_walkAlone_L31 v1 v2 v3 n v4 (v5 + 1) z3.1 z3.2 z2.2.1 z2.2.2.1 z2.2.2.2))))
def fX0_walkAlone (v1 : Int32) (v2 : Int32) (v3 : Int32) (p_row : Int32) (p_column : Int32) (p_down : Int32) (p_right : Int32) (p_cushions : Int32) : Option (Int32 × Int32 × Int32 × Int32 × Int32) := (Option.bind (fX2_send v1 v2 p_row p_column p_down p_right p_cushions) fun z1 => (if v3 ≤ 32 then (fX0_walkAlone_L31 v1 v2 v3 FU v3 0 z1.1 z1.2.1 z1.2.2.1 z1.2.2.2.1 z1.2.2.2.2) else (fX0_walkAlone_L31 v1 v2 v3 FU ((16 : Int32) + (v3 - v3 / 16 * 16)) 0 z1.1 z1.2.1 z1.2.2.1 z1.2.2.2.1 z1.2.2.2.2)))
def fX0_alone_L170 (v1 : Int32) (v2 : Int32) (v3 : Int32) (v4 : Int32)  (k89c : Int32 → Int32 → Int32 → Int32 → Int32 → Int32 → Int32 → Int32 → (Nat → Int32) → Option (Int32 × Int32 × Int32 × Int32 × Int32 × Int32 × (Nat → Int32))) (v6 : Int32) (v7 : Int32) (k0 : Int32) (p_row : Int32) (p_column : Int32) (p_down : Int32) (p_right : Int32) (p_cushions : Int32) (x_met : Nat → Int32) : Option (Int32 × Int32 × Int32 × Int32 × Int32 × Int32 × (Nat → Int32)) := (Option.bind (fX2_next p_row p_column p_down p_right p_cushions) fun z7 => (Option.bind (fX2_go p_row p_column z7.2.1 z7.2.2.1) fun z8 => (k89c k0 v6 (v7 + 1) z8.1 z8.2 z7.2.1 z7.2.2.1 z7.2.2.2 x_met)))
def fX0_alone_L122 (v1 : Int32) (v2 : Int32) (v3 : Int32) (v4 : Int32)  (k89c : Int32 → Int32 → Int32 → Int32 → Int32 → Int32 → Int32 → Int32 → (Nat → Int32) → Option (Int32 × Int32 × Int32 × Int32 × Int32 × Int32 × (Nat → Int32))) (v5 : Int32) (v7 : Int32) (v8 : Int32) (k0 : Int32) (k1 : Int32) (p_row : Int32) (p_column : Int32) (p_down : Int32) (p_right : Int32) (p_cushions : Int32) (x_met : Nat → Int32) : Option (Int32 × Int32 × Int32 × Int32 × Int32 × Int32 × (Nat → Int32)) := (if bIn v8 45 then (if v7 ≤ 0 then (fX0_alone_L170 v1 v2 v3 v4 k89c (k0 + (fX0_asNumber k1)) v7 v5 p_row p_column p_down p_right p_cushions (upd x_met v8.toNatClampNeg (vp_nar .boolean 1))) else (if (0 : Int32) ≤ v5 then (fX0_alone_L170 v1 v2 v3 v4 k89c (k0 + (fX0_asNumber k1)) v7 v5 p_row p_column p_down p_right p_cushions (upd x_met v8.toNatClampNeg (vp_nar .boolean 1))) else (if v8 = v1 then (Option.bind (fX2_way p_down p_right) fun z9 => (if z9 = v2 then (fX0_alone_L170 v1 v2 v3 v4 k89c (k0 + (fX0_asNumber k1)) v7 v7 p_row p_column p_down p_right p_cushions (upd x_met v8.toNatClampNeg (vp_nar .boolean 1))) else (fX0_alone_L170 v1 v2 v3 v4 k89c (k0 + (fX0_asNumber k1)) v7 v5 p_row p_column p_down p_right p_cushions (upd x_met v8.toNatClampNeg (vp_nar .boolean 1))))) else (fX0_alone_L170 v1 v2 v3 v4 k89c (k0 + (fX0_asNumber k1)) v7 v5 p_row p_column p_down p_right p_cushions (upd x_met v8.toNatClampNeg (vp_nar .boolean 1)))))) else none)
def fX0_alone_L89 (v1 : Int32) (v2 : Int32) (v3 : Int32) (v4 : Int32)   : Nat → Int32 → Int32 → Int32 → Int32 → Int32 → Int32 → Int32 → Int32 → (Nat → Int32) → Option (Int32 × Int32 × Int32 × Int32 × Int32 × Int32 × (Nat → Int32))
  | 0, _, _, _, _, _, _, _, _, _ => none
  | n + 1, v5, v6, v7, p_row, p_column, p_down, p_right, p_cushions, x_met => (if (32 : Int32) < v7 then (if v4 = 1 then (some (v5, p_row, p_column, p_down, p_right, p_cushions, x_met)) else (some (v6, p_row, p_column, p_down, p_right, p_cushions, x_met))) else (Option.bind (fX2_cell p_row p_column) fun z4 => (if bIn z4 45 then (if (x_met z4.toNatClampNeg) = 0 then (fX0_alone_L122 v1 v2 v3 v4 (fun y0 y1 y2 y3 y4 y5 y6 y7 y8 => fX0_alone_L89 v1 v2 v3 v4 n y0 y1 y2 y3 y4 y5 y6 y7 y8) v5 v7 z4 v6 1 p_row p_column p_down p_right p_cushions x_met) else (fX0_alone_L122 v1 v2 v3 v4 (fun y0 y1 y2 y3 y4 y5 y6 y7 y8 => fX0_alone_L89 v1 v2 v3 v4 n y0 y1 y2 y3 y4 y5 y6 y7 y8) v5 v7 z4 v6 0 p_row p_column p_down p_right p_cushions x_met)) else none)))
def fX0_alone (v1 : Int32) (v2 : Int32) (v3 : Int32) (v4 : Int32) (p_row : Int32) (p_column : Int32) (p_down : Int32) (p_right : Int32) (p_cushions : Int32) (x_met : Nat → Int32) : Option (Int32 × Int32 × Int32 × Int32 × Int32 × Int32 × (Nat → Int32)) := (if (fX0_isOpen v1) = 0 then (some ((-1), p_row, p_column, p_down, p_right, p_cushions, x_met)) else (if (fX0_isIn v2 0 7) = 0 then (some ((-2), p_row, p_column, p_down, p_right, p_cushions, x_met)) else (if (fX0_isIn v3 0 99999) = 0 then (some ((-2), p_row, p_column, p_down, p_right, p_cushions, x_met)) else (if (fX0_isIn v4 0 2) = 0 then (some ((-2), p_row, p_column, p_down, p_right, p_cushions, x_met)) else (if v4 = 0 then (Option.bind (fX0_walkAlone v1 v2 v3 p_row p_column p_down p_right p_cushions) fun z16 => (Option.bind (fX2_cell z16.1 z16.2.1) fun z17 => (some (z17, z16.1, z16.2.1, z16.2.2.1, z16.2.2.2.1, z16.2.2.2.2, x_met)))) else (Option.bind (fJ1_fill 0 x_met) fun z1 => (Option.bind (fX2_send v1 v2 p_row p_column p_down p_right p_cushions) fun z2 => (fX0_alone_L89 v1 v2 v3 v4 FU (-6) 0 0 z2.1 z2.2.1 z2.2.2.1 z2.2.2.2.1 z2.2.2.2.2 z1))))))))
def fX0_reachFrom_L102 (v1 : Int32)  (k2c : Int32 → Int32 → Int32 → Int32 → Int32 → Int32 → (Nat → Int32) → (Nat → Int32) → (Nat → Int32) → Int32 → Option (Int32 × Int32 × Int32 × Int32 × Int32 × (Nat → Int32) × (Nat → Int32) × (Nat → Int32) × Int32)) (k19c : Int32 → Int32 → Int32 → Int32 → Int32 → Int32 → Int32 → (Nat → Int32) → (Nat → Int32) → (Nat → Int32) → Int32 → Option (Int32 × Int32 × Int32 × Int32 × Int32 × (Nat → Int32) × (Nat → Int32) × (Nat → Int32) × Int32)) (v2 : Int32) (v3 : Int32) (v4 : Int32) (k1 : Int32) (k2 : Int32) (p_row : Int32) (p_column : Int32) (p_down : Int32) (p_right : Int32) (p_cushions : Int32) (x_reached : Nat → Int32) (x_firstWay : Nat → Int32) (x_queue : Nat → Int32) (x_queued : Int32) : Option (Int32 × Int32 × Int32 × Int32 × Int32 × (Nat → Int32) × (Nat → Int32) × (Nat → Int32) × Int32) := (if bIn k1 45 then (if bIn x_queued 45 then (k19c v2 (v3 + 1) p_row p_column p_down p_right p_cushions x_reached (upd x_firstWay k1.toNatClampNeg k2) (upd x_queue x_queued.toNatClampNeg v4) (x_queued + 1)) else none) else none)
def fX0_reachFrom_L19 (v1 : Int32)  (k2c : Int32 → Int32 → Int32 → Int32 → Int32 → Int32 → (Nat → Int32) → (Nat → Int32) → (Nat → Int32) → Int32 → Option (Int32 × Int32 × Int32 × Int32 × Int32 × (Nat → Int32) × (Nat → Int32) × (Nat → Int32) × Int32)) : Nat → Int32 → Int32 → Int32 → Int32 → Int32 → Int32 → Int32 → (Nat → Int32) → (Nat → Int32) → (Nat → Int32) → Int32 → Option (Int32 × Int32 × Int32 × Int32 × Int32 × (Nat → Int32) × (Nat → Int32) × (Nat → Int32) × Int32)
  | 0, _, _, _, _, _, _, _, _, _, _, _ => none
  | n + 1, v2, v3, p_row, p_column, p_down, p_right, p_cushions, x_reached, x_firstWay, x_queue, x_queued => (if (9 : Int32) < v3 then (k2c (v2 + 1) p_row p_column p_down p_right p_cushions x_reached x_firstWay x_queue x_queued) else (Option.bind (fX2_next p_row p_column p_down p_right p_cushions) fun z2 => (if (fX0_isPocket z2.1) = 0 then (Option.bind (fX2_go p_row p_column z2.2.1 z2.2.2.1) fun z3 => (if bIn z2.1 45 then (if (0 : Int32) ≤ (x_reached z2.1.toNatClampNeg) then (fX0_reachFrom_L19 v1 k2c n v2 (v3 + 1) z3.1 z3.2 z2.2.1 z2.2.2.1 z2.2.2.2 x_reached x_firstWay x_queue x_queued) else (if bIn v1 45 then (if bIn z2.1 45 then (if bIn v1 45 then (if ((upd x_reached z2.1.toNatClampNeg ((x_reached v1.toNatClampNeg) + 1)) v1.toNatClampNeg) = 0 then (fX0_reachFrom_L102 v1 k2c (fun y0 y1 y2 y3 y4 y5 y6 y7 y8 y9 y10 => fX0_reachFrom_L19 v1 k2c n y0 y1 y2 y3 y4 y5 y6 y7 y8 y9 y10) v2 v3 z2.1 z2.1 v2 z3.1 z3.2 z2.2.1 z2.2.2.1 z2.2.2.2 (upd x_reached z2.1.toNatClampNeg ((x_reached v1.toNatClampNeg) + 1)) x_firstWay x_queue x_queued) else (if bIn v1 45 then (fX0_reachFrom_L102 v1 k2c (fun y0 y1 y2 y3 y4 y5 y6 y7 y8 y9 y10 => fX0_reachFrom_L19 v1 k2c n y0 y1 y2 y3 y4 y5 y6 y7 y8 y9 y10) v2 v3 z2.1 z2.1 (x_firstWay v1.toNatClampNeg) z3.1 z3.2 z2.2.1 z2.2.2.1 z2.2.2.2 (upd x_reached z2.1.toNatClampNeg ((x_reached v1.toNatClampNeg) + 1)) x_firstWay x_queue x_queued) else none)) else none) else none) else none)) else none)) else (k2c (v2 + 1) p_row p_column z2.2.1 z2.2.2.1 z2.2.2.2 x_reached x_firstWay x_queue x_queued))))
def fX0_reachFrom_L2 (v1 : Int32)   : Nat → Int32 → Int32 → Int32 → Int32 → Int32 → Int32 → (Nat → Int32) → (Nat → Int32) → (Nat → Int32) → Int32 → Option (Int32 × Int32 × Int32 × Int32 × Int32 × (Nat → Int32) × (Nat → Int32) × (Nat → Int32) × Int32)
  | 0, _, _, _, _, _, _, _, _, _, _ => none
  | n + 1, v2, p_row, p_column, p_down, p_right, p_cushions, x_reached, x_firstWay, x_queue, x_queued => (if (8 : Int32) ≤ v2 then (some (p_row, p_column, p_down, p_right, p_cushions, x_reached, x_firstWay, x_queue, x_queued)) else (Option.bind (fX2_send v1 v2 p_row p_column p_down p_right p_cushions) fun z1 => (fX0_reachFrom_L19 v1 (fun y0 y1 y2 y3 y4 y5 y6 y7 y8 y9 => fX0_reachFrom_L2 v1 n y0 y1 y2 y3 y4 y5 y6 y7 y8 y9) FU v2 1 z1.1 z1.2.1 z1.2.2.1 z1.2.2.2.1 z1.2.2.2.2 x_reached x_firstWay x_queue x_queued)))
def fX0_reachFrom (v1 : Int32) (p_row : Int32) (p_column : Int32) (p_down : Int32) (p_right : Int32) (p_cushions : Int32) (x_reached : Nat → Int32) (x_firstWay : Nat → Int32) (x_queue : Nat → Int32) (x_queued : Int32) : Option (Int32 × Int32 × Int32 × Int32 × Int32 × (Nat → Int32) × (Nat → Int32) × (Nat → Int32) × Int32) := (fX0_reachFrom_L2 v1 FU 0 p_row p_column p_down p_right p_cushions x_reached x_firstWay x_queue x_queued)
def fX0_strokes_L67 (v1 : Int32) (v2 : Int32) (v3 : Int32)   : Nat → Int32 → Int32 → Int32 → Int32 → Int32 → Int32 → (Nat → Int32) → (Nat → Int32) → (Nat → Int32) → Int32 → Option (Int32 × Int32 × Int32 × Int32 × Int32 × Int32 × (Nat → Int32) × (Nat → Int32) × (Nat → Int32) × Int32)
  | 0, _, _, _, _, _, _, _, _, _, _ => none
  | n + 1, v4, p_row, p_column, p_down, p_right, p_cushions, x_reached, x_firstWay, x_queue, x_queued => (if x_queued ≤ v4 then (if bIn v2 45 then (if (0 : Int32) ≤ (x_reached v2.toNatClampNeg) then (if v3 = 0 then (if bIn v2 45 then (some ((x_reached v2.toNatClampNeg), p_row, p_column, p_down, p_right, p_cushions, x_reached, x_firstWay, x_queue, x_queued)) else none) else (if bIn v2 45 then (some ((x_firstWay v2.toNatClampNeg), p_row, p_column, p_down, p_right, p_cushions, x_reached, x_firstWay, x_queue, x_queued)) else none)) else (some ((-6), p_row, p_column, p_down, p_right, p_cushions, x_reached, x_firstWay, x_queue, x_queued))) else none) else (if bIn v4 45 then (Option.bind (fX0_reachFrom (x_queue v4.toNatClampNeg) p_row p_column p_down p_right p_cushions x_reached x_firstWay x_queue x_queued) fun z11 => (fX0_strokes_L67 v1 v2 v3 n (v4 + 1) z11.1 z11.2.1 z11.2.2.1 z11.2.2.2.1 z11.2.2.2.2.1 z11.2.2.2.2.2.1 z11.2.2.2.2.2.2.1 z11.2.2.2.2.2.2.2.1 z11.2.2.2.2.2.2.2.2)) else none))
def fX0_strokes (v1 : Int32) (v2 : Int32) (v3 : Int32) (p_row : Int32) (p_column : Int32) (p_down : Int32) (p_right : Int32) (p_cushions : Int32) (x_reached : Nat → Int32) (x_firstWay : Nat → Int32) (x_queue : Nat → Int32) (x_queued : Int32) : Option (Int32 × Int32 × Int32 × Int32 × Int32 × Int32 × (Nat → Int32) × (Nat → Int32) × (Nat → Int32) × Int32) := (if (fX0_isOpen v1) = 0 then (some ((-1), p_row, p_column, p_down, p_right, p_cushions, x_reached, x_firstWay, x_queue, x_queued)) else (if (fX0_isOpen v2) = 0 then (some ((-1), p_row, p_column, p_down, p_right, p_cushions, x_reached, x_firstWay, x_queue, x_queued)) else (if (fX0_isIn v3 0 1) = 0 then (some ((-2), p_row, p_column, p_down, p_right, p_cushions, x_reached, x_firstWay, x_queue, x_queued)) else (Option.bind (fJ1_fill_2 (-6) x_reached) fun z1 => (if bIn v1 45 then (if bIn v1 45 then (if bIn 0 45 then (fX0_strokes_L67 v1 v2 v3 FU 0 p_row p_column p_down p_right p_cushions (upd z1 v1.toNatClampNeg 0) (upd x_firstWay v1.toNatClampNeg (-6)) (upd x_queue (0 : Int32).toNatClampNeg v1) 1) else none) else none) else none)))))
def fX0_seen (v1 : Int32) (v2 : Int32) (t_sights : Int32) (t_seenStep : Nat → Int32) (t_seenCell : Nat → Int32) : Option (Int32 × Int32 × (Nat → Int32) × (Nat → Int32)) := (if (fX0_isCell v2) = 0 then (some ((-1), t_sights, t_seenStep, t_seenCell)) else (if (fX0_isIn v1 0 60) = 0 then (some ((-2), t_sights, t_seenStep, t_seenCell)) else (if t_sights = 8 then (some ((-4), t_sights, t_seenStep, t_seenCell)) else (if bIn t_sights 8 then (if bIn t_sights 8 then (some ((t_sights + 1), (t_sights + 1), (upd t_seenStep t_sights.toNatClampNeg v1), (upd t_seenCell t_sights.toNatClampNeg v2))) else none) else none))))
def fX0_forget  (t_sights : Int32) : Option (Int32 × Int32) := (some (t_sights, 0))
def fX0_cellAfter (v1 : Int32) (v2 : Int32) (p_row : Int32) (p_column : Int32) (p_down : Int32) (p_right : Int32) (p_cushions : Int32) : Option (Int32 × Int32 × Int32 × Int32 × Int32 × Int32) := (Option.bind (fX0_walkAlone (v1 / 10) (v1 - v1 / 10 * 10) v2 p_row p_column p_down p_right p_cushions) fun z1 => (Option.bind (fX2_cell z1.1 z1.2.1) fun z2 => (some (z2, z1.1, z1.2.1, z1.2.2.1, z1.2.2.2.1, z1.2.2.2.2))))
def fX0_canBe_L27 (v1 : Int32) (t_sights : Int32) (t_seenStep : Nat → Int32) (t_seenCell : Nat → Int32)  : Nat → Int32 → Int32 → Int32 → Int32 → Int32 → Int32 → Int32 → Option (Int32 × Int32 × Int32 × Int32 × Int32 × Int32)
  | 0, _, _, _, _, _, _, _ => none
  | n + 1, v2, v3, p_row, p_column, p_down, p_right, p_cushions => (if t_sights ≤ v3 then (if v2 = 0 ∨ v2 = 1 then (some (v2, p_row, p_column, p_down, p_right, p_cushions)) else none) else (if v2 = 0 then (if v2 = 0 ∨ v2 = 1 then (some (v2, p_row, p_column, p_down, p_right, p_cushions)) else none) else (if bIn v3 8 then (Option.bind (fX0_cellAfter v1 (t_seenStep v3.toNatClampNeg) p_row p_column p_down p_right p_cushions) fun z4 => (if bIn v3 8 then (if z4.1 = (t_seenCell v3.toNatClampNeg) then (fX0_canBe_L27 v1 t_sights t_seenStep t_seenCell n 1 (v3 + 1) z4.2.1 z4.2.2.1 z4.2.2.2.1 z4.2.2.2.2.1 z4.2.2.2.2.2) else (fX0_canBe_L27 v1 t_sights t_seenStep t_seenCell n 0 (v3 + 1) z4.2.1 z4.2.2.1 z4.2.2.2.1 z4.2.2.2.2.1 z4.2.2.2.2.2)) else none)) else none)))
def fX0_canBe (v1 : Int32) (t_sights : Int32) (t_seenStep : Nat → Int32) (t_seenCell : Nat → Int32) (p_row : Int32) (p_column : Int32) (p_down : Int32) (p_right : Int32) (p_cushions : Int32) : Option (Int32 × Int32 × Int32 × Int32 × Int32 × Int32) := (if (8 : Int32) ≤ (v1 - v1 / 10 * 10) then (fX0_canBe_L27 v1 t_sights t_seenStep t_seenCell FU 0 0 p_row p_column p_down p_right p_cushions) else (if (fX0_isOpen (v1 / 10)) = 0 then (fX0_canBe_L27 v1 t_sights t_seenStep t_seenCell FU 0 0 p_row p_column p_down p_right p_cushions) else (fX0_canBe_L27 v1 t_sights t_seenStep t_seenCell FU 1 0 p_row p_column p_down p_right p_cushions)))
def fX0_sent_L4 (v1 : Int32) (t_sights : Int32) (t_seenStep : Nat → Int32) (t_seenCell : Nat → Int32)  : Nat → Int32 → Int32 → Int32 → Int32 → Int32 → Int32 → Int32 → Option (Int32 × Int32 × Int32 × Int32 × Int32 × Int32)
  | 0, _, _, _, _, _, _, _ => none
  | n + 1, v2, v3, p_row, p_column, p_down, p_right, p_cushions => (if (450 : Int32) ≤ v3 then (if v1 = (-1) then (some (v2, p_row, p_column, p_down, p_right, p_cushions)) else (some ((-6), p_row, p_column, p_down, p_right, p_cushions))) else (Option.bind (fX0_canBe v3 t_sights t_seenStep t_seenCell p_row p_column p_down p_right p_cushions) fun z2 => (if z2.1 = 0 then (fX0_sent_L4 v1 t_sights t_seenStep t_seenCell n v2 (v3 + 1) z2.2.1 z2.2.2.1 z2.2.2.2.1 z2.2.2.2.2.1 z2.2.2.2.2.2) else (if v2 = v1 then (some (v3, z2.2.1, z2.2.2.1, z2.2.2.2.1, z2.2.2.2.2.1, z2.2.2.2.2.2)) else (fX0_sent_L4 v1 t_sights t_seenStep t_seenCell n (v2 + 1) (v3 + 1) z2.2.1 z2.2.2.1 z2.2.2.2.1 z2.2.2.2.2.1 z2.2.2.2.2.2)))))
def fX0_sent (v1 : Int32) (t_sights : Int32) (t_seenStep : Nat → Int32) (t_seenCell : Nat → Int32) (p_row : Int32) (p_column : Int32) (p_down : Int32) (p_right : Int32) (p_cushions : Int32) : Option (Int32 × Int32 × Int32 × Int32 × Int32 × Int32) := (fX0_sent_L4 v1 t_sights t_seenStep t_seenCell FU 0 0 p_row p_column p_down p_right p_cushions)
def fX0_ask_L163 (v1 : Int32) (t_sights : Int32) (t_seenStep : Nat → Int32) (t_seenCell : Nat → Int32)  (v3 : Int32) (v4 : Int32) (p_row : Int32) (p_column : Int32) (p_down : Int32) (p_right : Int32) (p_cushions : Int32) (x_fitting : Nat → Int32) (x_byCell : Nat → Int32) : Option (Int32 × Int32 × Int32 × Int32 × Int32 × Int32 × (Nat → Int32) × (Nat → Int32)) := (if v3 < 0 then (some (v3, p_row, p_column, p_down, p_right, p_cushions, x_fitting, x_byCell)) else (if v1 = 0 then (some (v3, p_row, p_column, p_down, p_right, p_cushions, x_fitting, x_byCell)) else (some (v4, p_row, p_column, p_down, p_right, p_cushions, x_fitting, x_byCell))))
def fX0_ask_L82 (v1 : Int32) (t_sights : Int32) (t_seenStep : Nat → Int32) (t_seenCell : Nat → Int32) (k57c : Int32 → Int32 → Int32 → Int32 → Int32 → Int32 → Int32 → Int32 → Int32 → (Nat → Int32) → (Nat → Int32) → Option (Int32 × Int32 × Int32 × Int32 × Int32 × Int32 × (Nat → Int32) × (Nat → Int32))) : Nat → Int32 → Int32 → Int32 → Int32 → Int32 → Int32 → Int32 → Int32 → Int32 → Int32 → Int32 → (Nat → Int32) → (Nat → Int32) → Option (Int32 × Int32 × Int32 × Int32 × Int32 × Int32 × (Nat → Int32) × (Nat → Int32))
  | 0, _, _, _, _, _, _, _, _, _, _, _, _, _ => none
  | n + 1, v2, v3, v4, v5, v6, v7, p_row, p_column, p_down, p_right, p_cushions, x_fitting, x_byCell => (if v2 ≤ v7 then (if v4 ≤ v6 then (k57c v2 v3 (if v6 < v4 then v6 else v4) (v5 + 1) p_row p_column p_down p_right p_cushions x_fitting x_byCell) else (k57c v2 v5 (if v6 < v4 then v6 else v4) (v5 + 1) p_row p_column p_down p_right p_cushions x_fitting x_byCell)) else (if bIn v7 450 then (Option.bind (fX0_cellAfter (x_fitting v7.toNatClampNeg) v5 p_row p_column p_down p_right p_cushions) fun z6 => (if bIn z6.1 45 then (if bIn z6.1 45 then (if bIn z6.1 45 then (fX0_ask_L82 v1 t_sights t_seenStep t_seenCell k57c n v2 v3 v4 v5 (if v6 < ((upd x_byCell z6.1.toNatClampNeg ((x_byCell z6.1.toNatClampNeg) + 1)) z6.1.toNatClampNeg) then ((upd x_byCell z6.1.toNatClampNeg ((x_byCell z6.1.toNatClampNeg) + 1)) z6.1.toNatClampNeg) else v6) (v7 + 1) z6.2.1 z6.2.2.1 z6.2.2.2.1 z6.2.2.2.2.1 z6.2.2.2.2.2 x_fitting (upd x_byCell z6.1.toNatClampNeg ((x_byCell z6.1.toNatClampNeg) + 1))) else none) else none) else none)) else none))
def fX0_ask_L57 (v1 : Int32) (t_sights : Int32) (t_seenStep : Nat → Int32) (t_seenCell : Nat → Int32)  : Nat → Int32 → Int32 → Int32 → Int32 → Int32 → Int32 → Int32 → Int32 → Int32 → (Nat → Int32) → (Nat → Int32) → Option (Int32 × Int32 × Int32 × Int32 × Int32 × Int32 × (Nat → Int32) × (Nat → Int32))
  | 0, _, _, _, _, _, _, _, _, _, _, _ => none
  | n + 1, v2, v3, v4, v5, p_row, p_column, p_down, p_right, p_cushions, x_fitting, x_byCell => (if (60 : Int32) < v5 then (fX0_ask_L163 v1 t_sights t_seenStep t_seenCell v3 v4 p_row p_column p_down p_right p_cushions x_fitting x_byCell) else (if v2 ≤ 0 then (fX0_ask_L163 v1 t_sights t_seenStep t_seenCell v3 v4 p_row p_column p_down p_right p_cushions x_fitting x_byCell) else (Option.bind (fJ1_fill_2 0 x_byCell) fun z3 => (fX0_ask_L82 v1 t_sights t_seenStep t_seenCell (fun y0 y1 y2 y3 y4 y5 y6 y7 y8 y9 y10 => fX0_ask_L57 v1 t_sights t_seenStep t_seenCell n y0 y1 y2 y3 y4 y5 y6 y7 y8 y9 y10) FU v2 v3 v4 v5 0 0 p_row p_column p_down p_right p_cushions x_fitting z3))))
def fX0_ask_L16 (v1 : Int32) (t_sights : Int32) (t_seenStep : Nat → Int32) (t_seenCell : Nat → Int32)  : Nat → Int32 → Int32 → Int32 → Int32 → Int32 → Int32 → Int32 → (Nat → Int32) → (Nat → Int32) → Option (Int32 × Int32 × Int32 × Int32 × Int32 × Int32 × (Nat → Int32) × (Nat → Int32))
  | 0, _, _, _, _, _, _, _, _, _ => none
  | n + 1, v2, v3, p_row, p_column, p_down, p_right, p_cushions, x_fitting, x_byCell => (if (450 : Int32) ≤ v3 then (fX0_ask_L57 v1 t_sights t_seenStep t_seenCell FU v2 (-6) 1000000 0 p_row p_column p_down p_right p_cushions x_fitting x_byCell) else (Option.bind (fX0_canBe v3 t_sights t_seenStep t_seenCell p_row p_column p_down p_right p_cushions) fun z13 => (if z13.1 = 0 then (fX0_ask_L16 v1 t_sights t_seenStep t_seenCell n v2 (v3 + 1) z13.2.1 z13.2.2.1 z13.2.2.2.1 z13.2.2.2.2.1 z13.2.2.2.2.2 x_fitting x_byCell) else (if bIn v2 450 then (fX0_ask_L16 v1 t_sights t_seenStep t_seenCell n (v2 + 1) (v3 + 1) z13.2.1 z13.2.2.1 z13.2.2.2.1 z13.2.2.2.2.1 z13.2.2.2.2.2 (upd x_fitting v2.toNatClampNeg v3) x_byCell) else none))))
def fX0_ask (v1 : Int32) (t_sights : Int32) (t_seenStep : Nat → Int32) (t_seenCell : Nat → Int32) (p_row : Int32) (p_column : Int32) (p_down : Int32) (p_right : Int32) (p_cushions : Int32) (x_fitting : Nat → Int32) (x_byCell : Nat → Int32) : Option (Int32 × Int32 × Int32 × Int32 × Int32 × Int32 × (Nat → Int32) × (Nat → Int32)) := (if (fX0_isIn v1 0 1) = 0 then (some ((-2), p_row, p_column, p_down, p_right, p_cushions, x_fitting, x_byCell)) else (fX0_ask_L16 v1 t_sights t_seenStep t_seenCell FU 0 0 p_row p_column p_down p_right p_cushions x_fitting x_byCell))
def fX0_firstOf_L43 (v1 : Int32) (v2 : Int32) (x_wins : Nat → Int32) (k9c : Int32 → Int32 → Option (Int32)) (v3 : Int32) (v4 : Int32) (k0 : Int32) : Option (Int32) := (if k0 < 0 then (k9c v3 (v4 + 1)) else (if bIn (v3 + k0) 2000 then (if (x_wins (v3 + k0).toNatClampNeg) = 0 then (some v4) else (k9c v3 (v4 + 1))) else none))
def fX0_firstOf_L9 (v1 : Int32) (v2 : Int32) (x_wins : Nat → Int32)  : Nat → Int32 → Int32 → Option (Int32)
  | 0, _, _ => none
  | n + 1, v3, v4 => (if (30 : Int32) ≤ v4 then (if v2 = 1 then (if v1 ≤ 0 then (some (-6)) else (if bIn v1 2000 then (if (x_wins v1.toNatClampNeg) = 0 then (some 99) else (some (-6))) else none)) else (some (-6))) else (if (v4 - v4 / 10 * 10) = 0 then (fX0_firstOf_L43 v1 v2 x_wins (fun y0 y1 => fX0_firstOf_L9 v1 v2 x_wins n y0 y1) v3 v4 (-6)) else (Option.bind (fX0_taken v1 (v4 / 10) (v4 - v4 / 10 * 10)) fun z5 => (fX0_firstOf_L43 v1 v2 x_wins (fun y0 y1 => fX0_firstOf_L9 v1 v2 x_wins n y0 y1) v3 v4 z5))))
def fX0_firstOf (v1 : Int32) (v2 : Int32) (x_wins : Nat → Int32) : Option (Int32) := (fX0_firstOf_L9 v1 v2 x_wins FU (v2 * 1000) 1)
def fX0_chalk_L44 (v1 : Int32) (v2 : Int32) (v3 : Int32)  (k35c : Int32 → (Nat → Int32) → Option (Int32 × (Nat → Int32))) : Nat → Int32 → Int32 → (Nat → Int32) → Option (Int32 × (Nat → Int32))
  | 0, _, _, _ => none
  | n + 1, v4, v5, x_wins => (if v1 < v5 then (k35c (v4 + 1) x_wins) else (Option.bind (fX0_firstOf v5 v4 x_wins) fun z4 => (if z4 < 0 then (if bIn ((v4 * 1000) + v5) 2000 then (fX0_chalk_L44 v1 v2 v3 k35c n v4 (v5 + 1) (upd x_wins ((v4 * 1000) + v5).toNatClampNeg (vp_nar .boolean 0))) else none) else (if bIn ((v4 * 1000) + v5) 2000 then (fX0_chalk_L44 v1 v2 v3 k35c n v4 (v5 + 1) (upd x_wins ((v4 * 1000) + v5).toNatClampNeg (vp_nar .boolean 1))) else none))))
def fX0_chalk_L35 (v1 : Int32) (v2 : Int32) (v3 : Int32)   : Nat → Int32 → (Nat → Int32) → Option (Int32 × (Nat → Int32))
  | 0, _, _ => none
  | n + 1, v4, x_wins => (if v2 < v4 then (Option.bind (fX0_firstOf v1 v2 x_wins) fun z1 => (if v3 = 0 then (if z1 < 0 then (some ((fX0_asNumber 0), x_wins)) else (some ((fX0_asNumber 1), x_wins))) else (some (z1, x_wins)))) else (fX0_chalk_L44 v1 v2 v3 (fun y0 y1 => fX0_chalk_L35 v1 v2 v3 n y0 y1) FU v4 0 x_wins))
def fX0_chalk (v1 : Int32) (v2 : Int32) (v3 : Int32) (x_wins : Nat → Int32) : Option (Int32 × (Nat → Int32)) := (if (fX0_isIn v1 0 999) = 0 then (some ((-2), x_wins)) else (if (fX0_isIn v2 0 1) = 0 then (some ((-2), x_wins)) else (if (fX0_isIn v3 0 1) = 0 then (some ((-2), x_wins)) else (fX0_chalk_L35 v1 v2 v3 FU 0 x_wins))))
def fX0_match_L226 (v1 : Int32) (v2 : Int32) (v3 : Int32) (v4 : Int32) (v5 : Int32) (v6 : Int32)  (k106c : Int32 → Int64 → Int32 → (Nat → Int64) → Option (Int64 × (Nat → Int64))) (k116c : Int32 → Int64 → Int32 → Int32 → (Nat → Int64) → Option (Int64 × (Nat → Int64))) (v7 : Int32) (v8 : Int64) (v10 : Int32) (v11 : Int32) (v12 : Int64) (x_ways : Nat → Int64) : Option (Int64 × (Nat → Int64)) := (if (lg_cmp v12 0) ≤ 0 then (k116c v7 v8 v10 (v11 + 1) x_ways) else (if bIn (((9 : Int32) * (v10 + 1)) + v11) 81 then (if bIn (((9 : Int32) * (v10 + 1)) + v11) 81 then (if bIn ((((9 : Int32) * v10) + v11) + 1) 81 then (if bIn ((((9 : Int32) * v10) + v11) + 1) 81 then (k116c v7 v8 v10 (v11 + 1) (vp_updL (vp_updL x_ways (((9 : Int32) * (v10 + 1)) + v11).toNatClampNeg ((x_ways (((9 : Int32) * (v10 + 1)) + v11).toNatClampNeg) + (v12 * (v2.toInt64)))) ((((9 : Int32) * v10) + v11) + 1).toNatClampNeg (((vp_updL x_ways (((9 : Int32) * (v10 + 1)) + v11).toNatClampNeg ((x_ways (((9 : Int32) * (v10 + 1)) + v11).toNatClampNeg) + (v12 * (v2.toInt64)))) ((((9 : Int32) * v10) + v11) + 1).toNatClampNeg) + (v12 * (((10 : Int32) - v2).toInt64))))) else none) else none) else none) else none))
def fX0_match_L207 (v1 : Int32) (v2 : Int32) (v3 : Int32) (v4 : Int32) (v5 : Int32) (v6 : Int32)  (k106c : Int32 → Int64 → Int32 → (Nat → Int64) → Option (Int64 × (Nat → Int64))) (k116c : Int32 → Int64 → Int32 → Int32 → (Nat → Int64) → Option (Int64 × (Nat → Int64))) (v7 : Int32) (v10 : Int32) (v11 : Int32) (v12 : Int64) (v14 : Int32) (k0 : Int64) (k1 : Int32) (x_ways : Nat → Int64) : Option (Int64 × (Nat → Int64)) := (Option.bind (fX0_power (v7 - v14)) fun z14 => (k116c v7 (k0 + (((k1.toInt64) * v12) * z14)) v10 (v11 + 1) x_ways))
def fX0_match_L166 (v1 : Int32) (v2 : Int32) (v3 : Int32) (v4 : Int32) (v5 : Int32) (v6 : Int32)  (k106c : Int32 → Int64 → Int32 → (Nat → Int64) → Option (Int64 × (Nat → Int64))) (k116c : Int32 → Int64 → Int32 → Int32 → (Nat → Int64) → Option (Int64 × (Nat → Int64))) (v7 : Int32) (v8 : Int64) (v10 : Int32) (v11 : Int32) (v12 : Int64) (v14 : Int32) (k0 : Int32) (x_ways : Nat → Int64) : Option (Int64 × (Nat → Int64)) := (if k0 = 0 then (fX0_match_L226 v1 v2 v3 v4 v5 v6 k106c k116c v7 v8 v10 v11 v12 x_ways) else (if (lg_cmp v12 0) ≤ 0 then (fX0_match_L226 v1 v2 v3 v4 v5 v6 k106c k116c v7 v8 v10 v11 v12 x_ways) else (if v5 = 1 then (fX0_match_L207 v1 v2 v3 v4 v5 v6 k106c k116c v7 v10 v11 v12 v14 v8 v14 x_ways) else (if v10 = v1 then (fX0_match_L207 v1 v2 v3 v4 v5 v6 k106c k116c v7 v10 v11 v12 v14 v8 (fX0_asNumber 1) x_ways) else (fX0_match_L207 v1 v2 v3 v4 v5 v6 k106c k116c v7 v10 v11 v12 v14 v8 (fX0_asNumber 0) x_ways)))))
def fX0_match_L116 (v1 : Int32) (v2 : Int32) (v3 : Int32) (v4 : Int32) (v5 : Int32) (v6 : Int32)  (k106c : Int32 → Int64 → Int32 → (Nat → Int64) → Option (Int64 × (Nat → Int64))) : Nat → Int32 → Int64 → Int32 → Int32 → (Nat → Int64) → Option (Int64 × (Nat → Int64))
  | 0, _, _, _, _, _ => none
  | n + 1, v7, v8, v10, v11, x_ways => (if v1 < v11 then (k106c v7 v8 (v10 + 1) x_ways) else (if bIn (((9 : Int32) * v10) + v11) 81 then (if v10 = v1 then (fX0_match_L166 v1 v2 v3 v4 v5 v6 k106c (fun y0 y1 y2 y3 y4 => fX0_match_L116 v1 v2 v3 v4 v5 v6 k106c n y0 y1 y2 y3 y4) v7 v8 v10 v11 (x_ways (((9 : Int32) * v10) + v11).toNatClampNeg) (((v10 + v11) - v3) - v4) 1 x_ways) else (if v11 = v1 then (fX0_match_L166 v1 v2 v3 v4 v5 v6 k106c (fun y0 y1 y2 y3 y4 => fX0_match_L116 v1 v2 v3 v4 v5 v6 k106c n y0 y1 y2 y3 y4) v7 v8 v10 v11 (x_ways (((9 : Int32) * v10) + v11).toNatClampNeg) (((v10 + v11) - v3) - v4) 1 x_ways) else (fX0_match_L166 v1 v2 v3 v4 v5 v6 k106c (fun y0 y1 y2 y3 y4 => fX0_match_L116 v1 v2 v3 v4 v5 v6 k106c n y0 y1 y2 y3 y4) v7 v8 v10 v11 (x_ways (((9 : Int32) * v10) + v11).toNatClampNeg) (((v10 + v11) - v3) - v4) 0 x_ways))) else none))
def fX0_match_L106 (v1 : Int32) (v2 : Int32) (v3 : Int32) (v4 : Int32) (v5 : Int32) (v6 : Int32)   : Nat → Int32 → Int64 → Int32 → (Nat → Int64) → Option (Int64 × (Nat → Int64))
  | 0, _, _, _, _ => none
  | n + 1, v7, v8, v10, x_ways => (if v1 < v10 then (Option.bind (fX0_power v7) fun z3 => (Option.bind (fX0_divisor 120 v8 z3) fun z4 => (if v6 = 0 then (if ¬ z4 = 0 then (some ((v8 / z4), x_ways)) else none) else (if ¬ z4 = 0 then (some ((z3 / z4), x_ways)) else none)))) else (fX0_match_L116 v1 v2 v3 v4 v5 v6 (fun y0 y1 y2 y3 => fX0_match_L106 v1 v2 v3 v4 v5 v6 n y0 y1 y2 y3) FU v7 v8 v10 v4 x_ways))
def fX0_match (v1 : Int32) (v2 : Int32) (v3 : Int32) (v4 : Int32) (v5 : Int32) (v6 : Int32) (x_ways : Nat → Int64) : Option (Int64 × (Nat → Int64)) := (if (fX0_isIn v1 1 8) = 0 then (some ((-1000000000000000002), x_ways)) else (if (fX0_isIn v2 0 10) = 0 then (some ((-1000000000000000002), x_ways)) else (if (fX0_isIn v3 0 (v1 - 1)) = 0 then (some ((-1000000000000000002), x_ways)) else (if (fX0_isIn v4 0 (v1 - 1)) = 0 then (some ((-1000000000000000002), x_ways)) else (if (fX0_isIn v5 0 1) = 0 then (some ((-1000000000000000002), x_ways)) else (if (fX0_isIn v6 0 1) = 0 then (some ((-1000000000000000002), x_ways)) else (Option.bind (fJ1_fill_3 0 x_ways) fun z1 => (if bIn (((9 : Int32) * v3) + v4) 81 then (fX0_match_L106 v1 v2 v3 v4 v5 v6 FU (((((2 : Int32) * v1) - v3) - v4) - 1) 0 v3 (vp_updL z1 (((9 : Int32) * v3) + v4).toNatClampNeg 1)) else none))))))))
def fX0_season_L51 (v1 : Int32) (v2 : Int32) (v3 : Int32) (t_cells : Nat → Int32) (t_points : Int32) (t_fouls : Int32) (t_evening : Int32) (t_sights : Int32) (t_seenStep : Nat → Int32) (t_seenCell : Nat → Int32)  : Nat → Int64 → Int32 → (Nat → Int32) → Int32 → Int32 → Int32 → Int32 → (Nat → Int32) → (Nat → Int32) → Int32 → Int32 → Int32 → Int32 → Int32 → Int32 → Int32 → Int32 → Option (Int32 × (Nat → Int32) × Int32 × Int32 × Int32 × Int32 × (Nat → Int32) × (Nat → Int32) × Int32 × Int32 × Int32 × Int32 × Int32 × Int32 × Int32 × Int32)
  | 0, _, _, _, _, _, _, _, _, _, _, _, _, _, _, _, _, _ => none
  | n + 1, v4, v6, n_cells, n_points, n_fouls, n_evening, n_sights, n_seenStep, n_seenCell, n_touches, n_cushions, n_p_row, n_p_column, n_p_down, n_p_right, n_p_cushions, x_reason => (if v2 ≤ v6 then (if v3 = 0 then (some (n_points, n_cells, n_points, n_fouls, n_evening, n_sights, n_seenStep, n_seenCell, n_touches, n_cushions, n_p_row, n_p_column, n_p_down, n_p_right, n_p_cushions, x_reason)) else (if v3 = 1 then (some (n_fouls, n_cells, n_points, n_fouls, n_evening, n_sights, n_seenStep, n_seenCell, n_touches, n_cushions, n_p_row, n_p_column, n_p_down, n_p_right, n_p_cushions, x_reason)) else (Option.bind (fX1_countDown n_cells) fun z2 => (some (z2, n_cells, n_points, n_fouls, n_evening, n_sights, n_seenStep, n_seenCell, n_touches, n_cushions, n_p_row, n_p_column, n_p_down, n_p_right, n_p_cushions, x_reason))))) else (if (((((((75 : Int64) * v4) + 74) - (((75 : Int64) * v4) + 74) / 65537 * 65537) / 3) - (((((75 : Int64) * v4) + 74) - (((75 : Int64) * v4) + 74) / 65537 * 65537) / 3) / 8 * 8).toInt32) = 5 then (Option.bind (fX1_bringUp ((((((75 : Int64) * v4) + 74) - (((75 : Int64) * v4) + 74) / 65537 * 65537) - ((((75 : Int64) * v4) + 74) - (((75 : Int64) * v4) + 74) / 65537 * 65537) / 3 * 3).toInt32) n_cells) fun z6 => (fX0_season_L51 v1 v2 v3 t_cells t_points t_fouls t_evening t_sights t_seenStep t_seenCell n ((((75 : Int64) * v4) + 74) - (((75 : Int64) * v4) + 74) / 65537 * 65537) (v6 + 1) z6.2 n_points n_fouls n_evening n_sights n_seenStep n_seenCell n_touches n_cushions n_p_row n_p_column n_p_down n_p_right n_p_cushions z6.1)) else (if (((((((75 : Int64) * v4) + 74) - (((75 : Int64) * v4) + 74) / 65537 * 65537) / 3) - (((((75 : Int64) * v4) + 74) - (((75 : Int64) * v4) + 74) / 65537 * 65537) / 3) / 8 * 8).toInt32) = 6 then (Option.bind (fX1_nap n_cells) fun z8 => (fX0_season_L51 v1 v2 v3 t_cells t_points t_fouls t_evening t_sights t_seenStep t_seenCell n ((((75 : Int64) * v4) + 74) - (((75 : Int64) * v4) + 74) / 65537 * 65537) (v6 + 1) z8 n_points n_fouls n_evening n_sights n_seenStep n_seenCell n_touches n_cushions n_p_row n_p_column n_p_down n_p_right n_p_cushions x_reason)) else (if (((((((75 : Int64) * v4) + 74) - (((75 : Int64) * v4) + 74) / 65537 * 65537) / 3) - (((((75 : Int64) * v4) + 74) - (((75 : Int64) * v4) + 74) / 65537 * 65537) / 3) / 8 * 8).toInt32) = 7 then (Option.bind (fX1_pass n_evening) fun z10 => (fX0_season_L51 v1 v2 v3 t_cells t_points t_fouls t_evening t_sights t_seenStep t_seenCell n ((((75 : Int64) * v4) + 74) - (((75 : Int64) * v4) + 74) / 65537 * 65537) (v6 + 1) n_cells n_points n_fouls z10.2 n_sights n_seenStep n_seenCell n_touches n_cushions n_p_row n_p_column n_p_down n_p_right n_p_cushions z10.1)) else (Option.bind (fX1_stroke ((((((75 : Int64) * v4) + 74) - (((75 : Int64) * v4) + 74) / 65537 * 65537) - ((((75 : Int64) * v4) + 74) - (((75 : Int64) * v4) + 74) / 65537 * 65537) / 3 * 3).toInt32) (((((((75 : Int64) * v4) + 74) - (((75 : Int64) * v4) + 74) / 65537 * 65537) / 24).toInt32) - ((((((75 : Int64) * v4) + 74) - (((75 : Int64) * v4) + 74) / 65537 * 65537) / 24).toInt32) / 8 * 8) ((1 : Int32) + ((((((((75 : Int64) * v4) + 74) - (((75 : Int64) * v4) + 74) / 65537 * 65537) / 24).toInt32) / 8) - (((((((75 : Int64) * v4) + 74) - (((75 : Int64) * v4) + 74) / 65537 * 65537) / 24).toInt32) / 8) / 9 * 9)) n_cells n_points n_fouls n_touches n_cushions n_p_row n_p_column n_p_down n_p_right n_p_cushions) fun z11 => (fX0_season_L51 v1 v2 v3 t_cells t_points t_fouls t_evening t_sights t_seenStep t_seenCell n ((((75 : Int64) * v4) + 74) - (((75 : Int64) * v4) + 74) / 65537 * 65537) (v6 + 1) z11.2.1 z11.2.2.1 z11.2.2.2.1 n_evening n_sights n_seenStep n_seenCell z11.2.2.2.2.1 z11.2.2.2.2.2.1 z11.2.2.2.2.2.2.1 z11.2.2.2.2.2.2.2.1 z11.2.2.2.2.2.2.2.2.1 z11.2.2.2.2.2.2.2.2.2.1 z11.2.2.2.2.2.2.2.2.2.2 z11.1))))))
def fX0_season (v1 : Int32) (v2 : Int32) (v3 : Int32) (t_cells : Nat → Int32) (t_points : Int32) (t_fouls : Int32) (t_evening : Int32) (t_sights : Int32) (t_seenStep : Nat → Int32) (t_seenCell : Nat → Int32) (n_cells : Nat → Int32) (n_points : Int32) (n_fouls : Int32) (n_evening : Int32) (n_sights : Int32) (n_seenStep : Nat → Int32) (n_seenCell : Nat → Int32) (n_touches : Int32) (n_cushions : Int32) (n_p_row : Int32) (n_p_column : Int32) (n_p_down : Int32) (n_p_right : Int32) (n_p_cushions : Int32) (x_reason : Int32) : Option (Int32 × (Nat → Int32) × Int32 × Int32 × Int32 × Int32 × (Nat → Int32) × (Nat → Int32) × Int32 × Int32 × Int32 × Int32 × Int32 × Int32 × Int32 × Int32) := (if (fX0_isIn v1 0 9999) = 0 then (some ((-2), n_cells, n_points, n_fouls, n_evening, n_sights, n_seenStep, n_seenCell, n_touches, n_cushions, n_p_row, n_p_column, n_p_down, n_p_right, n_p_cushions, x_reason)) else (if (fX0_isIn v2 1 99) = 0 then (some ((-2), n_cells, n_points, n_fouls, n_evening, n_sights, n_seenStep, n_seenCell, n_touches, n_cushions, n_p_row, n_p_column, n_p_down, n_p_right, n_p_cushions, x_reason)) else (if (fX0_isIn v3 0 2) = 0 then (some ((-2), n_cells, n_points, n_fouls, n_evening, n_sights, n_seenStep, n_seenCell, n_touches, n_cushions, n_p_row, n_p_column, n_p_down, n_p_right, n_p_cushions, x_reason)) else (Option.bind (fX1_copy n_cells n_points n_fouls n_evening n_sights n_seenStep n_seenCell n_touches n_cushions t_cells t_points t_fouls t_evening t_sights t_seenStep t_seenCell) fun z1 => (fX0_season_L51 v1 v2 v3 t_cells t_points t_fouls t_evening t_sights t_seenStep t_seenCell FU (v1.toInt64) 0 z1.1 z1.2.1 z1.2.2.1 z1.2.2.2.1 z1.2.2.2.2.1 z1.2.2.2.2.2.1 z1.2.2.2.2.2.2.1 z1.2.2.2.2.2.2.2.1 z1.2.2.2.2.2.2.2.2 n_p_row n_p_column n_p_down n_p_right n_p_cushions x_reason)))))
def fX0_image (v1 : Int32) (t_cells : Nat → Int32) (t_points : Int32) (t_fouls : Int32) (t_evening : Int32) (t_sights : Int32) (t_seenStep : Nat → Int32) (t_seenCell : Nat → Int32) (i_cells : Nat → Int32) (i_points : Int32) (i_fouls : Int32) (i_evening : Int32) (i_sights : Int32) (i_seenStep : Nat → Int32) (i_seenCell : Nat → Int32) (i_isKept : Int32) (i_touches : Int32) (i_cushions : Int32) (j_cells : Nat → Int32) (j_points : Int32) (j_fouls : Int32) (j_evening : Int32) (j_sights : Int32) (j_seenStep : Nat → Int32) (j_seenCell : Nat → Int32) (j_isKept : Int32) (j_touches : Int32) (j_cushions : Int32) : Option (Int32 × (Nat → Int32) × Int32 × Int32 × Int32 × Int32 × (Nat → Int32) × (Nat → Int32) × Int32 × Int32 × Int32 × (Nat → Int32) × Int32 × Int32 × Int32 × Int32 × (Nat → Int32) × (Nat → Int32) × Int32 × Int32 × Int32) := (if (fX0_isIn v1 0 1) = 0 then (some ((-2), i_cells, i_points, i_fouls, i_evening, i_sights, i_seenStep, i_seenCell, i_isKept, i_touches, i_cushions, j_cells, j_points, j_fouls, j_evening, j_sights, j_seenStep, j_seenCell, j_isKept, j_touches, j_cushions)) else (if v1 = 0 then (Option.bind (fX1_copy i_cells i_points i_fouls i_evening i_sights i_seenStep i_seenCell i_touches i_cushions t_cells t_points t_fouls t_evening t_sights t_seenStep t_seenCell) fun z1 => (if v1 = 0 then (some (1, z1.1, z1.2.1, z1.2.2.1, z1.2.2.2.1, z1.2.2.2.2.1, z1.2.2.2.2.2.1, z1.2.2.2.2.2.2.1, 1, z1.2.2.2.2.2.2.2.1, z1.2.2.2.2.2.2.2.2, j_cells, j_points, j_fouls, j_evening, j_sights, j_seenStep, j_seenCell, j_isKept, j_touches, j_cushions)) else if v1 = 1 then (some (1, z1.1, z1.2.1, z1.2.2.1, z1.2.2.2.1, z1.2.2.2.2.1, z1.2.2.2.2.2.1, z1.2.2.2.2.2.2.1, i_isKept, z1.2.2.2.2.2.2.2.1, z1.2.2.2.2.2.2.2.2, j_cells, j_points, j_fouls, j_evening, j_sights, j_seenStep, j_seenCell, 1, j_touches, j_cushions)) else none)) else if v1 = 1 then (Option.bind (fX1_copy j_cells j_points j_fouls j_evening j_sights j_seenStep j_seenCell j_touches j_cushions t_cells t_points t_fouls t_evening t_sights t_seenStep t_seenCell) fun z4 => (if v1 = 0 then (some (1, i_cells, i_points, i_fouls, i_evening, i_sights, i_seenStep, i_seenCell, 1, i_touches, i_cushions, z4.1, z4.2.1, z4.2.2.1, z4.2.2.2.1, z4.2.2.2.2.1, z4.2.2.2.2.2.1, z4.2.2.2.2.2.2.1, j_isKept, z4.2.2.2.2.2.2.2.1, z4.2.2.2.2.2.2.2.2)) else if v1 = 1 then (some (1, i_cells, i_points, i_fouls, i_evening, i_sights, i_seenStep, i_seenCell, i_isKept, i_touches, i_cushions, z4.1, z4.2.1, z4.2.2.1, z4.2.2.2.1, z4.2.2.2.2.1, z4.2.2.2.2.2.1, z4.2.2.2.2.2.2.1, 1, z4.2.2.2.2.2.2.2.1, z4.2.2.2.2.2.2.2.2)) else none)) else none))
def fX0_restore (v1 : Int32) (t_cells : Nat → Int32) (t_points : Int32) (t_fouls : Int32) (t_evening : Int32) (t_sights : Int32) (t_seenStep : Nat → Int32) (t_seenCell : Nat → Int32) (t_touches : Int32) (t_cushions : Int32) (i_cells : Nat → Int32) (i_points : Int32) (i_fouls : Int32) (i_evening : Int32) (i_sights : Int32) (i_seenStep : Nat → Int32) (i_seenCell : Nat → Int32) (i_isKept : Int32) (j_cells : Nat → Int32) (j_points : Int32) (j_fouls : Int32) (j_evening : Int32) (j_sights : Int32) (j_seenStep : Nat → Int32) (j_seenCell : Nat → Int32) (j_isKept : Int32) : Option (Int32 × (Nat → Int32) × Int32 × Int32 × Int32 × Int32 × (Nat → Int32) × (Nat → Int32) × Int32 × Int32) := (if (fX0_isIn v1 0 1) = 0 then (some ((-2), t_cells, t_points, t_fouls, t_evening, t_sights, t_seenStep, t_seenCell, t_touches, t_cushions)) else (if v1 = 0 then (if i_isKept = 0 then (some ((-3), t_cells, t_points, t_fouls, t_evening, t_sights, t_seenStep, t_seenCell, t_touches, t_cushions)) else (if v1 = 0 then (Option.bind (fX1_copy t_cells t_points t_fouls t_evening t_sights t_seenStep t_seenCell t_touches t_cushions i_cells i_points i_fouls i_evening i_sights i_seenStep i_seenCell) fun z1 => (some (1, z1.1, z1.2.1, z1.2.2.1, z1.2.2.2.1, z1.2.2.2.2.1, z1.2.2.2.2.2.1, z1.2.2.2.2.2.2.1, z1.2.2.2.2.2.2.2.1, z1.2.2.2.2.2.2.2.2))) else if v1 = 1 then (Option.bind (fX1_copy t_cells t_points t_fouls t_evening t_sights t_seenStep t_seenCell t_touches t_cushions j_cells j_points j_fouls j_evening j_sights j_seenStep j_seenCell) fun z2 => (some (1, z2.1, z2.2.1, z2.2.2.1, z2.2.2.2.1, z2.2.2.2.2.1, z2.2.2.2.2.2.1, z2.2.2.2.2.2.2.1, z2.2.2.2.2.2.2.2.1, z2.2.2.2.2.2.2.2.2))) else none)) else if v1 = 1 then (if j_isKept = 0 then (some ((-3), t_cells, t_points, t_fouls, t_evening, t_sights, t_seenStep, t_seenCell, t_touches, t_cushions)) else (if v1 = 0 then (Option.bind (fX1_copy t_cells t_points t_fouls t_evening t_sights t_seenStep t_seenCell t_touches t_cushions i_cells i_points i_fouls i_evening i_sights i_seenStep i_seenCell) fun z6 => (some (1, z6.1, z6.2.1, z6.2.2.1, z6.2.2.2.1, z6.2.2.2.2.1, z6.2.2.2.2.2.1, z6.2.2.2.2.2.2.1, z6.2.2.2.2.2.2.2.1, z6.2.2.2.2.2.2.2.2))) else if v1 = 1 then (Option.bind (fX1_copy t_cells t_points t_fouls t_evening t_sights t_seenStep t_seenCell t_touches t_cushions j_cells j_points j_fouls j_evening j_sights j_seenStep j_seenCell) fun z7 => (some (1, z7.1, z7.2.1, z7.2.2.1, z7.2.2.2.1, z7.2.2.2.2.1, z7.2.2.2.2.2.1, z7.2.2.2.2.2.2.1, z7.2.2.2.2.2.2.2.1, z7.2.2.2.2.2.2.2.2))) else none)) else none))
def fX0_told (v1 : Int32) (t_cells : Nat → Int32) (t_points : Int32) (t_fouls : Int32) (t_evening : Int32) (t_sights : Int32) (x_signs : Int32) : Option (Int32) := (if v1 = 0 then (some x_signs) else (if v1 = 1 then (some t_points) else (if v1 = 2 then (some t_fouls) else (if v1 = 3 then (some t_evening) else (if v1 = 4 then (some t_sights) else (if (fX0_isBall (v1 - 10)) = 0 then (some (-2)) else (if bIn (v1 - 10) 3 then (some (t_cells (v1 - 10).toNatClampNeg)) else none)))))))
set_option maxHeartbeats 4000000 in
set_option maxRecDepth 100000 in
theorem metX0_ball {v1 : Int32} {v2 : Int32} {res : Int32 × (Nat → Int32)} (hf : fX0_ball v1 v2 t_cells = some res) : CtI l yX0_ball cX0_ball 5 .int 2 D E sz [.ref (h 0), .int v1, .int v2] (WX0 h E t_cells t_points t_fouls t_evening t_sights t_seenStep t_seenCell t_isKept t_touches t_cushions t_p_row t_p_column t_p_down t_p_right t_p_cushions n_cells n_points n_fouls n_evening n_sights n_seenStep n_seenCell n_isKept n_touches n_cushions n_p_row n_p_column n_p_down n_p_right n_p_cushions i_cells i_points i_fouls i_evening i_sights i_seenStep i_seenCell i_isKept i_touches i_cushions i_p_row i_p_column i_p_down i_p_right i_p_cushions j_cells j_points j_fouls j_evening j_sights j_seenStep j_seenCell j_isKept j_touches j_cushions j_p_row j_p_column j_p_down j_p_right j_p_cushions x_signs x_sign x_reason x_acts x_candourAt p_row p_column p_down p_right p_cushions x_met x_reached x_firstWay x_queue x_queued x_fitting x_byCell x_wins x_ways) (WX0 h E res.2 t_points t_fouls t_evening t_sights t_seenStep t_seenCell t_isKept t_touches t_cushions t_p_row t_p_column t_p_down t_p_right t_p_cushions n_cells n_points n_fouls n_evening n_sights n_seenStep n_seenCell n_isKept n_touches n_cushions n_p_row n_p_column n_p_down n_p_right n_p_cushions i_cells i_points i_fouls i_evening i_sights i_seenStep i_seenCell i_isKept i_touches i_cushions i_p_row i_p_column i_p_down i_p_right i_p_cushions j_cells j_points j_fouls j_evening j_sights j_seenStep j_seenCell j_isKept j_touches j_cushions j_p_row j_p_column j_p_down j_p_right j_p_cushions x_signs x_sign x_reason x_acts x_candourAt p_row p_column p_down p_right p_cushions x_met x_reached x_firstWay x_queue x_queued x_fitting x_byCell x_wins x_ways) res.1 := by
  refine startI (own := RX0) (by decide) rfl (Nat.le_of_ble_eq_true rfl) ?_
  intro p e s m args below meth c A Q ls hC ret hl hw
  have hx := hC.1.1
  have hb := hC.1.2.1
  have hown := hC.1.2.2.2.1
  have hts := hC.1.2.2.2.2
  have hl : lv_has ls 5 [(0, .ref (h 0)), (1, .int v1), (2, .int v2)] := hl
  have L57 : ∀ (t_cells : Nat → Int32) (H : Heap) (locs : List Loc) (ls : Array Slot), Wo D A s.heap H locs (WX0 h E t_cells t_points t_fouls t_evening t_sights t_seenStep t_seenCell t_isKept t_touches t_cushions t_p_row t_p_column t_p_down t_p_right t_p_cushions n_cells n_points n_fouls n_evening n_sights n_seenStep n_seenCell n_isKept n_touches n_cushions n_p_row n_p_column n_p_down n_p_right n_p_cushions i_cells i_points i_fouls i_evening i_sights i_seenStep i_seenCell i_isKept i_touches i_cushions i_p_row i_p_column i_p_down i_p_right i_p_cushions j_cells j_points j_fouls j_evening j_sights j_seenStep j_seenCell j_isKept j_touches j_cushions j_p_row j_p_column j_p_down j_p_right j_p_cushions x_signs x_sign x_reason x_acts x_candourAt p_row p_column p_down p_right p_cushions x_met x_reached x_firstWay x_queue x_queued x_fitting x_byCell x_wins x_ways) → lv_has ls 5 [(0, .ref (h 0)), (1, .int v1), (2, .int v2)] → fX0_ball_L57 v1 v2  t_cells = some res → W p l e (rmN 2) s m args below meth c H locs 0 0 Q (F0 m 57 ls []) := by
    intro  t_cells H locs ls hw hl hf
    refine lv_aload_n hx hb dX0_ball_57 rfl (lv_at hl 0 rfl) ?_
    refine gX0_this_table hC hw dX0_ball_58 ?_
    refine gX0_t_cells hC hw dX0_ball_61 ?_
    refine lv_iload_n hx hb dX0_ball_64 rfl (lv_at hl 1 rfl) ?_
    obtain ⟨b2, hf⟩ := dk_c hf
    refine aX0_t_cells hC hw b2 dX0_ball_65 ?_
    refine lv_istore (lv' := [(4, .int (t_cells v1.toNatClampNeg)), (0, .ref (h 0)), (1, .int v1), (2, .int v2)]) hx hb dX0_ball_66 hl (by decide) rfl (fun ls hl => ?_)
    refine lv_aload_n hx hb dX0_ball_68 rfl (lv_at hl 1 rfl) ?_
    refine gX0_this_table hC hw dX0_ball_69 ?_
    refine gX0_t_cells hC hw dX0_ball_72 ?_
    refine lv_iload_n hx hb dX0_ball_75 rfl (lv_at hl 2 rfl) ?_
    refine lv_iload_n hx hb dX0_ball_76 rfl (lv_at hl 3 rfl) ?_
    refine lv_if_ge (tgt := 85) hx hb dX0_ball_77 rfl (fun c5 => ?_) (fun c5 => ?_)
    · have hf := dk_t c5 hf
      refine lv_iload_n hx hb dX0_ball_85 rfl (lv_at hl 3 rfl) ?_
      obtain ⟨b3, hf⟩ := dk_c hf
      refine sX0_t_cells hC hw b3 dX0_ball_86 (fun H locs hw => ?_)
      refine lv_iload hx hb dX0_ball_87 (lv_at hl 0 rfl) ?_
      obtain rfl := Option.some.inj hf
      exact ret _ _ _ _ _ dX0_ball_89 rfl rfl hw
    · have hf := dk_f c5 hf
      refine lv_bipush (v := (-6)) hx hb dX0_ball_80 rfl ?_
      refine lv_goto (tgt := 86) hx hb dX0_ball_82 rfl ?_
      obtain ⟨b4, hf⟩ := dk_c hf
      refine sX0_t_cells hC hw b4 dX0_ball_86 (fun H locs hw => ?_)
      refine lv_iload hx hb dX0_ball_87 (lv_at hl 0 rfl) ?_
      obtain rfl := Option.some.inj hf
      exact ret _ _ _ _ _ dX0_ball_89 rfl rfl hw
  have L44 : ∀ (k0 : Int32) (t_cells : Nat → Int32) (H : Heap) (locs : List Loc) (ls : Array Slot), Wo D A s.heap H locs (WX0 h E t_cells t_points t_fouls t_evening t_sights t_seenStep t_seenCell t_isKept t_touches t_cushions t_p_row t_p_column t_p_down t_p_right t_p_cushions n_cells n_points n_fouls n_evening n_sights n_seenStep n_seenCell n_isKept n_touches n_cushions n_p_row n_p_column n_p_down n_p_right n_p_cushions i_cells i_points i_fouls i_evening i_sights i_seenStep i_seenCell i_isKept i_touches i_cushions i_p_row i_p_column i_p_down i_p_right i_p_cushions j_cells j_points j_fouls j_evening j_sights j_seenStep j_seenCell j_isKept j_touches j_cushions j_p_row j_p_column j_p_down j_p_right j_p_cushions x_signs x_sign x_reason x_acts x_candourAt p_row p_column p_down p_right p_cushions x_met x_reached x_firstWay x_queue x_queued x_fitting x_byCell x_wins x_ways) → lv_has ls 5 [(0, .ref (h 0)), (1, .int v1), (2, .int v2)] → fX0_ball_L44 v1 v2  k0 t_cells = some res → W p l e (rmN 2) s m args below meth c H locs 0 0 Q (F0 m 44 ls [.int k0]) := by
    intro  k0 t_cells H locs ls hw hl hf
    refine lv_istore_n (lv' := [(3, .int k0), (0, .ref (h 0)), (1, .int v1), (2, .int v2)]) hx hb dX0_ball_44 rfl hl (by decide) rfl (fun ls hl => ?_)
    refine lv_iload_n hx hb dX0_ball_45 rfl (lv_at hl 0 rfl) ?_
    refine lv_if_lt (tgt := 57) hx hb dX0_ball_46 rfl (fun c7 => ?_) (fun c7 => ?_)
    · have hf := dk_t c7 hf
      exact L57 t_cells _ _ _ hw (lv_sub hl [1, 2, 3] rfl) hf
    · have hf := dk_f c7 hf
      refine lv_iload_n hx hb dX0_ball_49 rfl (lv_at hl 0 rfl) ?_
      refine lv_iload_n hx hb dX0_ball_50 rfl (lv_at hl 2 rfl) ?_
      refine lv_icmp_eq (tgt := 57) hx hb dX0_ball_51 rfl (fun c6 => ?_) (fun c6 => ?_)
      · have hf := dk_t c6 hf
        exact L57 t_cells _ _ _ hw (lv_sub hl [1, 2, 3] rfl) hf
      · have hf := dk_f c6 hf
        refine lv_bipush (v := (-3)) hx hb dX0_ball_54 rfl ?_
        obtain rfl := Option.some.inj hf
        exact ret _ _ _ _ _ dX0_ball_56 rfl rfl hw
  have L28 : ∀ (t_cells : Nat → Int32) (H : Heap) (locs : List Loc) (ls : Array Slot), Wo D A s.heap H locs (WX0 h E t_cells t_points t_fouls t_evening t_sights t_seenStep t_seenCell t_isKept t_touches t_cushions t_p_row t_p_column t_p_down t_p_right t_p_cushions n_cells n_points n_fouls n_evening n_sights n_seenStep n_seenCell n_isKept n_touches n_cushions n_p_row n_p_column n_p_down n_p_right n_p_cushions i_cells i_points i_fouls i_evening i_sights i_seenStep i_seenCell i_isKept i_touches i_cushions i_p_row i_p_column i_p_down i_p_right i_p_cushions j_cells j_points j_fouls j_evening j_sights j_seenStep j_seenCell j_isKept j_touches j_cushions j_p_row j_p_column j_p_down j_p_right j_p_cushions x_signs x_sign x_reason x_acts x_candourAt p_row p_column p_down p_right p_cushions x_met x_reached x_firstWay x_queue x_queued x_fitting x_byCell x_wins x_ways) → lv_has ls 5 [(0, .ref (h 0)), (1, .int v1), (2, .int v2)] → fX0_ball_L28 v1 v2  t_cells = some res → W p l e (rmN 2) s m args below meth c H locs 0 0 Q (F0 m 28 ls []) := by
    intro  t_cells H locs ls hw hl hf
    refine lv_iload_n hx hb dX0_ball_28 rfl (lv_at hl 2 rfl) ?_
    refine lv_if_ge (tgt := 36) hx hb dX0_ball_29 rfl (fun c8 => ?_) (fun c8 => ?_)
    · have hf := dk_t c8 hf
      refine lv_aload_n hx hb dX0_ball_36 rfl (lv_at hl 0 rfl) ?_
      refine gX0_this_table hC hw dX0_ball_37 ?_
      refine lv_iload_n hx hb dX0_ball_40 rfl (lv_at hl 2 rfl) ?_
      obtain ⟨z1, hz1, hf⟩ := dk_b hf
      refine callVI (rest := []) 1 5 1 hC hw subX0_t (metX1_ballOn hz1) mi_X1_ballOn q212 (rm_ok (by decide) (by decide)) rfl rfl rfl hl.1 rfl (Nat.le_of_ble_eq_true rfl) dX0_ball_41 ⟨Nat.zero_le _, Nat.zero_le _⟩ putX0_t (fun H locs hw => ?_)
      exact L44 z1 t_cells _ _ _ hw (lv_sub hl [0, 1, 2] rfl) hf
    · have hf := dk_f c8 hf
      refine lv_iload_n hx hb dX0_ball_32 rfl (lv_at hl 1 rfl) ?_
      refine lv_goto (tgt := 44) hx hb dX0_ball_33 rfl ?_
      exact L44 v1 t_cells _ _ _ hw (lv_sub hl [0, 1, 2] rfl) hf
  refine lv_iload_n hx hb dX0_ball_0 rfl (lv_at hl 1 rfl) ?_
  refine callSI (rest := []) 0 0 hC hw (st1 _) (metX0_isBall rfl) mi_X0_isBall q200 (rm_ok (by decide) (by decide)) rfl hl.1 rfl (Nat.le_of_ble_eq_true rfl) dX0_ball_1 ⟨Nat.zero_le _, Nat.zero_le _⟩ (st2 _) (fun H locs hw => ?_)
  refine lv_if_eq (tgt := 26) hx hb dX0_ball_4 rfl (fun c12 => ?_) (fun c12 => ?_)
  · have hf := dk_t c12 hf
    refine lv_iconst (v := (-1)) hx hb dX0_ball_26 rfl ?_
    obtain rfl := Option.some.inj hf
    exact ret _ _ _ _ _ dX0_ball_27 rfl rfl hw
  · have hf := dk_f c12 hf
    refine lv_iload_n hx hb dX0_ball_7 rfl (lv_at hl 2 rfl) ?_
    refine lv_iconst (v := (-1)) hx hb dX0_ball_8 rfl ?_
    refine lv_icmp_eq (tgt := 28) hx hb dX0_ball_9 rfl (fun c11 => ?_) (fun c11 => ?_)
    · have hf := dk_t c11 hf
      exact L28 t_cells _ _ _ hw (lv_sub hl [0, 1, 2] rfl) hf
    · have hf := dk_f c11 hf
      refine lv_iload_n hx hb dX0_ball_12 rfl (lv_at hl 2 rfl) ?_
      refine callSI (rest := []) 0 0 hC hw (st1 _) (metX0_isCell rfl) mi_X0_isCell q206 (rm_ok (by decide) (by decide)) rfl hl.1 rfl (Nat.le_of_ble_eq_true rfl) dX0_ball_13 ⟨Nat.zero_le _, Nat.zero_le _⟩ (st2 _) (fun H locs hw => ?_)
      refine lv_if_eq (tgt := 26) hx hb dX0_ball_16 rfl (fun c10 => ?_) (fun c10 => ?_)
      · have hf := dk_t c10 hf
        refine lv_iconst (v := (-1)) hx hb dX0_ball_26 rfl ?_
        obtain rfl := Option.some.inj hf
        exact ret _ _ _ _ _ dX0_ball_27 rfl rfl hw
      · have hf := dk_f c10 hf
        refine lv_iload_n hx hb dX0_ball_19 rfl (lv_at hl 2 rfl) ?_
        refine callSI (rest := []) 0 0 hC hw (st1 _) (metX0_isPocket rfl) mi_X0_isPocket q209 (rm_ok (by decide) (by decide)) rfl hl.1 rfl (Nat.le_of_ble_eq_true rfl) dX0_ball_20 ⟨Nat.zero_le _, Nat.zero_le _⟩ (st2 _) (fun H locs hw => ?_)
        refine lv_if_eq (tgt := 28) hx hb dX0_ball_23 rfl (fun c9 => ?_) (fun c9 => ?_)
        · have hf := dk_t c9 hf
          exact L28 t_cells _ _ _ hw (lv_sub hl [0, 1, 2] rfl) hf
        · have hf := dk_f c9 hf
          refine lv_iconst (v := (-1)) hx hb dX0_ball_26 rfl ?_
          obtain rfl := Option.some.inj hf
          exact ret _ _ _ _ _ dX0_ball_27 rfl rfl hw
set_option maxHeartbeats 4000000 in
set_option maxRecDepth 100000 in
theorem metX0_score {v1 : Int32} {v2 : Int32} {res : Int32 × Int32 × Int32} (hf : fX0_score v1 v2 t_points t_fouls = some res) : CtI l yX0_score cX0_score 4 .int 1 D E sz [.ref (h 0), .int v1, .int v2] (WX0 h E t_cells t_points t_fouls t_evening t_sights t_seenStep t_seenCell t_isKept t_touches t_cushions t_p_row t_p_column t_p_down t_p_right t_p_cushions n_cells n_points n_fouls n_evening n_sights n_seenStep n_seenCell n_isKept n_touches n_cushions n_p_row n_p_column n_p_down n_p_right n_p_cushions i_cells i_points i_fouls i_evening i_sights i_seenStep i_seenCell i_isKept i_touches i_cushions i_p_row i_p_column i_p_down i_p_right i_p_cushions j_cells j_points j_fouls j_evening j_sights j_seenStep j_seenCell j_isKept j_touches j_cushions j_p_row j_p_column j_p_down j_p_right j_p_cushions x_signs x_sign x_reason x_acts x_candourAt p_row p_column p_down p_right p_cushions x_met x_reached x_firstWay x_queue x_queued x_fitting x_byCell x_wins x_ways) (WX0 h E t_cells res.2.1 res.2.2 t_evening t_sights t_seenStep t_seenCell t_isKept t_touches t_cushions t_p_row t_p_column t_p_down t_p_right t_p_cushions n_cells n_points n_fouls n_evening n_sights n_seenStep n_seenCell n_isKept n_touches n_cushions n_p_row n_p_column n_p_down n_p_right n_p_cushions i_cells i_points i_fouls i_evening i_sights i_seenStep i_seenCell i_isKept i_touches i_cushions i_p_row i_p_column i_p_down i_p_right i_p_cushions j_cells j_points j_fouls j_evening j_sights j_seenStep j_seenCell j_isKept j_touches j_cushions j_p_row j_p_column j_p_down j_p_right j_p_cushions x_signs x_sign x_reason x_acts x_candourAt p_row p_column p_down p_right p_cushions x_met x_reached x_firstWay x_queue x_queued x_fitting x_byCell x_wins x_ways) res.1 := by
  refine startI (own := RX0) (by decide) rfl (Nat.le_of_ble_eq_true rfl) ?_
  intro p e s m args below meth c A Q ls hC ret hl hw
  have hx := hC.1.1
  have hb := hC.1.2.1
  have hown := hC.1.2.2.2.1
  have hts := hC.1.2.2.2.2
  have hl : lv_has ls 4 [(0, .ref (h 0)), (1, .int v1), (2, .int v2)] := hl
  refine lv_iload_n hx hb dX0_score_0 rfl (lv_at hl 1 rfl) ?_
  refine lv_iconst (v := 0) hx hb dX0_score_1 rfl ?_
  refine lv_bipush (v := 99) hx hb dX0_score_2 rfl ?_
  refine callSI (rest := []) 0 0 hC hw (st1 _) (metX0_isIn rfl) mi_X0_isIn q203 (rm_ok (by decide) (by decide)) rfl hl.1 rfl (Nat.le_of_ble_eq_true rfl) dX0_score_4 ⟨Nat.zero_le _, Nat.zero_le _⟩ (st2 _) (fun H locs hw => ?_)
  refine lv_if_eq (tgt := 20) hx hb dX0_score_7 rfl (fun c2 => ?_) (fun c2 => ?_)
  · have hf := dk_t c2 hf
    refine lv_bipush (v := (-2)) hx hb dX0_score_20 rfl ?_
    obtain rfl := Option.some.inj hf
    exact ret _ _ _ _ _ dX0_score_22 rfl rfl hw
  · have hf := dk_f c2 hf
    refine lv_iload_n hx hb dX0_score_10 rfl (lv_at hl 2 rfl) ?_
    refine lv_iconst (v := 0) hx hb dX0_score_11 rfl ?_
    refine lv_bipush (v := 99) hx hb dX0_score_12 rfl ?_
    refine callSI (rest := []) 0 0 hC hw (st1 _) (metX0_isIn rfl) mi_X0_isIn q203 (rm_ok (by decide) (by decide)) rfl hl.1 rfl (Nat.le_of_ble_eq_true rfl) dX0_score_14 ⟨Nat.zero_le _, Nat.zero_le _⟩ (st2 _) (fun H locs hw => ?_)
    refine lv_if_ne (tgt := 23) hx hb dX0_score_17 rfl (fun c1 => ?_) (fun c1 => ?_)
    · have hf := dk_f c1 hf
      refine lv_bipush (v := 100) hx hb dX0_score_23 rfl ?_
      refine lv_aload_n hx hb dX0_score_25 rfl (lv_at hl 0 rfl) ?_
      refine gX0_this_table hC hw dX0_score_26 ?_
      refine gX0_t_points hC hw dX0_score_29 ?_
      refine lv_imul hx hb dX0_score_32 ?_
      refine lv_aload_n hx hb dX0_score_33 rfl (lv_at hl 0 rfl) ?_
      refine gX0_this_table hC hw dX0_score_34 ?_
      refine gX0_t_fouls hC hw dX0_score_37 ?_
      refine lv_iadd hx hb dX0_score_40 ?_
      refine lv_istore_n (lv' := [(3, .int (((100 : Int32) * t_points) + t_fouls)), (0, .ref (h 0)), (1, .int v1), (2, .int v2)]) hx hb dX0_score_41 rfl hl (by decide) rfl (fun ls hl => ?_)
      refine lv_aload_n hx hb dX0_score_42 rfl (lv_at hl 1 rfl) ?_
      refine gX0_this_table hC hw dX0_score_43 ?_
      refine lv_iload_n hx hb dX0_score_46 rfl (lv_at hl 2 rfl) ?_
      refine pX0_t_points hC hw dX0_score_47 (fun H locs hw => ?_)
      refine lv_aload_n hx hb dX0_score_50 rfl (lv_at hl 1 rfl) ?_
      refine gX0_this_table hC hw dX0_score_51 ?_
      refine lv_iload_n hx hb dX0_score_54 rfl (lv_at hl 3 rfl) ?_
      refine pX0_t_fouls hC hw dX0_score_55 (fun H locs hw => ?_)
      refine lv_iload_n hx hb dX0_score_58 rfl (lv_at hl 0 rfl) ?_
      obtain rfl := Option.some.inj hf
      exact ret _ _ _ _ _ dX0_score_59 rfl rfl hw
    · have hf := dk_t c1 hf
      refine lv_bipush (v := (-2)) hx hb dX0_score_20 rfl ?_
      obtain rfl := Option.some.inj hf
      exact ret _ _ _ _ _ dX0_score_22 rfl rfl hw
set_option maxHeartbeats 4000000 in
set_option maxRecDepth 100000 in
theorem metX0_say {v1 : Int32} {res : Int32 × Int32 × (Nat → Int32)} (hf : fX0_say v1 x_signs x_sign = some res) : CtI l yX0_say cX0_say 2 .int 1 D E sz [.ref (h 0), .int v1] (WX0 h E t_cells t_points t_fouls t_evening t_sights t_seenStep t_seenCell t_isKept t_touches t_cushions t_p_row t_p_column t_p_down t_p_right t_p_cushions n_cells n_points n_fouls n_evening n_sights n_seenStep n_seenCell n_isKept n_touches n_cushions n_p_row n_p_column n_p_down n_p_right n_p_cushions i_cells i_points i_fouls i_evening i_sights i_seenStep i_seenCell i_isKept i_touches i_cushions i_p_row i_p_column i_p_down i_p_right i_p_cushions j_cells j_points j_fouls j_evening j_sights j_seenStep j_seenCell j_isKept j_touches j_cushions j_p_row j_p_column j_p_down j_p_right j_p_cushions x_signs x_sign x_reason x_acts x_candourAt p_row p_column p_down p_right p_cushions x_met x_reached x_firstWay x_queue x_queued x_fitting x_byCell x_wins x_ways) (WX0 h E t_cells t_points t_fouls t_evening t_sights t_seenStep t_seenCell t_isKept t_touches t_cushions t_p_row t_p_column t_p_down t_p_right t_p_cushions n_cells n_points n_fouls n_evening n_sights n_seenStep n_seenCell n_isKept n_touches n_cushions n_p_row n_p_column n_p_down n_p_right n_p_cushions i_cells i_points i_fouls i_evening i_sights i_seenStep i_seenCell i_isKept i_touches i_cushions i_p_row i_p_column i_p_down i_p_right i_p_cushions j_cells j_points j_fouls j_evening j_sights j_seenStep j_seenCell j_isKept j_touches j_cushions j_p_row j_p_column j_p_down j_p_right j_p_cushions res.2.1 res.2.2 x_reason x_acts x_candourAt p_row p_column p_down p_right p_cushions x_met x_reached x_firstWay x_queue x_queued x_fitting x_byCell x_wins x_ways) res.1 := by
  refine startI (own := RX0) (by decide) rfl (Nat.le_of_ble_eq_true rfl) ?_
  intro p e s m args below meth c A Q ls hC ret hl hw
  have hx := hC.1.1
  have hb := hC.1.2.1
  have hown := hC.1.2.2.2.1
  have hts := hC.1.2.2.2.2
  have hl : lv_has ls 2 [(0, .ref (h 0)), (1, .int v1)] := hl
  refine lv_iload_n hx hb dX0_say_0 rfl (lv_at hl 1 rfl) ?_
  refine lv_bipush (v := 33) hx hb dX0_say_1 rfl ?_
  refine lv_bipush (v := 126) hx hb dX0_say_3 rfl ?_
  refine callSI (rest := []) 0 0 hC hw (st1 _) (metX0_isIn rfl) mi_X0_isIn q203 (rm_ok (by decide) (by decide)) rfl hl.1 rfl (Nat.le_of_ble_eq_true rfl) dX0_say_5 ⟨Nat.zero_le _, Nat.zero_le _⟩ (st2 _) (fun H locs hw => ?_)
  refine lv_if_ne (tgt := 14) hx hb dX0_say_8 rfl (fun c3 => ?_) (fun c3 => ?_)
  · have hf := dk_f c3 hf
    refine lv_aload_n hx hb dX0_say_14 rfl (lv_at hl 0 rfl) ?_
    refine gX0_this_signs hC hw dX0_say_15 ?_
    refine lv_bipush (v := 60) hx hb dX0_say_18 rfl ?_
    refine lv_icmp_ne (tgt := 26) hx hb dX0_say_20 rfl (fun c2 => ?_) (fun c2 => ?_)
    · have hf := dk_f c2 hf
      refine lv_aload_n hx hb dX0_say_26 rfl (lv_at hl 0 rfl) ?_
      refine gX0_this_sign hC hw dX0_say_27 ?_
      refine lv_aload_n hx hb dX0_say_30 rfl (lv_at hl 0 rfl) ?_
      refine gX0_this_signs hC hw dX0_say_31 ?_
      refine lv_iload_n hx hb dX0_say_34 rfl (lv_at hl 1 rfl) ?_
      refine lv_i2c (v := ((v1.toUInt32 % 65536).toInt32)) hx hb dX0_say_35 rfl ?_
      obtain ⟨b1, hf⟩ := dk_c hf
      refine sX0_x_sign hC hw b1 dX0_say_36 (fun H locs hw => ?_)
      refine lv_aload_n hx hb dX0_say_37 rfl (lv_at hl 0 rfl) ?_
      refine lv_dup hx hb dX0_say_38 rfl ?_
      refine gX0_this_signs hC hw dX0_say_39 ?_
      refine lv_iconst (v := 1) hx hb dX0_say_42 rfl ?_
      refine lv_iadd hx hb dX0_say_43 ?_
      refine pX0_this_signs hC hw dX0_say_44 (fun H locs hw => ?_)
      refine lv_aload_n hx hb dX0_say_47 rfl (lv_at hl 0 rfl) ?_
      refine gX0_this_signs hC hw dX0_say_48 ?_
      obtain rfl := Option.some.inj hf
      exact ret _ _ _ _ _ dX0_say_51 rfl rfl hw
    · have hf := dk_t c2 hf
      refine lv_bipush (v := (-4)) hx hb dX0_say_23 rfl ?_
      obtain rfl := Option.some.inj hf
      exact ret _ _ _ _ _ dX0_say_25 rfl rfl hw
  · have hf := dk_t c3 hf
    refine lv_bipush (v := (-2)) hx hb dX0_say_11 rfl ?_
    obtain rfl := Option.some.inj hf
    exact ret _ _ _ _ _ dX0_say_13 rfl rfl hw
set_option maxHeartbeats 4000000 in
set_option maxRecDepth 100000 in
theorem metX0_wipe  {res : Int32 × Int32} (hf : fX0_wipe x_signs = some res) : CtI l yX0_wipe cX0_wipe 2 .int 0 D E sz [.ref (h 0)] (WX0 h E t_cells t_points t_fouls t_evening t_sights t_seenStep t_seenCell t_isKept t_touches t_cushions t_p_row t_p_column t_p_down t_p_right t_p_cushions n_cells n_points n_fouls n_evening n_sights n_seenStep n_seenCell n_isKept n_touches n_cushions n_p_row n_p_column n_p_down n_p_right n_p_cushions i_cells i_points i_fouls i_evening i_sights i_seenStep i_seenCell i_isKept i_touches i_cushions i_p_row i_p_column i_p_down i_p_right i_p_cushions j_cells j_points j_fouls j_evening j_sights j_seenStep j_seenCell j_isKept j_touches j_cushions j_p_row j_p_column j_p_down j_p_right j_p_cushions x_signs x_sign x_reason x_acts x_candourAt p_row p_column p_down p_right p_cushions x_met x_reached x_firstWay x_queue x_queued x_fitting x_byCell x_wins x_ways) (WX0 h E t_cells t_points t_fouls t_evening t_sights t_seenStep t_seenCell t_isKept t_touches t_cushions t_p_row t_p_column t_p_down t_p_right t_p_cushions n_cells n_points n_fouls n_evening n_sights n_seenStep n_seenCell n_isKept n_touches n_cushions n_p_row n_p_column n_p_down n_p_right n_p_cushions i_cells i_points i_fouls i_evening i_sights i_seenStep i_seenCell i_isKept i_touches i_cushions i_p_row i_p_column i_p_down i_p_right i_p_cushions j_cells j_points j_fouls j_evening j_sights j_seenStep j_seenCell j_isKept j_touches j_cushions j_p_row j_p_column j_p_down j_p_right j_p_cushions res.2 x_sign x_reason x_acts x_candourAt p_row p_column p_down p_right p_cushions x_met x_reached x_firstWay x_queue x_queued x_fitting x_byCell x_wins x_ways) res.1 := by
  refine startI (own := RX0) (by decide) rfl (Nat.le_of_ble_eq_true rfl) ?_
  intro p e s m args below meth c A Q ls hC ret hl hw
  have hx := hC.1.1
  have hb := hC.1.2.1
  have hown := hC.1.2.2.2.1
  have hts := hC.1.2.2.2.2
  have hl : lv_has ls 2 [(0, .ref (h 0))] := hl
  refine lv_aload_n hx hb dX0_wipe_0 rfl (lv_at hl 0 rfl) ?_
  refine gX0_this_signs hC hw dX0_wipe_1 ?_
  refine lv_istore_n (lv' := [(1, .int x_signs), (0, .ref (h 0))]) hx hb dX0_wipe_4 rfl hl (by decide) rfl (fun ls hl => ?_)
  refine lv_aload_n hx hb dX0_wipe_5 rfl (lv_at hl 1 rfl) ?_
  refine lv_iconst (v := 0) hx hb dX0_wipe_6 rfl ?_
  refine pX0_this_signs hC hw dX0_wipe_7 (fun H locs hw => ?_)
  refine lv_iload_n hx hb dX0_wipe_10 rfl (lv_at hl 0 rfl) ?_
  obtain rfl := Option.some.inj hf
  exact ret _ _ _ _ _ dX0_wipe_11 rfl rfl hw
set_option maxHeartbeats 4000000 in
set_option maxRecDepth 100000 in
theorem metX0_faultOf  {res : Int32} (hf : fX0_faultOf x_signs x_sign = some res) : CtI l yX0_faultOf cX0_faultOf 3 .int 3 D E sz [.ref (h 0)] (WX0 h E t_cells t_points t_fouls t_evening t_sights t_seenStep t_seenCell t_isKept t_touches t_cushions t_p_row t_p_column t_p_down t_p_right t_p_cushions n_cells n_points n_fouls n_evening n_sights n_seenStep n_seenCell n_isKept n_touches n_cushions n_p_row n_p_column n_p_down n_p_right n_p_cushions i_cells i_points i_fouls i_evening i_sights i_seenStep i_seenCell i_isKept i_touches i_cushions i_p_row i_p_column i_p_down i_p_right i_p_cushions j_cells j_points j_fouls j_evening j_sights j_seenStep j_seenCell j_isKept j_touches j_cushions j_p_row j_p_column j_p_down j_p_right j_p_cushions x_signs x_sign x_reason x_acts x_candourAt p_row p_column p_down p_right p_cushions x_met x_reached x_firstWay x_queue x_queued x_fitting x_byCell x_wins x_ways) (WX0 h E t_cells t_points t_fouls t_evening t_sights t_seenStep t_seenCell t_isKept t_touches t_cushions t_p_row t_p_column t_p_down t_p_right t_p_cushions n_cells n_points n_fouls n_evening n_sights n_seenStep n_seenCell n_isKept n_touches n_cushions n_p_row n_p_column n_p_down n_p_right n_p_cushions i_cells i_points i_fouls i_evening i_sights i_seenStep i_seenCell i_isKept i_touches i_cushions i_p_row i_p_column i_p_down i_p_right i_p_cushions j_cells j_points j_fouls j_evening j_sights j_seenStep j_seenCell j_isKept j_touches j_cushions j_p_row j_p_column j_p_down j_p_right j_p_cushions x_signs x_sign x_reason x_acts x_candourAt p_row p_column p_down p_right p_cushions x_met x_reached x_firstWay x_queue x_queued x_fitting x_byCell x_wins x_ways) res := by
  refine startI (own := RX0) (by decide) rfl (Nat.le_of_ble_eq_true rfl) ?_
  intro p e s m args below meth c A Q ls hC ret hl hw
  have hx := hC.1.1
  have hb := hC.1.2.1
  have hown := hC.1.2.2.2.1
  have hts := hC.1.2.2.2.2
  have hl : lv_has ls 3 [(0, .ref (h 0))] := hl
  have L4 : ∀ (n : Nat), ∀ (v1 : Int32) (v2 : Int32) (H : Heap) (locs : List Loc) (ls : Array Slot), Wo D A s.heap H locs (WX0 h E t_cells t_points t_fouls t_evening t_sights t_seenStep t_seenCell t_isKept t_touches t_cushions t_p_row t_p_column t_p_down t_p_right t_p_cushions n_cells n_points n_fouls n_evening n_sights n_seenStep n_seenCell n_isKept n_touches n_cushions n_p_row n_p_column n_p_down n_p_right n_p_cushions i_cells i_points i_fouls i_evening i_sights i_seenStep i_seenCell i_isKept i_touches i_cushions i_p_row i_p_column i_p_down i_p_right i_p_cushions j_cells j_points j_fouls j_evening j_sights j_seenStep j_seenCell j_isKept j_touches j_cushions j_p_row j_p_column j_p_down j_p_right j_p_cushions x_signs x_sign x_reason x_acts x_candourAt p_row p_column p_down p_right p_cushions x_met x_reached x_firstWay x_queue x_queued x_fitting x_byCell x_wins x_ways) → lv_has ls 3 [(0, .ref (h 0)), (1, .int v1), (2, .int v2)] → fX0_faultOf_L4 x_signs x_sign  n v1 v2 = some res → W p l e (rmN 3) s m args below meth c H locs 0 0 Q (F0 m 4 ls []) := by
    intro  n
    induction n with
    | zero =>
      intro v1 v2 H locs ls hw hl hf
      exact dk_n hf
    | succ n ih =>
      intro v1 v2 H locs ls hw hl hf
      refine lv_iload_n hx hb dX0_faultOf_4 rfl (lv_at hl 2 rfl) ?_
      refine lv_aload_n hx hb dX0_faultOf_5 rfl (lv_at hl 0 rfl) ?_
      refine gX0_this_signs hC hw dX0_faultOf_6 ?_
      refine lv_icmp_ge (tgt := 35) hx hb dX0_faultOf_9 rfl (fun c4 => ?_) (fun c4 => ?_)
      · have hf := dk_t c4 hf
        refine lv_iload_n hx hb dX0_faultOf_35 rfl (lv_at hl 1 rfl) ?_
        refine lv_if_ne (tgt := 44) hx hb dX0_faultOf_36 rfl (fun c1 => ?_) (fun c1 => ?_)
        · have hf := dk_f c1 hf
          refine lv_aload_n hx hb dX0_faultOf_44 rfl (lv_at hl 0 rfl) ?_
          refine gX0_this_signs hC hw dX0_faultOf_45 ?_
          exact ret _ _ _ _ _ dX0_faultOf_48 rfl (Option.some.inj hf) hw
        · have hf := dk_t c1 hf
          refine lv_bipush (v := (-6)) hx hb dX0_faultOf_39 rfl ?_
          refine lv_goto (tgt := 48) hx hb dX0_faultOf_41 rfl ?_
          exact ret _ _ _ _ _ dX0_faultOf_48 rfl (Option.some.inj hf) hw
      · have hf := dk_f c4 hf
        refine lv_iload_n hx hb dX0_faultOf_12 rfl (lv_at hl 1 rfl) ?_
        refine lv_aload_n hx hb dX0_faultOf_13 rfl (lv_at hl 0 rfl) ?_
        refine gX0_this_sign hC hw dX0_faultOf_14 ?_
        refine lv_iload_n hx hb dX0_faultOf_17 rfl (lv_at hl 2 rfl) ?_
        obtain ⟨b2, hf⟩ := dk_c hf
        refine aX0_x_sign hC hw b2 dX0_faultOf_18 ?_
        refine callSI (rest := []) 0 0 hC hw (st1 _) (metX0_step rfl) mi_X0_step q236 (rm_ok (by decide) (by decide)) rfl hl.1 rfl (Nat.le_of_ble_eq_true rfl) dX0_faultOf_19 ⟨Nat.zero_le _, Nat.zero_le _⟩ (st2 _) (fun H locs hw => ?_)
        refine lv_istore_n (lv' := [(1, .int (fX0_step v1 (x_sign v2.toNatClampNeg))), (0, .ref (h 0)), (2, .int v2)]) hx hb dX0_faultOf_22 rfl hl (by decide) rfl (fun ls hl => ?_)
        refine lv_iload_n hx hb dX0_faultOf_23 rfl (lv_at hl 0 rfl) ?_
        refine lv_if_ge (tgt := 29) hx hb dX0_faultOf_24 rfl (fun c3 => ?_) (fun c3 => ?_)
        · have hf := dk_t c3 hf
          refine lv_iinc (v := (v2 + 1)) (lv' := [(2, .int (v2 + 1)), (1, .int (fX0_step v1 (x_sign v2.toNatClampNeg))), (0, .ref (h 0))]) hx hb dX0_faultOf_29 hl (k := 2) rfl rfl (by decide) rfl (fun ls hl => ?_)
          refine lv_goto (tgt := 4) hx hb dX0_faultOf_32 rfl ?_
          exact ih (fX0_step v1 (x_sign v2.toNatClampNeg)) (v2 + 1) _ _ _ hw (lv_sub hl [2, 1, 0] rfl) hf
        · have hf := dk_f c3 hf
          refine lv_iload_n hx hb dX0_faultOf_27 rfl (lv_at hl 2 rfl) ?_
          exact ret _ _ _ _ _ dX0_faultOf_28 rfl (Option.some.inj hf) hw
  refine lv_iconst (v := 0) hx hb dX0_faultOf_0 rfl ?_
  refine lv_istore_n (lv' := [(1, .int 0), (0, .ref (h 0))]) hx hb dX0_faultOf_1 rfl hl (by decide) rfl (fun ls hl => ?_)
  refine lv_iconst (v := 0) hx hb dX0_faultOf_2 rfl ?_
  refine lv_istore_n (lv' := [(2, .int 0), (1, .int 0), (0, .ref (h 0))]) hx hb dX0_faultOf_3 rfl hl (by decide) rfl (fun ls hl => ?_)
  exact L4 FU 0 0 _ _ _ hw (lv_sub hl [2, 1, 0] rfl) hf
set_option maxHeartbeats 4000000 in
set_option maxRecDepth 100000 in
theorem metX0_fault  {res : Int32} (hf : fX0_fault x_signs x_sign = some res) : CtI l yX0_fault cX0_fault 1 .int 4 D E sz [.ref (h 0)] (WX0 h E t_cells t_points t_fouls t_evening t_sights t_seenStep t_seenCell t_isKept t_touches t_cushions t_p_row t_p_column t_p_down t_p_right t_p_cushions n_cells n_points n_fouls n_evening n_sights n_seenStep n_seenCell n_isKept n_touches n_cushions n_p_row n_p_column n_p_down n_p_right n_p_cushions i_cells i_points i_fouls i_evening i_sights i_seenStep i_seenCell i_isKept i_touches i_cushions i_p_row i_p_column i_p_down i_p_right i_p_cushions j_cells j_points j_fouls j_evening j_sights j_seenStep j_seenCell j_isKept j_touches j_cushions j_p_row j_p_column j_p_down j_p_right j_p_cushions x_signs x_sign x_reason x_acts x_candourAt p_row p_column p_down p_right p_cushions x_met x_reached x_firstWay x_queue x_queued x_fitting x_byCell x_wins x_ways) (WX0 h E t_cells t_points t_fouls t_evening t_sights t_seenStep t_seenCell t_isKept t_touches t_cushions t_p_row t_p_column t_p_down t_p_right t_p_cushions n_cells n_points n_fouls n_evening n_sights n_seenStep n_seenCell n_isKept n_touches n_cushions n_p_row n_p_column n_p_down n_p_right n_p_cushions i_cells i_points i_fouls i_evening i_sights i_seenStep i_seenCell i_isKept i_touches i_cushions i_p_row i_p_column i_p_down i_p_right i_p_cushions j_cells j_points j_fouls j_evening j_sights j_seenStep j_seenCell j_isKept j_touches j_cushions j_p_row j_p_column j_p_down j_p_right j_p_cushions x_signs x_sign x_reason x_acts x_candourAt p_row p_column p_down p_right p_cushions x_met x_reached x_firstWay x_queue x_queued x_fitting x_byCell x_wins x_ways) res := by
  refine startI (own := RX0) (by decide) rfl (Nat.le_of_ble_eq_true rfl) ?_
  intro p e s m args below meth c A Q ls hC ret hl hw
  have hx := hC.1.1
  have hb := hC.1.2.1
  have hown := hC.1.2.2.2.1
  have hts := hC.1.2.2.2.2
  have hl : lv_has ls 1 [(0, .ref (h 0))] := hl
  refine lv_aload_n hx hb dX0_fault_0 rfl (lv_at hl 0 rfl) ?_
  obtain ⟨z1, hz1, hf⟩ := dk_b hf
  refine callVI (rest := []) 0 _ 0 hC hw (sm1 _) (metX0_faultOf hz1) mi_X0_faultOf q232 (rm_ok (by decide) (by decide)) rfl rfl rfl hl.1 rfl (Nat.le_of_ble_eq_true rfl) dX0_fault_1 ⟨Nat.zero_le _, Nat.zero_le _⟩ (sm2 _ _) (fun H locs hw => ?_)
  exact ret _ _ _ _ _ dX0_fault_4 rfl (Option.some.inj hf) hw
set_option maxHeartbeats 4000000 in
set_option maxRecDepth 100000 in
theorem metX0_act {v1 : Int32} {res : Int32 × (Nat → Int32) × Int32 × Int32 × Int32 × Int32 × Int32 × Int32 × Int32 × Int32 × Int32 × Int32 × Int32} (hf : fX0_act v1 n_cells n_points n_fouls n_evening n_touches n_cushions n_p_row n_p_column n_p_down n_p_right n_p_cushions x_sign x_reason = some res) : CtI l yX0_act cX0_act 3 .int 3 D E sz [.ref (h 0), .int v1] (WX0 h E t_cells t_points t_fouls t_evening t_sights t_seenStep t_seenCell t_isKept t_touches t_cushions t_p_row t_p_column t_p_down t_p_right t_p_cushions n_cells n_points n_fouls n_evening n_sights n_seenStep n_seenCell n_isKept n_touches n_cushions n_p_row n_p_column n_p_down n_p_right n_p_cushions i_cells i_points i_fouls i_evening i_sights i_seenStep i_seenCell i_isKept i_touches i_cushions i_p_row i_p_column i_p_down i_p_right i_p_cushions j_cells j_points j_fouls j_evening j_sights j_seenStep j_seenCell j_isKept j_touches j_cushions j_p_row j_p_column j_p_down j_p_right j_p_cushions x_signs x_sign x_reason x_acts x_candourAt p_row p_column p_down p_right p_cushions x_met x_reached x_firstWay x_queue x_queued x_fitting x_byCell x_wins x_ways) (WX0 h E t_cells t_points t_fouls t_evening t_sights t_seenStep t_seenCell t_isKept t_touches t_cushions t_p_row t_p_column t_p_down t_p_right t_p_cushions res.2.1 res.2.2.1 res.2.2.2.1 res.2.2.2.2.1 n_sights n_seenStep n_seenCell n_isKept res.2.2.2.2.2.1 res.2.2.2.2.2.2.1 res.2.2.2.2.2.2.2.1 res.2.2.2.2.2.2.2.2.1 res.2.2.2.2.2.2.2.2.2.1 res.2.2.2.2.2.2.2.2.2.2.1 res.2.2.2.2.2.2.2.2.2.2.2.1 i_cells i_points i_fouls i_evening i_sights i_seenStep i_seenCell i_isKept i_touches i_cushions i_p_row i_p_column i_p_down i_p_right i_p_cushions j_cells j_points j_fouls j_evening j_sights j_seenStep j_seenCell j_isKept j_touches j_cushions j_p_row j_p_column j_p_down j_p_right j_p_cushions x_signs x_sign res.2.2.2.2.2.2.2.2.2.2.2.2 x_acts x_candourAt p_row p_column p_down p_right p_cushions x_met x_reached x_firstWay x_queue x_queued x_fitting x_byCell x_wins x_ways) res.1 := by
  refine startI (own := RX0) (by decide) rfl (Nat.le_of_ble_eq_true rfl) ?_
  intro p e s m args below meth c A Q ls hC ret hl hw
  have hx := hC.1.1
  have hb := hC.1.2.1
  have hown := hC.1.2.2.2.1
  have hts := hC.1.2.2.2.2
  have hl : lv_has ls 3 [(0, .ref (h 0)), (1, .int v1)] := hl
  refine lv_aload_n hx hb dX0_act_0 rfl (lv_at hl 0 rfl) ?_
  refine lv_iconst (v := 0) hx hb dX0_act_1 rfl ?_
  refine pX0_this_reason hC hw dX0_act_2 (fun H locs hw => ?_)
  refine lv_aload_n hx hb dX0_act_5 rfl (lv_at hl 0 rfl) ?_
  refine gX0_this_sign hC hw dX0_act_6 ?_
  refine lv_iload_n hx hb dX0_act_9 rfl (lv_at hl 1 rfl) ?_
  obtain ⟨b1, hf⟩ := dk_c hf
  refine aX0_x_sign hC hw b1 dX0_act_10 ?_
  by_cases c2 : (x_sign v1.toNatClampNeg) = 46
  · have hf := dk_t c2 hf
    refine lv_lookup (tgt := 47) hx hb dX0_act_11 (by decide) (by rw [c2] <;> rfl) rfl ?_
    refine lv_aload_n hx hb dX0_act_47 rfl (lv_at hl 0 rfl) ?_
    refine lv_aload_n hx hb dX0_act_48 rfl (lv_at hl 0 rfl) ?_
    refine gX0_this_now hC hw dX0_act_49 ?_
    obtain ⟨z3, hz3, hf⟩ := dk_b hf
    refine callVI (rest := [.ref (h 0)]) 6 5 1 hC hw subX0_n (metX1_pass hz3) mi_X1_pass q264 (rm_ok (by decide) (by decide)) rfl rfl rfl hl.1 rfl (Nat.le_of_ble_eq_true rfl) dX0_act_52 ⟨Nat.zero_le _, Nat.zero_le _⟩ putX0_n (fun H locs hw => ?_)
    refine pX0_this_reason hC hw dX0_act_55 (fun H locs hw => ?_)
    refine lv_iload_n hx hb dX0_act_58 rfl (lv_at hl 1 rfl) ?_
    refine lv_iconst (v := 1) hx hb dX0_act_59 rfl ?_
    refine lv_iadd hx hb dX0_act_60 ?_
    obtain rfl := Option.some.inj hf
    exact ret _ _ _ _ _ dX0_act_61 rfl rfl hw
  · have hf := dk_f c2 hf
    by_cases c4 : (x_sign v1.toNatClampNeg) = 126
    · have hf := dk_t c4 hf
      refine lv_lookup (tgt := 36) hx hb dX0_act_11 (by decide) (by rw [c4] <;> rfl) rfl ?_
      refine lv_aload_n hx hb dX0_act_36 rfl (lv_at hl 0 rfl) ?_
      refine gX0_this_now hC hw dX0_act_37 ?_
      obtain ⟨z5, hz5, hf⟩ := dk_b hf
      refine callVV (rest := []) 6 5 1 hC hw subX0_n (metX1_nap hz5) mi_X1_nap q258 (rm_ok (by decide) (by decide)) rfl rfl rfl hl.1 rfl (Nat.le_of_ble_eq_true rfl) dX0_act_40 ⟨Nat.zero_le _, Nat.zero_le _⟩ putX0_n (fun H locs hw => ?_)
      refine lv_iload_n hx hb dX0_act_43 rfl (lv_at hl 1 rfl) ?_
      refine lv_iconst (v := 1) hx hb dX0_act_44 rfl ?_
      refine lv_iadd hx hb dX0_act_45 ?_
      obtain rfl := Option.some.inj hf
      exact ret _ _ _ _ _ dX0_act_46 rfl rfl hw
    · have hf := dk_f c4 hf
      refine lv_lookup (tgt := 62) hx hb dX0_act_11 (by decide) ((lv_osw c2 (by decide)).trans ((lv_osw c4 (by decide)).trans (rfl))) rfl ?_
      refine lv_aload_n hx hb dX0_act_62 rfl (lv_at hl 0 rfl) ?_
      refine gX0_this_sign hC hw dX0_act_63 ?_
      refine lv_iload_n hx hb dX0_act_66 rfl (lv_at hl 1 rfl) ?_
      obtain ⟨b6, hf⟩ := dk_c hf
      refine aX0_x_sign hC hw b6 dX0_act_67 ?_
      refine lv_bipush (v := 65) hx hb dX0_act_68 rfl ?_
      refine lv_isub hx hb dX0_act_70 ?_
      refine lv_istore_n (lv' := [(2, .int ((x_sign v1.toNatClampNeg) - 65)), (0, .ref (h 0)), (1, .int v1)]) hx hb dX0_act_71 rfl hl (by decide) rfl (fun ls hl => ?_)
      refine lv_aload_n hx hb dX0_act_72 rfl (lv_at hl 1 rfl) ?_
      refine gX0_this_sign hC hw dX0_act_73 ?_
      refine lv_iload_n hx hb dX0_act_76 rfl (lv_at hl 2 rfl) ?_
      refine lv_iconst (v := 1) hx hb dX0_act_77 rfl ?_
      refine lv_iadd hx hb dX0_act_78 ?_
      obtain ⟨b7, hf⟩ := dk_c hf
      refine aX0_x_sign hC hw b7 dX0_act_79 ?_
      refine lv_bipush (v := 94) hx hb dX0_act_80 rfl ?_
      refine lv_icmp_ne (tgt := 101) hx hb dX0_act_82 rfl (fun c12 => ?_) (fun c12 => ?_)
      · have hf := dk_f c12 hf
        refine lv_aload_n hx hb dX0_act_101 rfl (lv_at hl 1 rfl) ?_
        refine lv_aload_n hx hb dX0_act_102 rfl (lv_at hl 1 rfl) ?_
        refine gX0_this_now hC hw dX0_act_103 ?_
        refine lv_iload_n hx hb dX0_act_106 rfl (lv_at hl 0 rfl) ?_
        refine lv_aload_n hx hb dX0_act_107 rfl (lv_at hl 1 rfl) ?_
        refine gX0_this_sign hC hw dX0_act_108 ?_
        refine lv_iload_n hx hb dX0_act_111 rfl (lv_at hl 2 rfl) ?_
        refine lv_iconst (v := 1) hx hb dX0_act_112 rfl ?_
        refine lv_iadd hx hb dX0_act_113 ?_
        obtain ⟨b8, hf⟩ := dk_c hf
        refine aX0_x_sign hC hw b8 dX0_act_114 ?_
        refine lv_bipush (v := 48) hx hb dX0_act_115 rfl ?_
        refine lv_isub hx hb dX0_act_117 ?_
        refine lv_aload_n hx hb dX0_act_118 rfl (lv_at hl 1 rfl) ?_
        refine gX0_this_sign hC hw dX0_act_119 ?_
        refine lv_iload_n hx hb dX0_act_122 rfl (lv_at hl 2 rfl) ?_
        refine lv_iconst (v := 2) hx hb dX0_act_123 rfl ?_
        refine lv_iadd hx hb dX0_act_124 ?_
        obtain ⟨b9, hf⟩ := dk_c hf
        refine aX0_x_sign hC hw b9 dX0_act_125 ?_
        refine lv_bipush (v := 48) hx hb dX0_act_126 rfl ?_
        refine lv_isub hx hb dX0_act_128 ?_
        obtain ⟨z10, hz10, hf⟩ := dk_b hf
        refine callVI (rest := [.ref (h 0)]) 6 5 1 hC hw subX0_n (metX1_stroke hz10) mi_X1_stroke q272 (rm_ok (by decide) (by decide)) rfl rfl rfl hl.1 rfl (Nat.le_of_ble_eq_true rfl) dX0_act_129 ⟨Nat.zero_le _, Nat.zero_le _⟩ putX0_n (fun H locs hw => ?_)
        refine pX0_this_reason hC hw dX0_act_132 (fun H locs hw => ?_)
        refine lv_iload_n hx hb dX0_act_135 rfl (lv_at hl 2 rfl) ?_
        refine lv_iconst (v := 3) hx hb dX0_act_136 rfl ?_
        refine lv_iadd hx hb dX0_act_137 ?_
        obtain rfl := Option.some.inj hf
        exact ret _ _ _ _ _ dX0_act_138 rfl rfl hw
      · have hf := dk_t c12 hf
        refine lv_aload_n hx hb dX0_act_85 rfl (lv_at hl 1 rfl) ?_
        refine lv_aload_n hx hb dX0_act_86 rfl (lv_at hl 1 rfl) ?_
        refine gX0_this_now hC hw dX0_act_87 ?_
        refine lv_iload_n hx hb dX0_act_90 rfl (lv_at hl 0 rfl) ?_
        obtain ⟨z11, hz11, hf⟩ := dk_b hf
        refine callVI (rest := [.ref (h 0)]) 6 5 1 hC hw subX0_n (metX1_bringUp hz11) mi_X1_bringUp q268 (rm_ok (by decide) (by decide)) rfl rfl rfl hl.1 rfl (Nat.le_of_ble_eq_true rfl) dX0_act_91 ⟨Nat.zero_le _, Nat.zero_le _⟩ putX0_n (fun H locs hw => ?_)
        refine pX0_this_reason hC hw dX0_act_94 (fun H locs hw => ?_)
        refine lv_iload_n hx hb dX0_act_97 rfl (lv_at hl 2 rfl) ?_
        refine lv_iconst (v := 2) hx hb dX0_act_98 rfl ?_
        refine lv_iadd hx hb dX0_act_99 ?_
        obtain rfl := Option.some.inj hf
        exact ret _ _ _ _ _ dX0_act_100 rfl rfl hw
set_option maxHeartbeats 4000000 in
set_option maxRecDepth 100000 in
theorem metX0_goCrises  {res : Int32 × (Nat → Int32) × Int32 × Int32 × Int32 × Int32 × (Nat → Int32) × (Nat → Int32) × Int32 × Int32 × Int32 × Int32 × Int32 × Int32 × Int32 × Int32 × Int32 × Int32} (hf : fX0_goCrises t_cells t_points t_fouls t_evening t_sights t_seenStep t_seenCell n_cells n_points n_fouls n_evening n_sights n_seenStep n_seenCell n_touches n_cushions n_p_row n_p_column n_p_down n_p_right n_p_cushions x_signs x_sign x_reason x_acts x_candourAt = some res) : CtI l yX0_goCrises cX0_goCrises 3 .int 4 D E sz [.ref (h 0)] (WX0 h E t_cells t_points t_fouls t_evening t_sights t_seenStep t_seenCell t_isKept t_touches t_cushions t_p_row t_p_column t_p_down t_p_right t_p_cushions n_cells n_points n_fouls n_evening n_sights n_seenStep n_seenCell n_isKept n_touches n_cushions n_p_row n_p_column n_p_down n_p_right n_p_cushions i_cells i_points i_fouls i_evening i_sights i_seenStep i_seenCell i_isKept i_touches i_cushions i_p_row i_p_column i_p_down i_p_right i_p_cushions j_cells j_points j_fouls j_evening j_sights j_seenStep j_seenCell j_isKept j_touches j_cushions j_p_row j_p_column j_p_down j_p_right j_p_cushions x_signs x_sign x_reason x_acts x_candourAt p_row p_column p_down p_right p_cushions x_met x_reached x_firstWay x_queue x_queued x_fitting x_byCell x_wins x_ways) (WX0 h E t_cells t_points t_fouls t_evening t_sights t_seenStep t_seenCell t_isKept t_touches t_cushions t_p_row t_p_column t_p_down t_p_right t_p_cushions res.2.1 res.2.2.1 res.2.2.2.1 res.2.2.2.2.1 res.2.2.2.2.2.1 res.2.2.2.2.2.2.1 res.2.2.2.2.2.2.2.1 n_isKept res.2.2.2.2.2.2.2.2.1 res.2.2.2.2.2.2.2.2.2.1 res.2.2.2.2.2.2.2.2.2.2.1 res.2.2.2.2.2.2.2.2.2.2.2.1 res.2.2.2.2.2.2.2.2.2.2.2.2.1 res.2.2.2.2.2.2.2.2.2.2.2.2.2.1 res.2.2.2.2.2.2.2.2.2.2.2.2.2.2.1 i_cells i_points i_fouls i_evening i_sights i_seenStep i_seenCell i_isKept i_touches i_cushions i_p_row i_p_column i_p_down i_p_right i_p_cushions j_cells j_points j_fouls j_evening j_sights j_seenStep j_seenCell j_isKept j_touches j_cushions j_p_row j_p_column j_p_down j_p_right j_p_cushions x_signs x_sign res.2.2.2.2.2.2.2.2.2.2.2.2.2.2.2.1 res.2.2.2.2.2.2.2.2.2.2.2.2.2.2.2.2.1 res.2.2.2.2.2.2.2.2.2.2.2.2.2.2.2.2.2 p_row p_column p_down p_right p_cushions x_met x_reached x_firstWay x_queue x_queued x_fitting x_byCell x_wins x_ways) res.1 := by
  refine startI (own := RX0) (by decide) rfl (Nat.le_of_ble_eq_true rfl) ?_
  intro p e s m args below meth c A Q ls hC ret hl hw
  have hx := hC.1.1
  have hb := hC.1.2.1
  have hown := hC.1.2.2.2.1
  have hts := hC.1.2.2.2.2
  have hl : lv_has ls 3 [(0, .ref (h 0))] := hl
  have L24 : ∀ (n : Nat), ∀ (v1 : Int32) (n_cells : Nat → Int32) (n_points : Int32) (n_fouls : Int32) (n_evening : Int32) (n_sights : Int32) (n_seenStep : Nat → Int32) (n_seenCell : Nat → Int32) (n_touches : Int32) (n_cushions : Int32) (n_p_row : Int32) (n_p_column : Int32) (n_p_down : Int32) (n_p_right : Int32) (n_p_cushions : Int32) (x_reason : Int32) (x_acts : Int32) (x_candourAt : Int32) (H : Heap) (locs : List Loc) (ls : Array Slot), Wo D A s.heap H locs (WX0 h E t_cells t_points t_fouls t_evening t_sights t_seenStep t_seenCell t_isKept t_touches t_cushions t_p_row t_p_column t_p_down t_p_right t_p_cushions n_cells n_points n_fouls n_evening n_sights n_seenStep n_seenCell n_isKept n_touches n_cushions n_p_row n_p_column n_p_down n_p_right n_p_cushions i_cells i_points i_fouls i_evening i_sights i_seenStep i_seenCell i_isKept i_touches i_cushions i_p_row i_p_column i_p_down i_p_right i_p_cushions j_cells j_points j_fouls j_evening j_sights j_seenStep j_seenCell j_isKept j_touches j_cushions j_p_row j_p_column j_p_down j_p_right j_p_cushions x_signs x_sign x_reason x_acts x_candourAt p_row p_column p_down p_right p_cushions x_met x_reached x_firstWay x_queue x_queued x_fitting x_byCell x_wins x_ways) → lv_has ls 3 [(0, .ref (h 0)), (1, .int v1)] → fX0_goCrises_L24 t_cells t_points t_fouls t_evening t_sights t_seenStep t_seenCell x_signs x_sign  n v1 n_cells n_points n_fouls n_evening n_sights n_seenStep n_seenCell n_touches n_cushions n_p_row n_p_column n_p_down n_p_right n_p_cushions x_reason x_acts x_candourAt = some res → W p l e (rmN 4) s m args below meth c H locs 0 0 Q (F0 m 24 ls []) := by
    intro  n
    induction n with
    | zero =>
      intro v1 n_cells n_points n_fouls n_evening n_sights n_seenStep n_seenCell n_touches n_cushions n_p_row n_p_column n_p_down n_p_right n_p_cushions x_reason x_acts x_candourAt H locs ls hw hl hf
      exact dk_n hf
    | succ n ih =>
      intro v1 n_cells n_points n_fouls n_evening n_sights n_seenStep n_seenCell n_touches n_cushions n_p_row n_p_column n_p_down n_p_right n_p_cushions x_reason x_acts x_candourAt H locs ls hw hl hf
      refine lv_iload_n hx hb dX0_goCrises_24 rfl (lv_at hl 1 rfl) ?_
      refine lv_aload_n hx hb dX0_goCrises_25 rfl (lv_at hl 0 rfl) ?_
      refine gX0_this_signs hC hw dX0_goCrises_26 ?_
      refine lv_icmp_ge (tgt := 104) hx hb dX0_goCrises_29 rfl (fun c6 => ?_) (fun c6 => ?_)
      · have hf := dk_t c6 hf
        refine lv_bipush (v := (-6)) hx hb dX0_goCrises_104 rfl ?_
        obtain rfl := Option.some.inj hf
        exact ret _ _ _ _ _ dX0_goCrises_106 rfl rfl hw
      · have hf := dk_f c6 hf
        refine lv_aload_n hx hb dX0_goCrises_32 rfl (lv_at hl 0 rfl) ?_
        refine gX0_this_now hC hw dX0_goCrises_33 ?_
        refine gX0_n_fouls hC hw dX0_goCrises_36 ?_
        refine lv_istore_n (lv' := [(2, .int n_fouls), (0, .ref (h 0)), (1, .int v1)]) hx hb dX0_goCrises_39 rfl hl (by decide) rfl (fun ls hl => ?_)
        refine lv_aload_n hx hb dX0_goCrises_40 rfl (lv_at hl 1 rfl) ?_
        refine lv_iload_n hx hb dX0_goCrises_41 rfl (lv_at hl 2 rfl) ?_
        obtain ⟨z2, hz2, hf⟩ := dk_b hf
        refine callVI (rest := []) 0 _ 0 hC hw (sm1 _) (metX0_act hz2) mi_X0_act q254 (rm_ok (by decide) (by decide)) rfl rfl rfl hl.1 rfl (Nat.le_of_ble_eq_true rfl) dX0_goCrises_42 ⟨Nat.zero_le _, Nat.zero_le _⟩ (sm2 _ _) (fun H locs hw => ?_)
        refine lv_istore_n (lv' := [(1, .int z2.1), (2, .int n_fouls), (0, .ref (h 0))]) hx hb dX0_goCrises_45 rfl hl (by decide) rfl (fun ls hl => ?_)
        refine lv_aload_n hx hb dX0_goCrises_46 rfl (lv_at hl 2 rfl) ?_
        refine gX0_this_reason hC hw dX0_goCrises_47 ?_
        refine lv_if_le (tgt := 58) hx hb dX0_goCrises_50 rfl (fun c5 => ?_) (fun c5 => ?_)
        · have hf := dk_t c5 hf
          refine lv_aload_n hx hb dX0_goCrises_58 rfl (lv_at hl 2 rfl) ?_
          refine lv_aload_n hx hb dX0_goCrises_59 rfl (lv_at hl 2 rfl) ?_
          refine gX0_this_now hC hw dX0_goCrises_60 ?_
          refine gX0_n_fouls hC hw dX0_goCrises_63 ?_
          refine lv_iload_n hx hb dX0_goCrises_66 rfl (lv_at hl 1 rfl) ?_
          refine lv_icmp_le (tgt := 84) hx hb dX0_goCrises_67 rfl (fun c4 => ?_) (fun c4 => ?_)
          · have hf := dk_t c4 hf
            refine lv_aload_n hx hb dX0_goCrises_84 rfl (lv_at hl 2 rfl) ?_
            refine gX0_this_candourAt hC hw dX0_goCrises_85 ?_
            refine pX0_this_candourAt hC hw dX0_goCrises_88 (fun H locs hw => ?_)
            refine lv_aload_n hx hb dX0_goCrises_91 rfl (lv_at hl 2 rfl) ?_
            refine lv_dup hx hb dX0_goCrises_92 rfl ?_
            refine gX0_this_acts hC hw dX0_goCrises_93 ?_
            refine lv_iconst (v := 1) hx hb dX0_goCrises_96 rfl ?_
            refine lv_iadd hx hb dX0_goCrises_97 ?_
            refine pX0_this_acts hC hw dX0_goCrises_98 (fun H locs hw => ?_)
            refine lv_goto (tgt := 24) hx hb dX0_goCrises_101 rfl ?_
            exact ih z2.1 z2.2.1 z2.2.2.1 z2.2.2.2.1 z2.2.2.2.2.1 n_sights n_seenStep n_seenCell z2.2.2.2.2.2.1 z2.2.2.2.2.2.2.1 z2.2.2.2.2.2.2.2.1 z2.2.2.2.2.2.2.2.2.1 z2.2.2.2.2.2.2.2.2.2.1 z2.2.2.2.2.2.2.2.2.2.2.1 z2.2.2.2.2.2.2.2.2.2.2.2.1 z2.2.2.2.2.2.2.2.2.2.2.2.2 (x_acts + 1) x_candourAt _ _ _ hw (lv_sub hl [2, 0] rfl) hf
          · have hf := dk_f c4 hf
            refine lv_aload_n hx hb dX0_goCrises_70 rfl (lv_at hl 2 rfl) ?_
            refine gX0_this_candourAt hC hw dX0_goCrises_71 ?_
            refine lv_if_ge (tgt := 84) hx hb dX0_goCrises_74 rfl (fun c3 => ?_) (fun c3 => ?_)
            · have hf := dk_t c3 hf
              refine lv_aload_n hx hb dX0_goCrises_84 rfl (lv_at hl 2 rfl) ?_
              refine gX0_this_candourAt hC hw dX0_goCrises_85 ?_
              refine pX0_this_candourAt hC hw dX0_goCrises_88 (fun H locs hw => ?_)
              refine lv_aload_n hx hb dX0_goCrises_91 rfl (lv_at hl 2 rfl) ?_
              refine lv_dup hx hb dX0_goCrises_92 rfl ?_
              refine gX0_this_acts hC hw dX0_goCrises_93 ?_
              refine lv_iconst (v := 1) hx hb dX0_goCrises_96 rfl ?_
              refine lv_iadd hx hb dX0_goCrises_97 ?_
              refine pX0_this_acts hC hw dX0_goCrises_98 (fun H locs hw => ?_)
              refine lv_goto (tgt := 24) hx hb dX0_goCrises_101 rfl ?_
              exact ih z2.1 z2.2.1 z2.2.2.1 z2.2.2.2.1 z2.2.2.2.2.1 n_sights n_seenStep n_seenCell z2.2.2.2.2.2.1 z2.2.2.2.2.2.2.1 z2.2.2.2.2.2.2.2.1 z2.2.2.2.2.2.2.2.2.1 z2.2.2.2.2.2.2.2.2.2.1 z2.2.2.2.2.2.2.2.2.2.2.1 z2.2.2.2.2.2.2.2.2.2.2.2.1 z2.2.2.2.2.2.2.2.2.2.2.2.2 (x_acts + 1) x_candourAt _ _ _ hw (lv_sub hl [2, 0] rfl) hf
            · have hf := dk_f c3 hf
              refine lv_aload_n hx hb dX0_goCrises_77 rfl (lv_at hl 2 rfl) ?_
              refine gX0_this_acts hC hw dX0_goCrises_78 ?_
              refine lv_goto (tgt := 88) hx hb dX0_goCrises_81 rfl ?_
              refine pX0_this_candourAt hC hw dX0_goCrises_88 (fun H locs hw => ?_)
              refine lv_aload_n hx hb dX0_goCrises_91 rfl (lv_at hl 2 rfl) ?_
              refine lv_dup hx hb dX0_goCrises_92 rfl ?_
              refine gX0_this_acts hC hw dX0_goCrises_93 ?_
              refine lv_iconst (v := 1) hx hb dX0_goCrises_96 rfl ?_
              refine lv_iadd hx hb dX0_goCrises_97 ?_
              refine pX0_this_acts hC hw dX0_goCrises_98 (fun H locs hw => ?_)
              refine lv_goto (tgt := 24) hx hb dX0_goCrises_101 rfl ?_
              exact ih z2.1 z2.2.1 z2.2.2.1 z2.2.2.2.1 z2.2.2.2.2.1 n_sights n_seenStep n_seenCell z2.2.2.2.2.2.1 z2.2.2.2.2.2.2.1 z2.2.2.2.2.2.2.2.1 z2.2.2.2.2.2.2.2.2.1 z2.2.2.2.2.2.2.2.2.2.1 z2.2.2.2.2.2.2.2.2.2.2.1 z2.2.2.2.2.2.2.2.2.2.2.2.1 z2.2.2.2.2.2.2.2.2.2.2.2.2 (x_acts + 1) x_acts _ _ _ hw (lv_sub hl [2, 0] rfl) hf
        · have hf := dk_f c5 hf
          refine lv_aload_n hx hb dX0_goCrises_53 rfl (lv_at hl 2 rfl) ?_
          refine gX0_this_acts hC hw dX0_goCrises_54 ?_
          obtain rfl := Option.some.inj hf
          exact ret _ _ _ _ _ dX0_goCrises_57 rfl rfl hw
  refine lv_aload_n hx hb dX0_goCrises_0 rfl (lv_at hl 0 rfl) ?_
  refine gX0_this_now hC hw dX0_goCrises_1 ?_
  refine lv_aload_n hx hb dX0_goCrises_4 rfl (lv_at hl 0 rfl) ?_
  refine gX0_this_table hC hw dX0_goCrises_5 ?_
  obtain ⟨z1, hz1, hf⟩ := dk_b hf
  refine ccX0_n_t (rest := []) hC hl.1 hw (metX1_copy hz1) (rm_ok (by decide) (by decide)) (Nat.le_of_ble_eq_true rfl) dX0_goCrises_8 ⟨Nat.zero_le _, Nat.zero_le _⟩ (fun H locs hw => ?_)
  refine lv_aload_n hx hb dX0_goCrises_11 rfl (lv_at hl 0 rfl) ?_
  refine lv_iconst (v := 0) hx hb dX0_goCrises_12 rfl ?_
  refine pX0_this_acts hC hw dX0_goCrises_13 (fun H locs hw => ?_)
  refine lv_aload_n hx hb dX0_goCrises_16 rfl (lv_at hl 0 rfl) ?_
  refine lv_bipush (v := (-6)) hx hb dX0_goCrises_17 rfl ?_
  refine pX0_this_candourAt hC hw dX0_goCrises_19 (fun H locs hw => ?_)
  refine lv_iconst (v := 0) hx hb dX0_goCrises_22 rfl ?_
  refine lv_istore_n (lv' := [(1, .int 0), (0, .ref (h 0))]) hx hb dX0_goCrises_23 rfl hl (by decide) rfl (fun ls hl => ?_)
  exact L24 FU 0 z1.1 z1.2.1 z1.2.2.1 z1.2.2.2.1 z1.2.2.2.2.1 z1.2.2.2.2.2.1 z1.2.2.2.2.2.2.1 z1.2.2.2.2.2.2.2.1 z1.2.2.2.2.2.2.2.2 n_p_row n_p_column n_p_down n_p_right n_p_cushions x_reason 0 (-6) _ _ _ hw (lv_sub hl [1, 0] rfl) hf
set_option maxHeartbeats 4000000 in
set_option maxRecDepth 100000 in
theorem metX0_judge {v1 : Int32} {res : Int32 × (Nat → Int32) × Int32 × Int32 × Int32 × Int32 × (Nat → Int32) × (Nat → Int32) × Int32 × Int32 × Int32 × Int32 × Int32 × Int32 × Int32 × Int32 × Int32 × Int32} (hf : fX0_judge v1 t_cells t_points t_fouls t_evening t_sights t_seenStep t_seenCell n_cells n_points n_fouls n_evening n_sights n_seenStep n_seenCell n_touches n_cushions n_p_row n_p_column n_p_down n_p_right n_p_cushions x_signs x_sign x_reason x_acts x_candourAt = some res) : CtI l yX0_judge cX0_judge 3 .int 5 D E sz [.ref (h 0), .int v1] (WX0 h E t_cells t_points t_fouls t_evening t_sights t_seenStep t_seenCell t_isKept t_touches t_cushions t_p_row t_p_column t_p_down t_p_right t_p_cushions n_cells n_points n_fouls n_evening n_sights n_seenStep n_seenCell n_isKept n_touches n_cushions n_p_row n_p_column n_p_down n_p_right n_p_cushions i_cells i_points i_fouls i_evening i_sights i_seenStep i_seenCell i_isKept i_touches i_cushions i_p_row i_p_column i_p_down i_p_right i_p_cushions j_cells j_points j_fouls j_evening j_sights j_seenStep j_seenCell j_isKept j_touches j_cushions j_p_row j_p_column j_p_down j_p_right j_p_cushions x_signs x_sign x_reason x_acts x_candourAt p_row p_column p_down p_right p_cushions x_met x_reached x_firstWay x_queue x_queued x_fitting x_byCell x_wins x_ways) (WX0 h E t_cells t_points t_fouls t_evening t_sights t_seenStep t_seenCell t_isKept t_touches t_cushions t_p_row t_p_column t_p_down t_p_right t_p_cushions res.2.1 res.2.2.1 res.2.2.2.1 res.2.2.2.2.1 res.2.2.2.2.2.1 res.2.2.2.2.2.2.1 res.2.2.2.2.2.2.2.1 n_isKept res.2.2.2.2.2.2.2.2.1 res.2.2.2.2.2.2.2.2.2.1 res.2.2.2.2.2.2.2.2.2.2.1 res.2.2.2.2.2.2.2.2.2.2.2.1 res.2.2.2.2.2.2.2.2.2.2.2.2.1 res.2.2.2.2.2.2.2.2.2.2.2.2.2.1 res.2.2.2.2.2.2.2.2.2.2.2.2.2.2.1 i_cells i_points i_fouls i_evening i_sights i_seenStep i_seenCell i_isKept i_touches i_cushions i_p_row i_p_column i_p_down i_p_right i_p_cushions j_cells j_points j_fouls j_evening j_sights j_seenStep j_seenCell j_isKept j_touches j_cushions j_p_row j_p_column j_p_down j_p_right j_p_cushions x_signs x_sign res.2.2.2.2.2.2.2.2.2.2.2.2.2.2.2.1 res.2.2.2.2.2.2.2.2.2.2.2.2.2.2.2.2.1 res.2.2.2.2.2.2.2.2.2.2.2.2.2.2.2.2.2 p_row p_column p_down p_right p_cushions x_met x_reached x_firstWay x_queue x_queued x_fitting x_byCell x_wins x_ways) res.1 := by
  refine startI (own := RX0) (by decide) rfl (Nat.le_of_ble_eq_true rfl) ?_
  intro p e s m args below meth c A Q ls hC ret hl hw
  have hx := hC.1.1
  have hb := hC.1.2.1
  have hown := hC.1.2.2.2.1
  have hts := hC.1.2.2.2.2
  have hl : lv_has ls 3 [(0, .ref (h 0)), (1, .int v1)] := hl
  refine lv_iload_n hx hb dX0_judge_0 rfl (lv_at hl 1 rfl) ?_
  refine lv_iconst (v := 0) hx hb dX0_judge_1 rfl ?_
  refine lv_iconst (v := 2) hx hb dX0_judge_2 rfl ?_
  refine callSI (rest := []) 0 0 hC hw (st1 _) (metX0_isIn rfl) mi_X0_isIn q203 (rm_ok (by decide) (by decide)) rfl hl.1 rfl (Nat.le_of_ble_eq_true rfl) dX0_judge_3 ⟨Nat.zero_le _, Nat.zero_le _⟩ (st2 _) (fun H locs hw => ?_)
  refine lv_if_ne (tgt := 12) hx hb dX0_judge_6 rfl (fun c8 => ?_) (fun c8 => ?_)
  · have hf := dk_f c8 hf
    refine lv_aload_n hx hb dX0_judge_12 rfl (lv_at hl 0 rfl) ?_
    obtain ⟨z1, hz1, hf⟩ := dk_b hf
    refine callVI (rest := []) 0 _ 0 hC hw (sm1 _) (metX0_faultOf hz1) mi_X0_faultOf q232 (rm_ok (by decide) (by decide)) rfl rfl rfl hl.1 rfl (Nat.le_of_ble_eq_true rfl) dX0_judge_13 ⟨Nat.zero_le _, Nat.zero_le _⟩ (sm2 _ _) (fun H locs hw => ?_)
    refine lv_if_lt (tgt := 22) hx hb dX0_judge_16 rfl (fun c7 => ?_) (fun c7 => ?_)
    · have hf := dk_t c7 hf
      refine lv_aload_n hx hb dX0_judge_22 rfl (lv_at hl 0 rfl) ?_
      obtain ⟨z2, hz2, hf⟩ := dk_b hf
      refine callVI (rest := []) 0 _ 0 hC hw (sm1 _) (metX0_goCrises hz2) mi_X0_goCrises q243 (rm_ok (by decide) (by decide)) rfl rfl rfl hl.1 rfl (Nat.le_of_ble_eq_true rfl) dX0_judge_23 ⟨Nat.zero_le _, Nat.zero_le _⟩ (sm2 _ _) (fun H locs hw => ?_)
      refine lv_istore_n (lv' := [(2, .int z2.1), (0, .ref (h 0)), (1, .int v1)]) hx hb dX0_judge_26 rfl hl (by decide) rfl (fun ls hl => ?_)
      refine lv_iload_n hx hb dX0_judge_27 rfl (lv_at hl 2 rfl) ?_
      refine lv_iconst (v := 2) hx hb dX0_judge_28 rfl ?_
      refine lv_icmp_ge (tgt := 49) hx hb dX0_judge_29 rfl (fun c6 => ?_) (fun c6 => ?_)
      · have hf := dk_t c6 hf
        refine lv_iload_n hx hb dX0_judge_49 rfl (lv_at hl 0 rfl) ?_
        refine lv_if_lt (tgt := 58) hx hb dX0_judge_50 rfl (fun c3 => ?_) (fun c3 => ?_)
        · have hf := dk_t c3 hf
          refine lv_aload_n hx hb dX0_judge_58 rfl (lv_at hl 1 rfl) ?_
          refine gX0_this_now hC hw dX0_judge_59 ?_
          refine gX0_n_touches hC hw dX0_judge_62 ?_
          obtain rfl := Option.some.inj hf
          exact ret _ _ _ _ _ dX0_judge_65 rfl rfl hw
        · have hf := dk_f c3 hf
          refine lv_bipush (v := (-3)) hx hb dX0_judge_53 rfl ?_
          refine lv_goto (tgt := 65) hx hb dX0_judge_55 rfl ?_
          obtain rfl := Option.some.inj hf
          exact ret _ _ _ _ _ dX0_judge_65 rfl rfl hw
      · have hf := dk_f c6 hf
        refine lv_iload_n hx hb dX0_judge_32 rfl (lv_at hl 0 rfl) ?_
        refine lv_if_lt (tgt := 40) hx hb dX0_judge_33 rfl (fun c5 => ?_) (fun c5 => ?_)
        · have hf := dk_t c5 hf
          refine lv_iload_n hx hb dX0_judge_40 rfl (lv_at hl 0 rfl) ?_
          refine lv_goto (tgt := 48) hx hb dX0_judge_41 rfl ?_
          obtain rfl := Option.some.inj hf
          exact ret _ _ _ _ _ dX0_judge_48 rfl rfl hw
        · have hf := dk_f c5 hf
          refine lv_iload_n hx hb dX0_judge_36 rfl (lv_at hl 2 rfl) ?_
          refine lv_if_ne (tgt := 44) hx hb dX0_judge_37 rfl (fun c4 => ?_) (fun c4 => ?_)
          · have hf := dk_f c4 hf
            refine lv_aload_n hx hb dX0_judge_44 rfl (lv_at hl 1 rfl) ?_
            refine gX0_this_reason hC hw dX0_judge_45 ?_
            obtain rfl := Option.some.inj hf
            exact ret _ _ _ _ _ dX0_judge_48 rfl rfl hw
          · have hf := dk_t c4 hf
            refine lv_iload_n hx hb dX0_judge_40 rfl (lv_at hl 0 rfl) ?_
            refine lv_goto (tgt := 48) hx hb dX0_judge_41 rfl ?_
            obtain rfl := Option.some.inj hf
            exact ret _ _ _ _ _ dX0_judge_48 rfl rfl hw
    · have hf := dk_f c7 hf
      refine lv_bipush (v := (-5)) hx hb dX0_judge_19 rfl ?_
      obtain rfl := Option.some.inj hf
      exact ret _ _ _ _ _ dX0_judge_21 rfl rfl hw
  · have hf := dk_t c8 hf
    refine lv_bipush (v := (-2)) hx hb dX0_judge_9 rfl ?_
    obtain rfl := Option.some.inj hf
    exact ret _ _ _ _ _ dX0_judge_11 rfl rfl hw
set_option maxHeartbeats 4000000 in
set_option maxRecDepth 100000 in
theorem metX0_barOfCrises  {res : Int32 × (Nat → Int32) × Int32 × Int32 × Int32 × Int32 × (Nat → Int32) × (Nat → Int32) × Int32 × Int32 × Int32 × Int32 × Int32 × Int32 × Int32 × Int32 × Int32 × Int32} (hf : fX0_barOfCrises t_cells t_points t_fouls t_evening t_sights t_seenStep t_seenCell n_cells n_points n_fouls n_evening n_sights n_seenStep n_seenCell n_touches n_cushions n_p_row n_p_column n_p_down n_p_right n_p_cushions x_signs x_sign x_reason x_acts x_candourAt = some res) : CtI l yX0_barOfCrises cX0_barOfCrises 1 .int 5 D E sz [.ref (h 0)] (WX0 h E t_cells t_points t_fouls t_evening t_sights t_seenStep t_seenCell t_isKept t_touches t_cushions t_p_row t_p_column t_p_down t_p_right t_p_cushions n_cells n_points n_fouls n_evening n_sights n_seenStep n_seenCell n_isKept n_touches n_cushions n_p_row n_p_column n_p_down n_p_right n_p_cushions i_cells i_points i_fouls i_evening i_sights i_seenStep i_seenCell i_isKept i_touches i_cushions i_p_row i_p_column i_p_down i_p_right i_p_cushions j_cells j_points j_fouls j_evening j_sights j_seenStep j_seenCell j_isKept j_touches j_cushions j_p_row j_p_column j_p_down j_p_right j_p_cushions x_signs x_sign x_reason x_acts x_candourAt p_row p_column p_down p_right p_cushions x_met x_reached x_firstWay x_queue x_queued x_fitting x_byCell x_wins x_ways) (WX0 h E t_cells t_points t_fouls t_evening t_sights t_seenStep t_seenCell t_isKept t_touches t_cushions t_p_row t_p_column t_p_down t_p_right t_p_cushions res.2.1 res.2.2.1 res.2.2.2.1 res.2.2.2.2.1 res.2.2.2.2.2.1 res.2.2.2.2.2.2.1 res.2.2.2.2.2.2.2.1 n_isKept res.2.2.2.2.2.2.2.2.1 res.2.2.2.2.2.2.2.2.2.1 res.2.2.2.2.2.2.2.2.2.2.1 res.2.2.2.2.2.2.2.2.2.2.2.1 res.2.2.2.2.2.2.2.2.2.2.2.2.1 res.2.2.2.2.2.2.2.2.2.2.2.2.2.1 res.2.2.2.2.2.2.2.2.2.2.2.2.2.2.1 i_cells i_points i_fouls i_evening i_sights i_seenStep i_seenCell i_isKept i_touches i_cushions i_p_row i_p_column i_p_down i_p_right i_p_cushions j_cells j_points j_fouls j_evening j_sights j_seenStep j_seenCell j_isKept j_touches j_cushions j_p_row j_p_column j_p_down j_p_right j_p_cushions x_signs x_sign res.2.2.2.2.2.2.2.2.2.2.2.2.2.2.2.1 res.2.2.2.2.2.2.2.2.2.2.2.2.2.2.2.2.1 res.2.2.2.2.2.2.2.2.2.2.2.2.2.2.2.2.2 p_row p_column p_down p_right p_cushions x_met x_reached x_firstWay x_queue x_queued x_fitting x_byCell x_wins x_ways) res.1 := by
  refine startI (own := RX0) (by decide) rfl (Nat.le_of_ble_eq_true rfl) ?_
  intro p e s m args below meth c A Q ls hC ret hl hw
  have hx := hC.1.1
  have hb := hC.1.2.1
  have hown := hC.1.2.2.2.1
  have hts := hC.1.2.2.2.2
  have hl : lv_has ls 1 [(0, .ref (h 0))] := hl
  refine lv_aload_n hx hb dX0_barOfCrises_0 rfl (lv_at hl 0 rfl) ?_
  obtain ⟨z1, hz1, hf⟩ := dk_b hf
  refine callVI (rest := []) 0 _ 0 hC hw (sm1 _) (metX0_faultOf hz1) mi_X0_faultOf q232 (rm_ok (by decide) (by decide)) rfl rfl rfl hl.1 rfl (Nat.le_of_ble_eq_true rfl) dX0_barOfCrises_1 ⟨Nat.zero_le _, Nat.zero_le _⟩ (sm2 _ _) (fun H locs hw => ?_)
  refine lv_if_lt (tgt := 12) hx hb dX0_barOfCrises_4 rfl (fun c4 => ?_) (fun c4 => ?_)
  · have hf := dk_t c4 hf
    refine lv_aload_n hx hb dX0_barOfCrises_12 rfl (lv_at hl 0 rfl) ?_
    obtain ⟨z2, hz2, hf⟩ := dk_b hf
    refine callVI (rest := []) 0 _ 0 hC hw (sm1 _) (metX0_goCrises hz2) mi_X0_goCrises q243 (rm_ok (by decide) (by decide)) rfl rfl rfl hl.1 rfl (Nat.le_of_ble_eq_true rfl) dX0_barOfCrises_13 ⟨Nat.zero_le _, Nat.zero_le _⟩ (sm2 _ _) (fun H locs hw => ?_)
    refine lv_if_lt (tgt := 24) hx hb dX0_barOfCrises_16 rfl (fun c3 => ?_) (fun c3 => ?_)
    · have hf := dk_t c3 hf
      refine lv_iconst (v := 0) hx hb dX0_barOfCrises_24 rfl ?_
      obtain rfl := Option.some.inj hf
      exact ret _ _ _ _ _ dX0_barOfCrises_25 rfl rfl hw
    · have hf := dk_f c3 hf
      refine lv_bipush (v := (-3)) hx hb dX0_barOfCrises_19 rfl ?_
      refine lv_goto (tgt := 25) hx hb dX0_barOfCrises_21 rfl ?_
      obtain rfl := Option.some.inj hf
      exact ret _ _ _ _ _ dX0_barOfCrises_25 rfl rfl hw
  · have hf := dk_f c4 hf
    refine lv_bipush (v := (-5)) hx hb dX0_barOfCrises_7 rfl ?_
    refine lv_goto (tgt := 25) hx hb dX0_barOfCrises_9 rfl ?_
    obtain rfl := Option.some.inj hf
    exact ret _ _ _ _ _ dX0_barOfCrises_25 rfl rfl hw
set_option maxHeartbeats 4000000 in
set_option maxRecDepth 100000 in
theorem metX0_behind {v1 : Int32} {res : Int32 × (Nat → Int32) × Int32 × Int32 × Int32 × Int32 × (Nat → Int32) × (Nat → Int32) × Int32 × Int32 × Int32 × Int32 × Int32 × Int32 × Int32 × Int32 × Int32 × Int32} (hf : fX0_behind v1 t_cells t_points t_fouls t_evening t_sights t_seenStep t_seenCell n_cells n_points n_fouls n_evening n_sights n_seenStep n_seenCell n_touches n_cushions n_p_row n_p_column n_p_down n_p_right n_p_cushions x_signs x_sign x_reason x_acts x_candourAt = some res) : CtI l yX0_behind cX0_behind 3 .int 6 D E sz [.ref (h 0), .int v1] (WX0 h E t_cells t_points t_fouls t_evening t_sights t_seenStep t_seenCell t_isKept t_touches t_cushions t_p_row t_p_column t_p_down t_p_right t_p_cushions n_cells n_points n_fouls n_evening n_sights n_seenStep n_seenCell n_isKept n_touches n_cushions n_p_row n_p_column n_p_down n_p_right n_p_cushions i_cells i_points i_fouls i_evening i_sights i_seenStep i_seenCell i_isKept i_touches i_cushions i_p_row i_p_column i_p_down i_p_right i_p_cushions j_cells j_points j_fouls j_evening j_sights j_seenStep j_seenCell j_isKept j_touches j_cushions j_p_row j_p_column j_p_down j_p_right j_p_cushions x_signs x_sign x_reason x_acts x_candourAt p_row p_column p_down p_right p_cushions x_met x_reached x_firstWay x_queue x_queued x_fitting x_byCell x_wins x_ways) (WX0 h E t_cells t_points t_fouls t_evening t_sights t_seenStep t_seenCell t_isKept t_touches t_cushions t_p_row t_p_column t_p_down t_p_right t_p_cushions res.2.1 res.2.2.1 res.2.2.2.1 res.2.2.2.2.1 res.2.2.2.2.2.1 res.2.2.2.2.2.2.1 res.2.2.2.2.2.2.2.1 n_isKept res.2.2.2.2.2.2.2.2.1 res.2.2.2.2.2.2.2.2.2.1 res.2.2.2.2.2.2.2.2.2.2.1 res.2.2.2.2.2.2.2.2.2.2.2.1 res.2.2.2.2.2.2.2.2.2.2.2.2.1 res.2.2.2.2.2.2.2.2.2.2.2.2.2.1 res.2.2.2.2.2.2.2.2.2.2.2.2.2.2.1 i_cells i_points i_fouls i_evening i_sights i_seenStep i_seenCell i_isKept i_touches i_cushions i_p_row i_p_column i_p_down i_p_right i_p_cushions j_cells j_points j_fouls j_evening j_sights j_seenStep j_seenCell j_isKept j_touches j_cushions j_p_row j_p_column j_p_down j_p_right j_p_cushions x_signs x_sign res.2.2.2.2.2.2.2.2.2.2.2.2.2.2.2.1 res.2.2.2.2.2.2.2.2.2.2.2.2.2.2.2.2.1 res.2.2.2.2.2.2.2.2.2.2.2.2.2.2.2.2.2 p_row p_column p_down p_right p_cushions x_met x_reached x_firstWay x_queue x_queued x_fitting x_byCell x_wins x_ways) res.1 := by
  refine startI (own := RX0) (by decide) rfl (Nat.le_of_ble_eq_true rfl) ?_
  intro p e s m args below meth c A Q ls hC ret hl hw
  have hx := hC.1.1
  have hb := hC.1.2.1
  have hown := hC.1.2.2.2.1
  have hts := hC.1.2.2.2.2
  have hl : lv_has ls 3 [(0, .ref (h 0)), (1, .int v1)] := hl
  refine lv_iload_n hx hb dX0_behind_0 rfl (lv_at hl 1 rfl) ?_
  refine callSI (rest := []) 0 0 hC hw (st1 _) (metX0_isBall rfl) mi_X0_isBall q200 (rm_ok (by decide) (by decide)) rfl hl.1 rfl (Nat.le_of_ble_eq_true rfl) dX0_behind_1 ⟨Nat.zero_le _, Nat.zero_le _⟩ (st2 _) (fun H locs hw => ?_)
  refine lv_if_ne (tgt := 9) hx hb dX0_behind_4 rfl (fun c4 => ?_) (fun c4 => ?_)
  · have hf := dk_f c4 hf
    refine lv_aload_n hx hb dX0_behind_9 rfl (lv_at hl 0 rfl) ?_
    obtain ⟨z1, hz1, hf⟩ := dk_b hf
    refine callVI (rest := []) 0 _ 0 hC hw (sm1 _) (metX0_barOfCrises hz1) mi_X0_barOfCrises q301 (rm_ok (by decide) (by decide)) rfl rfl rfl hl.1 rfl (Nat.le_of_ble_eq_true rfl) dX0_behind_10 ⟨Nat.zero_le _, Nat.zero_le _⟩ (sm2 _ _) (fun H locs hw => ?_)
    refine lv_istore_n (lv' := [(2, .int z1.1), (0, .ref (h 0)), (1, .int v1)]) hx hb dX0_behind_13 rfl hl (by decide) rfl (fun ls hl => ?_)
    refine lv_iload_n hx hb dX0_behind_14 rfl (lv_at hl 0 rfl) ?_
    refine lv_if_ge (tgt := 22) hx hb dX0_behind_15 rfl (fun c3 => ?_) (fun c3 => ?_)
    · have hf := dk_t c3 hf
      refine lv_aload_n hx hb dX0_behind_22 rfl (lv_at hl 1 rfl) ?_
      refine gX0_this_now hC hw dX0_behind_23 ?_
      refine gX0_n_cells hC hw dX0_behind_26 ?_
      refine lv_iload_n hx hb dX0_behind_29 rfl (lv_at hl 2 rfl) ?_
      obtain ⟨b2, hf⟩ := dk_c hf
      refine aX0_n_cells hC hw b2 dX0_behind_30 ?_
      obtain rfl := Option.some.inj hf
      exact ret _ _ _ _ _ dX0_behind_31 rfl rfl hw
    · have hf := dk_f c3 hf
      refine lv_iload_n hx hb dX0_behind_18 rfl (lv_at hl 0 rfl) ?_
      refine lv_goto (tgt := 31) hx hb dX0_behind_19 rfl ?_
      obtain rfl := Option.some.inj hf
      exact ret _ _ _ _ _ dX0_behind_31 rfl rfl hw
  · have hf := dk_t c4 hf
    refine lv_iconst (v := (-1)) hx hb dX0_behind_7 rfl ?_
    obtain rfl := Option.some.inj hf
    exact ret _ _ _ _ _ dX0_behind_8 rfl rfl hw
set_option maxHeartbeats 4000000 in
set_option maxRecDepth 100000 in
theorem metX0_table {v1 : Int32} {res : Int32 × (Nat → Int32) × Int32 × Int32 × Int32 × Int32 × (Nat → Int32) × (Nat → Int32) × Int32 × Int32 × Int32 × Int32 × Int32 × Int32 × Int32 × Int32 × Int32 × Int32} (hf : fX0_table v1 t_cells t_points t_fouls t_evening t_sights t_seenStep t_seenCell n_cells n_points n_fouls n_evening n_sights n_seenStep n_seenCell n_touches n_cushions n_p_row n_p_column n_p_down n_p_right n_p_cushions x_signs x_sign x_reason x_acts x_candourAt = some res) : CtI l yX0_table cX0_table 3 .int 6 D E sz [.ref (h 0), .int v1] (WX0 h E t_cells t_points t_fouls t_evening t_sights t_seenStep t_seenCell t_isKept t_touches t_cushions t_p_row t_p_column t_p_down t_p_right t_p_cushions n_cells n_points n_fouls n_evening n_sights n_seenStep n_seenCell n_isKept n_touches n_cushions n_p_row n_p_column n_p_down n_p_right n_p_cushions i_cells i_points i_fouls i_evening i_sights i_seenStep i_seenCell i_isKept i_touches i_cushions i_p_row i_p_column i_p_down i_p_right i_p_cushions j_cells j_points j_fouls j_evening j_sights j_seenStep j_seenCell j_isKept j_touches j_cushions j_p_row j_p_column j_p_down j_p_right j_p_cushions x_signs x_sign x_reason x_acts x_candourAt p_row p_column p_down p_right p_cushions x_met x_reached x_firstWay x_queue x_queued x_fitting x_byCell x_wins x_ways) (WX0 h E t_cells t_points t_fouls t_evening t_sights t_seenStep t_seenCell t_isKept t_touches t_cushions t_p_row t_p_column t_p_down t_p_right t_p_cushions res.2.1 res.2.2.1 res.2.2.2.1 res.2.2.2.2.1 res.2.2.2.2.2.1 res.2.2.2.2.2.2.1 res.2.2.2.2.2.2.2.1 n_isKept res.2.2.2.2.2.2.2.2.1 res.2.2.2.2.2.2.2.2.2.1 res.2.2.2.2.2.2.2.2.2.2.1 res.2.2.2.2.2.2.2.2.2.2.2.1 res.2.2.2.2.2.2.2.2.2.2.2.2.1 res.2.2.2.2.2.2.2.2.2.2.2.2.2.1 res.2.2.2.2.2.2.2.2.2.2.2.2.2.2.1 i_cells i_points i_fouls i_evening i_sights i_seenStep i_seenCell i_isKept i_touches i_cushions i_p_row i_p_column i_p_down i_p_right i_p_cushions j_cells j_points j_fouls j_evening j_sights j_seenStep j_seenCell j_isKept j_touches j_cushions j_p_row j_p_column j_p_down j_p_right j_p_cushions x_signs x_sign res.2.2.2.2.2.2.2.2.2.2.2.2.2.2.2.1 res.2.2.2.2.2.2.2.2.2.2.2.2.2.2.2.2.1 res.2.2.2.2.2.2.2.2.2.2.2.2.2.2.2.2.2 p_row p_column p_down p_right p_cushions x_met x_reached x_firstWay x_queue x_queued x_fitting x_byCell x_wins x_ways) res.1 := by
  refine startI (own := RX0) (by decide) rfl (Nat.le_of_ble_eq_true rfl) ?_
  intro p e s m args below meth c A Q ls hC ret hl hw
  have hx := hC.1.1
  have hb := hC.1.2.1
  have hown := hC.1.2.2.2.1
  have hts := hC.1.2.2.2.2
  have hl : lv_has ls 3 [(0, .ref (h 0)), (1, .int v1)] := hl
  refine lv_iload_n hx hb dX0_table_0 rfl (lv_at hl 1 rfl) ?_
  refine lv_iconst (v := 0) hx hb dX0_table_1 rfl ?_
  refine lv_iconst (v := 3) hx hb dX0_table_2 rfl ?_
  refine callSI (rest := []) 0 0 hC hw (st1 _) (metX0_isIn rfl) mi_X0_isIn q203 (rm_ok (by decide) (by decide)) rfl hl.1 rfl (Nat.le_of_ble_eq_true rfl) dX0_table_3 ⟨Nat.zero_le _, Nat.zero_le _⟩ (st2 _) (fun H locs hw => ?_)
  refine lv_if_ne (tgt := 12) hx hb dX0_table_6 rfl (fun c7 => ?_) (fun c7 => ?_)
  · have hf := dk_f c7 hf
    refine lv_aload_n hx hb dX0_table_12 rfl (lv_at hl 0 rfl) ?_
    obtain ⟨z1, hz1, hf⟩ := dk_b hf
    refine callVI (rest := []) 0 _ 0 hC hw (sm1 _) (metX0_barOfCrises hz1) mi_X0_barOfCrises q301 (rm_ok (by decide) (by decide)) rfl rfl rfl hl.1 rfl (Nat.le_of_ble_eq_true rfl) dX0_table_13 ⟨Nat.zero_le _, Nat.zero_le _⟩ (sm2 _ _) (fun H locs hw => ?_)
    refine lv_istore_n (lv' := [(2, .int z1.1), (0, .ref (h 0)), (1, .int v1)]) hx hb dX0_table_16 rfl hl (by decide) rfl (fun ls hl => ?_)
    refine lv_iload_n hx hb dX0_table_17 rfl (lv_at hl 0 rfl) ?_
    refine lv_if_ge (tgt := 23) hx hb dX0_table_18 rfl (fun c6 => ?_) (fun c6 => ?_)
    · have hf := dk_t c6 hf
      refine lv_iload_n hx hb dX0_table_23 rfl (lv_at hl 2 rfl) ?_
      by_cases c2 : v1 = 0
      · have hf := dk_t c2 hf
        refine lv_tableIn (tgt := 52) hx hb dX0_table_24 (by rw [c2] <;> decide) (by rw [c2] <;> decide) (by rw [c2] <;> rfl) rfl ?_
        refine lv_aload_n hx hb dX0_table_52 rfl (lv_at hl 1 rfl) ?_
        refine gX0_this_now hC hw dX0_table_53 ?_
        refine gX0_n_points hC hw dX0_table_56 ?_
        obtain rfl := Option.some.inj hf
        exact ret _ _ _ _ _ dX0_table_59 rfl rfl hw
      · have hf := dk_f c2 hf
        by_cases c3 : v1 = 1
        · have hf := dk_t c3 hf
          refine lv_tableIn (tgt := 60) hx hb dX0_table_24 (by rw [c3] <;> decide) (by rw [c3] <;> decide) (by rw [c3] <;> rfl) rfl ?_
          refine lv_aload_n hx hb dX0_table_60 rfl (lv_at hl 1 rfl) ?_
          refine gX0_this_now hC hw dX0_table_61 ?_
          refine gX0_n_fouls hC hw dX0_table_64 ?_
          obtain rfl := Option.some.inj hf
          exact ret _ _ _ _ _ dX0_table_67 rfl rfl hw
        · have hf := dk_f c3 hf
          by_cases c4 : v1 = 2
          · have hf := dk_t c4 hf
            refine lv_tableIn (tgt := 68) hx hb dX0_table_24 (by rw [c4] <;> decide) (by rw [c4] <;> decide) (by rw [c4] <;> rfl) rfl ?_
            refine lv_aload_n hx hb dX0_table_68 rfl (lv_at hl 1 rfl) ?_
            refine gX0_this_now hC hw dX0_table_69 ?_
            obtain ⟨z5, hz5, hf⟩ := dk_b hf
            refine callVI (rest := []) 6 5 1 hC hw subX0_n (metX1_countDown hz5) mi_X1_countDown q309 (rm_ok (by decide) (by decide)) rfl rfl rfl hl.1 rfl (Nat.le_of_ble_eq_true rfl) dX0_table_72 ⟨Nat.zero_le _, Nat.zero_le _⟩ putX0_n (fun H locs hw => ?_)
            obtain rfl := Option.some.inj hf
            exact ret _ _ _ _ _ dX0_table_75 rfl rfl hw
          · have hf := dk_f c4 hf
            refine lv_tableOut (tgt := 76) hx hb dX0_table_24 (by have e0 : v1.toInt ≠ 0 := fun h => c2 (Int32.toInt_inj.mp (h.trans (by decide))); have e1 : v1.toInt ≠ 1 := fun h => c3 (Int32.toInt_inj.mp (h.trans (by decide))); have e2 : v1.toInt ≠ 2 := fun h => c4 (Int32.toInt_inj.mp (h.trans (by decide))); omega) rfl ?_
            refine lv_aload_n hx hb dX0_table_76 rfl (lv_at hl 1 rfl) ?_
            refine gX0_this_now hC hw dX0_table_77 ?_
            refine gX0_n_evening hC hw dX0_table_80 ?_
            obtain rfl := Option.some.inj hf
            exact ret _ _ _ _ _ dX0_table_83 rfl rfl hw
    · have hf := dk_f c6 hf
      refine lv_iload_n hx hb dX0_table_21 rfl (lv_at hl 0 rfl) ?_
      obtain rfl := Option.some.inj hf
      exact ret _ _ _ _ _ dX0_table_22 rfl rfl hw
  · have hf := dk_t c7 hf
    refine lv_bipush (v := (-2)) hx hb dX0_table_9 rfl ?_
    obtain rfl := Option.some.inj hf
    exact ret _ _ _ _ _ dX0_table_11 rfl rfl hw
set_option maxHeartbeats 4000000 in
set_option maxRecDepth 100000 in
theorem metX0_candour {v1 : Int32} {res : Int32 × (Nat → Int32) × Int32 × Int32 × Int32 × Int32 × (Nat → Int32) × (Nat → Int32) × Int32 × Int32 × Int32 × Int32 × Int32 × Int32 × Int32 × Int32 × Int32 × Int32} (hf : fX0_candour v1 t_cells t_points t_fouls t_evening t_sights t_seenStep t_seenCell n_cells n_points n_fouls n_evening n_sights n_seenStep n_seenCell n_touches n_cushions n_p_row n_p_column n_p_down n_p_right n_p_cushions x_signs x_sign x_reason x_acts x_candourAt = some res) : CtI l yX0_candour cX0_candour 3 .int 6 D E sz [.ref (h 0), .int v1] (WX0 h E t_cells t_points t_fouls t_evening t_sights t_seenStep t_seenCell t_isKept t_touches t_cushions t_p_row t_p_column t_p_down t_p_right t_p_cushions n_cells n_points n_fouls n_evening n_sights n_seenStep n_seenCell n_isKept n_touches n_cushions n_p_row n_p_column n_p_down n_p_right n_p_cushions i_cells i_points i_fouls i_evening i_sights i_seenStep i_seenCell i_isKept i_touches i_cushions i_p_row i_p_column i_p_down i_p_right i_p_cushions j_cells j_points j_fouls j_evening j_sights j_seenStep j_seenCell j_isKept j_touches j_cushions j_p_row j_p_column j_p_down j_p_right j_p_cushions x_signs x_sign x_reason x_acts x_candourAt p_row p_column p_down p_right p_cushions x_met x_reached x_firstWay x_queue x_queued x_fitting x_byCell x_wins x_ways) (WX0 h E t_cells t_points t_fouls t_evening t_sights t_seenStep t_seenCell t_isKept t_touches t_cushions t_p_row t_p_column t_p_down t_p_right t_p_cushions res.2.1 res.2.2.1 res.2.2.2.1 res.2.2.2.2.1 res.2.2.2.2.2.1 res.2.2.2.2.2.2.1 res.2.2.2.2.2.2.2.1 n_isKept res.2.2.2.2.2.2.2.2.1 res.2.2.2.2.2.2.2.2.2.1 res.2.2.2.2.2.2.2.2.2.2.1 res.2.2.2.2.2.2.2.2.2.2.2.1 res.2.2.2.2.2.2.2.2.2.2.2.2.1 res.2.2.2.2.2.2.2.2.2.2.2.2.2.1 res.2.2.2.2.2.2.2.2.2.2.2.2.2.2.1 i_cells i_points i_fouls i_evening i_sights i_seenStep i_seenCell i_isKept i_touches i_cushions i_p_row i_p_column i_p_down i_p_right i_p_cushions j_cells j_points j_fouls j_evening j_sights j_seenStep j_seenCell j_isKept j_touches j_cushions j_p_row j_p_column j_p_down j_p_right j_p_cushions x_signs x_sign res.2.2.2.2.2.2.2.2.2.2.2.2.2.2.2.1 res.2.2.2.2.2.2.2.2.2.2.2.2.2.2.2.2.1 res.2.2.2.2.2.2.2.2.2.2.2.2.2.2.2.2.2 p_row p_column p_down p_right p_cushions x_met x_reached x_firstWay x_queue x_queued x_fitting x_byCell x_wins x_ways) res.1 := by
  refine startI (own := RX0) (by decide) rfl (Nat.le_of_ble_eq_true rfl) ?_
  intro p e s m args below meth c A Q ls hC ret hl hw
  have hx := hC.1.1
  have hb := hC.1.2.1
  have hown := hC.1.2.2.2.1
  have hts := hC.1.2.2.2.2
  have hl : lv_has ls 3 [(0, .ref (h 0)), (1, .int v1)] := hl
  refine lv_iload_n hx hb dX0_candour_0 rfl (lv_at hl 1 rfl) ?_
  refine lv_iconst (v := 0) hx hb dX0_candour_1 rfl ?_
  refine lv_iconst (v := 1) hx hb dX0_candour_2 rfl ?_
  refine callSI (rest := []) 0 0 hC hw (st1 _) (metX0_isIn rfl) mi_X0_isIn q203 (rm_ok (by decide) (by decide)) rfl hl.1 rfl (Nat.le_of_ble_eq_true rfl) dX0_candour_3 ⟨Nat.zero_le _, Nat.zero_le _⟩ (st2 _) (fun H locs hw => ?_)
  refine lv_if_ne (tgt := 12) hx hb dX0_candour_6 rfl (fun c4 => ?_) (fun c4 => ?_)
  · have hf := dk_f c4 hf
    refine lv_aload_n hx hb dX0_candour_12 rfl (lv_at hl 0 rfl) ?_
    obtain ⟨z1, hz1, hf⟩ := dk_b hf
    refine callVI (rest := []) 0 _ 0 hC hw (sm1 _) (metX0_barOfCrises hz1) mi_X0_barOfCrises q301 (rm_ok (by decide) (by decide)) rfl rfl rfl hl.1 rfl (Nat.le_of_ble_eq_true rfl) dX0_candour_13 ⟨Nat.zero_le _, Nat.zero_le _⟩ (sm2 _ _) (fun H locs hw => ?_)
    refine lv_istore_n (lv' := [(2, .int z1.1), (0, .ref (h 0)), (1, .int v1)]) hx hb dX0_candour_16 rfl hl (by decide) rfl (fun ls hl => ?_)
    refine lv_iload_n hx hb dX0_candour_17 rfl (lv_at hl 0 rfl) ?_
    refine lv_if_ge (tgt := 25) hx hb dX0_candour_18 rfl (fun c3 => ?_) (fun c3 => ?_)
    · have hf := dk_t c3 hf
      refine lv_iload_n hx hb dX0_candour_25 rfl (lv_at hl 2 rfl) ?_
      refine lv_if_ne (tgt := 36) hx hb dX0_candour_26 rfl (fun c2 => ?_) (fun c2 => ?_)
      · have hf := dk_f c2 hf
        refine lv_aload_n hx hb dX0_candour_36 rfl (lv_at hl 1 rfl) ?_
        refine gX0_this_now hC hw dX0_candour_37 ?_
        refine gX0_n_cushions hC hw dX0_candour_40 ?_
        obtain rfl := Option.some.inj hf
        exact ret _ _ _ _ _ dX0_candour_43 rfl rfl hw
      · have hf := dk_t c2 hf
        refine lv_aload_n hx hb dX0_candour_29 rfl (lv_at hl 1 rfl) ?_
        refine gX0_this_candourAt hC hw dX0_candour_30 ?_
        refine lv_goto (tgt := 43) hx hb dX0_candour_33 rfl ?_
        obtain rfl := Option.some.inj hf
        exact ret _ _ _ _ _ dX0_candour_43 rfl rfl hw
    · have hf := dk_f c3 hf
      refine lv_iload_n hx hb dX0_candour_21 rfl (lv_at hl 0 rfl) ?_
      refine lv_goto (tgt := 43) hx hb dX0_candour_22 rfl ?_
      obtain rfl := Option.some.inj hf
      exact ret _ _ _ _ _ dX0_candour_43 rfl rfl hw
  · have hf := dk_t c4 hf
    refine lv_bipush (v := (-2)) hx hb dX0_candour_9 rfl ?_
    obtain rfl := Option.some.inj hf
    exact ret _ _ _ _ _ dX0_candour_11 rfl rfl hw
set_option maxHeartbeats 4000000 in
set_option maxRecDepth 100000 in
theorem metX0_done  {res : Int32 × (Nat → Int32) × Int32 × Int32 × Int32 × Int32 × (Nat → Int32) × (Nat → Int32) × Int32 × Int32 × (Nat → Int32) × Int32 × Int32 × Int32 × Int32 × (Nat → Int32) × (Nat → Int32) × Int32 × Int32 × Int32 × Int32 × Int32 × Int32 × Int32 × Int32 × Int32 × Int32 × Int32} (hf : fX0_done t_cells t_points t_fouls t_evening t_sights t_seenStep t_seenCell t_touches t_cushions n_cells n_points n_fouls n_evening n_sights n_seenStep n_seenCell n_touches n_cushions n_p_row n_p_column n_p_down n_p_right n_p_cushions x_signs x_sign x_reason x_acts x_candourAt = some res) : CtI l yX0_done cX0_done 2 .int 6 D E sz [.ref (h 0)] (WX0 h E t_cells t_points t_fouls t_evening t_sights t_seenStep t_seenCell t_isKept t_touches t_cushions t_p_row t_p_column t_p_down t_p_right t_p_cushions n_cells n_points n_fouls n_evening n_sights n_seenStep n_seenCell n_isKept n_touches n_cushions n_p_row n_p_column n_p_down n_p_right n_p_cushions i_cells i_points i_fouls i_evening i_sights i_seenStep i_seenCell i_isKept i_touches i_cushions i_p_row i_p_column i_p_down i_p_right i_p_cushions j_cells j_points j_fouls j_evening j_sights j_seenStep j_seenCell j_isKept j_touches j_cushions j_p_row j_p_column j_p_down j_p_right j_p_cushions x_signs x_sign x_reason x_acts x_candourAt p_row p_column p_down p_right p_cushions x_met x_reached x_firstWay x_queue x_queued x_fitting x_byCell x_wins x_ways) (WX0 h E res.2.1 res.2.2.1 res.2.2.2.1 res.2.2.2.2.1 res.2.2.2.2.2.1 res.2.2.2.2.2.2.1 res.2.2.2.2.2.2.2.1 t_isKept res.2.2.2.2.2.2.2.2.1 res.2.2.2.2.2.2.2.2.2.1 t_p_row t_p_column t_p_down t_p_right t_p_cushions res.2.2.2.2.2.2.2.2.2.2.1 res.2.2.2.2.2.2.2.2.2.2.2.1 res.2.2.2.2.2.2.2.2.2.2.2.2.1 res.2.2.2.2.2.2.2.2.2.2.2.2.2.1 res.2.2.2.2.2.2.2.2.2.2.2.2.2.2.1 res.2.2.2.2.2.2.2.2.2.2.2.2.2.2.2.1 res.2.2.2.2.2.2.2.2.2.2.2.2.2.2.2.2.1 n_isKept res.2.2.2.2.2.2.2.2.2.2.2.2.2.2.2.2.2.1 res.2.2.2.2.2.2.2.2.2.2.2.2.2.2.2.2.2.2.1 res.2.2.2.2.2.2.2.2.2.2.2.2.2.2.2.2.2.2.2.1 res.2.2.2.2.2.2.2.2.2.2.2.2.2.2.2.2.2.2.2.2.1 res.2.2.2.2.2.2.2.2.2.2.2.2.2.2.2.2.2.2.2.2.2.1 res.2.2.2.2.2.2.2.2.2.2.2.2.2.2.2.2.2.2.2.2.2.2.1 res.2.2.2.2.2.2.2.2.2.2.2.2.2.2.2.2.2.2.2.2.2.2.2.1 i_cells i_points i_fouls i_evening i_sights i_seenStep i_seenCell i_isKept i_touches i_cushions i_p_row i_p_column i_p_down i_p_right i_p_cushions j_cells j_points j_fouls j_evening j_sights j_seenStep j_seenCell j_isKept j_touches j_cushions j_p_row j_p_column j_p_down j_p_right j_p_cushions res.2.2.2.2.2.2.2.2.2.2.2.2.2.2.2.2.2.2.2.2.2.2.2.2.1 x_sign res.2.2.2.2.2.2.2.2.2.2.2.2.2.2.2.2.2.2.2.2.2.2.2.2.2.1 res.2.2.2.2.2.2.2.2.2.2.2.2.2.2.2.2.2.2.2.2.2.2.2.2.2.2.1 res.2.2.2.2.2.2.2.2.2.2.2.2.2.2.2.2.2.2.2.2.2.2.2.2.2.2.2 p_row p_column p_down p_right p_cushions x_met x_reached x_firstWay x_queue x_queued x_fitting x_byCell x_wins x_ways) res.1 := by
  refine startI (own := RX0) (by decide) rfl (Nat.le_of_ble_eq_true rfl) ?_
  intro p e s m args below meth c A Q ls hC ret hl hw
  have hx := hC.1.1
  have hb := hC.1.2.1
  have hown := hC.1.2.2.2.1
  have hts := hC.1.2.2.2.2
  have hl : lv_has ls 2 [(0, .ref (h 0))] := hl
  refine lv_aload_n hx hb dX0_done_0 rfl (lv_at hl 0 rfl) ?_
  obtain ⟨z1, hz1, hf⟩ := dk_b hf
  refine callVI (rest := []) 0 _ 0 hC hw (sm1 _) (metX0_barOfCrises hz1) mi_X0_barOfCrises q301 (rm_ok (by decide) (by decide)) rfl rfl rfl hl.1 rfl (Nat.le_of_ble_eq_true rfl) dX0_done_1 ⟨Nat.zero_le _, Nat.zero_le _⟩ (sm2 _ _) (fun H locs hw => ?_)
  refine lv_istore_n (lv' := [(1, .int z1.1), (0, .ref (h 0))]) hx hb dX0_done_4 rfl hl (by decide) rfl (fun ls hl => ?_)
  refine lv_iload_n hx hb dX0_done_5 rfl (lv_at hl 0 rfl) ?_
  refine lv_if_ge (tgt := 11) hx hb dX0_done_6 rfl (fun c3 => ?_) (fun c3 => ?_)
  · have hf := dk_t c3 hf
    refine lv_aload_n hx hb dX0_done_11 rfl (lv_at hl 1 rfl) ?_
    refine gX0_this_table hC hw dX0_done_12 ?_
    refine lv_aload_n hx hb dX0_done_15 rfl (lv_at hl 1 rfl) ?_
    refine gX0_this_now hC hw dX0_done_16 ?_
    obtain ⟨z2, hz2, hf⟩ := dk_b hf
    refine ccX0_t_n (rest := []) hC hl.1 hw (metX1_copy hz2) (rm_ok (by decide) (by decide)) (Nat.le_of_ble_eq_true rfl) dX0_done_19 ⟨Nat.zero_le _, Nat.zero_le _⟩ (fun H locs hw => ?_)
    refine lv_aload_n hx hb dX0_done_22 rfl (lv_at hl 1 rfl) ?_
    refine lv_iconst (v := 0) hx hb dX0_done_23 rfl ?_
    refine pX0_this_signs hC hw dX0_done_24 (fun H locs hw => ?_)
    refine lv_aload_n hx hb dX0_done_27 rfl (lv_at hl 1 rfl) ?_
    refine gX0_this_acts hC hw dX0_done_28 ?_
    obtain rfl := Option.some.inj hf
    exact ret _ _ _ _ _ dX0_done_31 rfl rfl hw
  · have hf := dk_f c3 hf
    refine lv_iload_n hx hb dX0_done_9 rfl (lv_at hl 0 rfl) ?_
    obtain rfl := Option.some.inj hf
    exact ret _ _ _ _ _ dX0_done_10 rfl rfl hw
set_option maxHeartbeats 4000000 in
set_option maxRecDepth 100000 in
theorem metX0_forceBy {v1 : Int32} {v2 : Int32} {v3 : Int32} {v4 : Int32} {res : Int32 × Int32 × Int32 × Int32 × Int32 × Int32} (hf : fX0_forceBy v1 v2 v3 v4 t_cells p_row p_column p_down p_right p_cushions = some res) : CtI l yX0_forceBy cX0_forceBy 8 .int 2 D E sz [.ref (h 0), .int v1, .int v2, .int v3, .int v4] (WX0 h E t_cells t_points t_fouls t_evening t_sights t_seenStep t_seenCell t_isKept t_touches t_cushions t_p_row t_p_column t_p_down t_p_right t_p_cushions n_cells n_points n_fouls n_evening n_sights n_seenStep n_seenCell n_isKept n_touches n_cushions n_p_row n_p_column n_p_down n_p_right n_p_cushions i_cells i_points i_fouls i_evening i_sights i_seenStep i_seenCell i_isKept i_touches i_cushions i_p_row i_p_column i_p_down i_p_right i_p_cushions j_cells j_points j_fouls j_evening j_sights j_seenStep j_seenCell j_isKept j_touches j_cushions j_p_row j_p_column j_p_down j_p_right j_p_cushions x_signs x_sign x_reason x_acts x_candourAt p_row p_column p_down p_right p_cushions x_met x_reached x_firstWay x_queue x_queued x_fitting x_byCell x_wins x_ways) (WX0 h E t_cells t_points t_fouls t_evening t_sights t_seenStep t_seenCell t_isKept t_touches t_cushions t_p_row t_p_column t_p_down t_p_right t_p_cushions n_cells n_points n_fouls n_evening n_sights n_seenStep n_seenCell n_isKept n_touches n_cushions n_p_row n_p_column n_p_down n_p_right n_p_cushions i_cells i_points i_fouls i_evening i_sights i_seenStep i_seenCell i_isKept i_touches i_cushions i_p_row i_p_column i_p_down i_p_right i_p_cushions j_cells j_points j_fouls j_evening j_sights j_seenStep j_seenCell j_isKept j_touches j_cushions j_p_row j_p_column j_p_down j_p_right j_p_cushions x_signs x_sign x_reason x_acts x_candourAt res.2.1 res.2.2.1 res.2.2.2.1 res.2.2.2.2.1 res.2.2.2.2.2 x_met x_reached x_firstWay x_queue x_queued x_fitting x_byCell x_wins x_ways) res.1 := by
  refine startI (own := RX0) (by decide) rfl (Nat.le_of_ble_eq_true rfl) ?_
  intro p e s m args below meth c A Q ls hC ret hl hw
  have hx := hC.1.1
  have hb := hC.1.2.1
  have hown := hC.1.2.2.2.1
  have hts := hC.1.2.2.2.2
  have hl : lv_has ls 8 [(0, .ref (h 0)), (1, .int v1), (2, .int v2), (3, .int v3), (4, .int v4)] := hl
  have L84 : ∀ (k20c : Int32 → Int32 → Int32 → Int32 → Int32 → Int32 → Option (Int32 × Int32 × Int32 × Int32 × Int32 × Int32)) (hk20 : ∀ (v5 : Int32) (p_row : Int32) (p_column : Int32) (p_down : Int32) (p_right : Int32) (p_cushions : Int32) (H : Heap) (locs : List Loc) (ls : Array Slot), Wo D A s.heap H locs (WX0 h E t_cells t_points t_fouls t_evening t_sights t_seenStep t_seenCell t_isKept t_touches t_cushions t_p_row t_p_column t_p_down t_p_right t_p_cushions n_cells n_points n_fouls n_evening n_sights n_seenStep n_seenCell n_isKept n_touches n_cushions n_p_row n_p_column n_p_down n_p_right n_p_cushions i_cells i_points i_fouls i_evening i_sights i_seenStep i_seenCell i_isKept i_touches i_cushions i_p_row i_p_column i_p_down i_p_right i_p_cushions j_cells j_points j_fouls j_evening j_sights j_seenStep j_seenCell j_isKept j_touches j_cushions j_p_row j_p_column j_p_down j_p_right j_p_cushions x_signs x_sign x_reason x_acts x_candourAt p_row p_column p_down p_right p_cushions x_met x_reached x_firstWay x_queue x_queued x_fitting x_byCell x_wins x_ways) → lv_has ls 8 [(0, .ref (h 0)), (1, .int v1), (3, .int v3), (4, .int v4), (5, .int v5)] → k20c v5 p_row p_column p_down p_right p_cushions = some res → W p l e (rmN 2) s m args below meth c H locs 0 0 Q (F0 m 20 ls [])) (v5 : Int32) (v6 : Int32) (p_row : Int32) (p_column : Int32) (p_down : Int32) (p_right : Int32) (p_cushions : Int32) (H : Heap) (locs : List Loc) (ls : Array Slot), Wo D A s.heap H locs (WX0 h E t_cells t_points t_fouls t_evening t_sights t_seenStep t_seenCell t_isKept t_touches t_cushions t_p_row t_p_column t_p_down t_p_right t_p_cushions n_cells n_points n_fouls n_evening n_sights n_seenStep n_seenCell n_isKept n_touches n_cushions n_p_row n_p_column n_p_down n_p_right n_p_cushions i_cells i_points i_fouls i_evening i_sights i_seenStep i_seenCell i_isKept i_touches i_cushions i_p_row i_p_column i_p_down i_p_right i_p_cushions j_cells j_points j_fouls j_evening j_sights j_seenStep j_seenCell j_isKept j_touches j_cushions j_p_row j_p_column j_p_down j_p_right j_p_cushions x_signs x_sign x_reason x_acts x_candourAt p_row p_column p_down p_right p_cushions x_met x_reached x_firstWay x_queue x_queued x_fitting x_byCell x_wins x_ways) → lv_has ls 8 [(0, .ref (h 0)), (1, .int v1), (3, .int v3), (4, .int v4), (5, .int v5), (6, .int v6)] → fX0_forceBy_L84 v1 v2 v3 v4 t_cells k20c v5 v6 p_row p_column p_down p_right p_cushions = some res → W p l e (rmN 2) s m args below meth c H locs 0 0 Q (F0 m 84 ls []) := by
    intro k20c hk20 v5 v6 p_row p_column p_down p_right p_cushions H locs ls hw hl hf
    refine lv_iload hx hb dX0_forceBy_84 (lv_at hl 5 rfl) ?_
    refine callSI (rest := []) 0 0 hC hw (st1 _) (metX0_isPocket rfl) mi_X0_isPocket q209 (rm_ok (by decide) (by decide)) rfl hl.1 rfl (Nat.le_of_ble_eq_true rfl) dX0_forceBy_86 ⟨Nat.zero_le _, Nat.zero_le _⟩ (st2 _) (fun H locs hw => ?_)
    refine lv_if_eq (tgt := 95) hx hb dX0_forceBy_89 rfl (fun c6 => ?_) (fun c6 => ?_)
    · have hf := dk_t c6 hf
      refine lv_aload_n hx hb dX0_forceBy_95 rfl (lv_at hl 0 rfl) ?_
      refine gX0_this_path hC hw dX0_forceBy_96 ?_
      obtain ⟨z5, hz5, hf⟩ := dk_b hf
      refine callVV (rest := []) 23 1 2 hC hw subX0_p (metX2_go hz5) mi_X2_go q332 (rm_ok (by decide) (by decide)) rfl rfl rfl hl.1 rfl (Nat.le_of_ble_eq_true rfl) dX0_forceBy_99 ⟨Nat.zero_le _, Nat.zero_le _⟩ putX0_p (fun H locs hw => ?_)
      refine lv_iinc (v := (v5 + 1)) (lv' := [(5, .int (v5 + 1)), (0, .ref (h 0)), (1, .int v1), (3, .int v3), (4, .int v4), (6, .int v6)]) hx hb dX0_forceBy_102 hl (k := 4) rfl rfl (by decide) rfl (fun ls hl => ?_)
      refine lv_goto (tgt := 20) hx hb dX0_forceBy_105 rfl ?_
      exact hk20 (v5 + 1) z5.1 z5.2 p_down p_right p_cushions _ _ _ hw (lv_sub hl [1, 2, 3, 4, 0] rfl) hf
    · have hf := dk_f c6 hf
      refine lv_ldc (v := 1000000) hx hb hown (hts _ q325) dX0_forceBy_92 ?_
      obtain rfl := Option.some.inj hf
      exact ret _ _ _ _ _ dX0_forceBy_94 rfl rfl hw
  have L20 : ∀ (n : Nat), ∀ (v5 : Int32) (p_row : Int32) (p_column : Int32) (p_down : Int32) (p_right : Int32) (p_cushions : Int32) (H : Heap) (locs : List Loc) (ls : Array Slot), Wo D A s.heap H locs (WX0 h E t_cells t_points t_fouls t_evening t_sights t_seenStep t_seenCell t_isKept t_touches t_cushions t_p_row t_p_column t_p_down t_p_right t_p_cushions n_cells n_points n_fouls n_evening n_sights n_seenStep n_seenCell n_isKept n_touches n_cushions n_p_row n_p_column n_p_down n_p_right n_p_cushions i_cells i_points i_fouls i_evening i_sights i_seenStep i_seenCell i_isKept i_touches i_cushions i_p_row i_p_column i_p_down i_p_right i_p_cushions j_cells j_points j_fouls j_evening j_sights j_seenStep j_seenCell j_isKept j_touches j_cushions j_p_row j_p_column j_p_down j_p_right j_p_cushions x_signs x_sign x_reason x_acts x_candourAt p_row p_column p_down p_right p_cushions x_met x_reached x_firstWay x_queue x_queued x_fitting x_byCell x_wins x_ways) → lv_has ls 8 [(0, .ref (h 0)), (1, .int v1), (3, .int v3), (4, .int v4), (5, .int v5)] → fX0_forceBy_L20 v1 v2 v3 v4 t_cells  n v5 p_row p_column p_down p_right p_cushions = some res → W p l e (rmN 2) s m args below meth c H locs 0 0 Q (F0 m 20 ls []) := by
    intro  n
    induction n with
    | zero =>
      intro v5 p_row p_column p_down p_right p_cushions H locs ls hw hl hf
      exact dk_n hf
    | succ n ih =>
      intro v5 p_row p_column p_down p_right p_cushions H locs ls hw hl hf
      refine lv_iload hx hb dX0_forceBy_20 (lv_at hl 4 rfl) ?_
      refine lv_bipush (v := 9) hx hb dX0_forceBy_22 rfl ?_
      refine lv_icmp_gt (tgt := 108) hx hb dX0_forceBy_24 rfl (fun c11 => ?_) (fun c11 => ?_)
      · have hf := dk_t c11 hf
        refine lv_ldc (v := 1000000) hx hb hown (hts _ q325) dX0_forceBy_108 ?_
        obtain rfl := Option.some.inj hf
        exact ret _ _ _ _ _ dX0_forceBy_110 rfl rfl hw
      · have hf := dk_f c11 hf
        refine lv_aload_n hx hb dX0_forceBy_27 rfl (lv_at hl 0 rfl) ?_
        refine gX0_this_path hC hw dX0_forceBy_28 ?_
        obtain ⟨z3, hz3, hf⟩ := dk_b hf
        refine callVI (rest := []) 23 1 2 hC hw subX0_p (metX2_next hz3) mi_X2_next q331 (rm_ok (by decide) (by decide)) rfl rfl rfl hl.1 rfl (Nat.le_of_ble_eq_true rfl) dX0_forceBy_31 ⟨Nat.zero_le _, Nat.zero_le _⟩ putX0_p (fun H locs hw => ?_)
        refine lv_istore (lv' := [(6, .int z3.1), (0, .ref (h 0)), (1, .int v1), (3, .int v3), (4, .int v4), (5, .int v5)]) hx hb dX0_forceBy_34 hl (by decide) rfl (fun ls hl => ?_)
        refine lv_aload_n hx hb dX0_forceBy_36 rfl (lv_at hl 1 rfl) ?_
        refine gX0_this_table hC hw dX0_forceBy_37 ?_
        refine lv_iload hx hb dX0_forceBy_40 (lv_at hl 0 rfl) ?_
        obtain ⟨z4, hz4, hf⟩ := dk_b hf
        refine callVI (rest := []) 1 5 1 hC hw subX0_t (metX1_ballOn hz4) mi_X1_ballOn q212 (rm_ok (by decide) (by decide)) rfl rfl rfl hl.1 rfl (Nat.le_of_ble_eq_true rfl) dX0_forceBy_42 ⟨Nat.zero_le _, Nat.zero_le _⟩ putX0_t (fun H locs hw => ?_)
        refine lv_istore (lv' := [(7, .int z4), (6, .int z3.1), (0, .ref (h 0)), (1, .int v1), (3, .int v3), (4, .int v4), (5, .int v5)]) hx hb dX0_forceBy_45 hl (by decide) rfl (fun ls hl => ?_)
        refine lv_iload hx hb dX0_forceBy_47 (lv_at hl 0 rfl) ?_
        refine lv_if_lt (tgt := 84) hx hb dX0_forceBy_49 rfl (fun c10 => ?_) (fun c10 => ?_)
        · have hf := dk_t c10 hf
          exact L84 (fun y0 y1 y2 y3 y4 y5 => fX0_forceBy_L20 v1 v2 v3 v4 t_cells n y0 y1 y2 y3 y4 y5) ih v5 z3.1 p_row p_column z3.2.1 z3.2.2.1 z3.2.2.2 _ _ _ hw (lv_sub hl [2, 3, 4, 5, 6, 1] rfl) hf
        · have hf := dk_f c10 hf
          refine lv_iload hx hb dX0_forceBy_52 (lv_at hl 0 rfl) ?_
          refine lv_iload_n hx hb dX0_forceBy_54 rfl (lv_at hl 3 rfl) ?_
          refine lv_icmp_eq (tgt := 84) hx hb dX0_forceBy_55 rfl (fun c9 => ?_) (fun c9 => ?_)
          · have hf := dk_t c9 hf
            exact L84 (fun y0 y1 y2 y3 y4 y5 => fX0_forceBy_L20 v1 v2 v3 v4 t_cells n y0 y1 y2 y3 y4 y5) ih v5 z3.1 p_row p_column z3.2.1 z3.2.2.1 z3.2.2.2 _ _ _ hw (lv_sub hl [2, 3, 4, 5, 6, 1] rfl) hf
          · have hf := dk_f c9 hf
            refine lv_iload hx hb dX0_forceBy_58 (lv_at hl 0 rfl) ?_
            refine lv_iload_n hx hb dX0_forceBy_60 rfl (lv_at hl 4 rfl) ?_
            refine lv_icmp_ne (tgt := 81) hx hb dX0_forceBy_61 rfl (fun c8 => ?_) (fun c8 => ?_)
            · have hf := dk_f c8 hf
              refine lv_ldc (v := 1000000) hx hb hown (hts _ q325) dX0_forceBy_81 ?_
              obtain rfl := Option.some.inj hf
              exact ret _ _ _ _ _ dX0_forceBy_83 rfl rfl hw
            · have hf := dk_t c8 hf
              refine lv_aload_n hx hb dX0_forceBy_64 rfl (lv_at hl 2 rfl) ?_
              refine gX0_this_path hC hw dX0_forceBy_65 ?_
              refine gX0_p_cushions hC hw dX0_forceBy_68 ?_
              refine lv_iload hx hb dX0_forceBy_71 (lv_at hl 5 rfl) ?_
              refine lv_icmp_ne (tgt := 81) hx hb dX0_forceBy_73 rfl (fun c7 => ?_) (fun c7 => ?_)
              · have hf := dk_f c7 hf
                refine lv_ldc (v := 1000000) hx hb hown (hts _ q325) dX0_forceBy_81 ?_
                obtain rfl := Option.some.inj hf
                exact ret _ _ _ _ _ dX0_forceBy_83 rfl rfl hw
              · have hf := dk_t c7 hf
                refine lv_iload hx hb dX0_forceBy_76 (lv_at hl 6 rfl) ?_
                refine lv_goto (tgt := 83) hx hb dX0_forceBy_78 rfl ?_
                obtain rfl := Option.some.inj hf
                exact ret _ _ _ _ _ dX0_forceBy_83 rfl rfl hw
  refine lv_aload_n hx hb dX0_forceBy_0 rfl (lv_at hl 0 rfl) ?_
  refine gX0_this_path hC hw dX0_forceBy_1 ?_
  refine lv_aload_n hx hb dX0_forceBy_4 rfl (lv_at hl 0 rfl) ?_
  refine gX0_this_table hC hw dX0_forceBy_5 ?_
  refine gX0_t_cells hC hw dX0_forceBy_8 ?_
  refine lv_iload_n hx hb dX0_forceBy_11 rfl (lv_at hl 1 rfl) ?_
  obtain ⟨b1, hf⟩ := dk_c hf
  refine aX0_t_cells hC hw b1 dX0_forceBy_12 ?_
  refine lv_iload_n hx hb dX0_forceBy_13 rfl (lv_at hl 2 rfl) ?_
  obtain ⟨z2, hz2, hf⟩ := dk_b hf
  refine callVV (rest := []) 23 1 2 hC hw subX0_p (metX2_send hz2) mi_X2_send q330 (rm_ok (by decide) (by decide)) rfl rfl rfl hl.1 rfl (Nat.le_of_ble_eq_true rfl) dX0_forceBy_14 ⟨Nat.zero_le _, Nat.zero_le _⟩ putX0_p (fun H locs hw => ?_)
  refine lv_iconst (v := 1) hx hb dX0_forceBy_17 rfl ?_
  refine lv_istore (lv' := [(5, .int 1), (0, .ref (h 0)), (1, .int v1), (2, .int v2), (3, .int v3), (4, .int v4)]) hx hb dX0_forceBy_18 hl (by decide) rfl (fun ls hl => ?_)
  exact L20 FU 1 z2.1 z2.2.1 z2.2.2.1 z2.2.2.2.1 z2.2.2.2.2 _ _ _ hw (lv_sub hl [1, 2, 4, 5, 0] rfl) hf
set_option maxHeartbeats 4000000 in
set_option maxRecDepth 100000 in
theorem metX0_hint {v1 : Int32} {v2 : Int32} {v3 : Int32} {v4 : Int32} {res : Int32 × Int32 × Int32 × Int32 × Int32 × Int32} (hf : fX0_hint v1 v2 v3 v4 t_cells p_row p_column p_down p_right p_cushions = some res) : CtI l yX0_hint cX0_hint 9 .int 3 D E sz [.ref (h 0), .int v1, .int v2, .int v3, .int v4] (WX0 h E t_cells t_points t_fouls t_evening t_sights t_seenStep t_seenCell t_isKept t_touches t_cushions t_p_row t_p_column t_p_down t_p_right t_p_cushions n_cells n_points n_fouls n_evening n_sights n_seenStep n_seenCell n_isKept n_touches n_cushions n_p_row n_p_column n_p_down n_p_right n_p_cushions i_cells i_points i_fouls i_evening i_sights i_seenStep i_seenCell i_isKept i_touches i_cushions i_p_row i_p_column i_p_down i_p_right i_p_cushions j_cells j_points j_fouls j_evening j_sights j_seenStep j_seenCell j_isKept j_touches j_cushions j_p_row j_p_column j_p_down j_p_right j_p_cushions x_signs x_sign x_reason x_acts x_candourAt p_row p_column p_down p_right p_cushions x_met x_reached x_firstWay x_queue x_queued x_fitting x_byCell x_wins x_ways) (WX0 h E t_cells t_points t_fouls t_evening t_sights t_seenStep t_seenCell t_isKept t_touches t_cushions t_p_row t_p_column t_p_down t_p_right t_p_cushions n_cells n_points n_fouls n_evening n_sights n_seenStep n_seenCell n_isKept n_touches n_cushions n_p_row n_p_column n_p_down n_p_right n_p_cushions i_cells i_points i_fouls i_evening i_sights i_seenStep i_seenCell i_isKept i_touches i_cushions i_p_row i_p_column i_p_down i_p_right i_p_cushions j_cells j_points j_fouls j_evening j_sights j_seenStep j_seenCell j_isKept j_touches j_cushions j_p_row j_p_column j_p_down j_p_right j_p_cushions x_signs x_sign x_reason x_acts x_candourAt res.2.1 res.2.2.1 res.2.2.2.1 res.2.2.2.2.1 res.2.2.2.2.2 x_met x_reached x_firstWay x_queue x_queued x_fitting x_byCell x_wins x_ways) res.1 := by
  refine startI (own := RX0) (by decide) rfl (Nat.le_of_ble_eq_true rfl) ?_
  intro p e s m args below meth c A Q ls hC ret hl hw
  have hx := hC.1.1
  have hb := hC.1.2.1
  have hown := hC.1.2.2.2.1
  have hts := hC.1.2.2.2.2
  have hl : lv_has ls 9 [(0, .ref (h 0)), (1, .int v1), (2, .int v2), (3, .int v3), (4, .int v4)] := hl
  have L127 : ∀ (v5 : Int32) (v6 : Int32) (p_row : Int32) (p_column : Int32) (p_down : Int32) (p_right : Int32) (p_cushions : Int32) (H : Heap) (locs : List Loc) (ls : Array Slot), Wo D A s.heap H locs (WX0 h E t_cells t_points t_fouls t_evening t_sights t_seenStep t_seenCell t_isKept t_touches t_cushions t_p_row t_p_column t_p_down t_p_right t_p_cushions n_cells n_points n_fouls n_evening n_sights n_seenStep n_seenCell n_isKept n_touches n_cushions n_p_row n_p_column n_p_down n_p_right n_p_cushions i_cells i_points i_fouls i_evening i_sights i_seenStep i_seenCell i_isKept i_touches i_cushions i_p_row i_p_column i_p_down i_p_right i_p_cushions j_cells j_points j_fouls j_evening j_sights j_seenStep j_seenCell j_isKept j_touches j_cushions j_p_row j_p_column j_p_down j_p_right j_p_cushions x_signs x_sign x_reason x_acts x_candourAt p_row p_column p_down p_right p_cushions x_met x_reached x_firstWay x_queue x_queued x_fitting x_byCell x_wins x_ways) → lv_has ls 9 [(4, .int v4), (5, .int v5), (6, .int v6)] → fX0_hint_L127 v1 v2 v3 v4 t_cells  v5 v6 p_row p_column p_down p_right p_cushions = some res → W p l e (rmN 3) s m args below meth c H locs 0 0 Q (F0 m 127 ls []) := by
    intro  v5 v6 p_row p_column p_down p_right p_cushions H locs ls hw hl hf
    refine lv_iload hx hb dX0_hint_127 (lv_at hl 2 rfl) ?_
    refine lv_if_lt (tgt := 138) hx hb dX0_hint_129 rfl (fun c2 => ?_) (fun c2 => ?_)
    · have hf := dk_t c2 hf
      refine lv_iload hx hb dX0_hint_138 (lv_at hl 2 rfl) ?_
      refine lv_goto (tgt := 145) hx hb dX0_hint_140 rfl ?_
      obtain rfl := Option.some.inj hf
      exact ret _ _ _ _ _ dX0_hint_145 rfl rfl hw
    · have hf := dk_f c2 hf
      refine lv_iload hx hb dX0_hint_132 (lv_at hl 0 rfl) ?_
      refine lv_iconst (v := 1) hx hb dX0_hint_134 rfl ?_
      refine lv_icmp_ne (tgt := 143) hx hb dX0_hint_135 rfl (fun c1 => ?_) (fun c1 => ?_)
      · have hf := dk_f c1 hf
        refine lv_iload hx hb dX0_hint_143 (lv_at hl 1 rfl) ?_
        obtain rfl := Option.some.inj hf
        exact ret _ _ _ _ _ dX0_hint_145 rfl rfl hw
      · have hf := dk_t c1 hf
        refine lv_iload hx hb dX0_hint_138 (lv_at hl 2 rfl) ?_
        refine lv_goto (tgt := 145) hx hb dX0_hint_140 rfl ?_
        obtain rfl := Option.some.inj hf
        exact ret _ _ _ _ _ dX0_hint_145 rfl rfl hw
  have L54 : ∀ (n : Nat), ∀ (v5 : Int32) (v6 : Int32) (v7 : Int32) (p_row : Int32) (p_column : Int32) (p_down : Int32) (p_right : Int32) (p_cushions : Int32) (H : Heap) (locs : List Loc) (ls : Array Slot), Wo D A s.heap H locs (WX0 h E t_cells t_points t_fouls t_evening t_sights t_seenStep t_seenCell t_isKept t_touches t_cushions t_p_row t_p_column t_p_down t_p_right t_p_cushions n_cells n_points n_fouls n_evening n_sights n_seenStep n_seenCell n_isKept n_touches n_cushions n_p_row n_p_column n_p_down n_p_right n_p_cushions i_cells i_points i_fouls i_evening i_sights i_seenStep i_seenCell i_isKept i_touches i_cushions i_p_row i_p_column i_p_down i_p_right i_p_cushions j_cells j_points j_fouls j_evening j_sights j_seenStep j_seenCell j_isKept j_touches j_cushions j_p_row j_p_column j_p_down j_p_right j_p_cushions x_signs x_sign x_reason x_acts x_candourAt p_row p_column p_down p_right p_cushions x_met x_reached x_firstWay x_queue x_queued x_fitting x_byCell x_wins x_ways) → lv_has ls 9 [(0, .ref (h 0)), (1, .int v1), (2, .int v2), (3, .int v3), (4, .int v4), (5, .int v5), (6, .int v6), (7, .int v7)] → fX0_hint_L54 v1 v2 v3 v4 t_cells  n v5 v6 v7 p_row p_column p_down p_right p_cushions = some res → W p l e (rmN 3) s m args below meth c H locs 0 0 Q (F0 m 54 ls []) := by
    intro  n
    induction n with
    | zero =>
      intro v5 v6 v7 p_row p_column p_down p_right p_cushions H locs ls hw hl hf
      exact dk_n hf
    | succ n ih =>
      intro v5 v6 v7 p_row p_column p_down p_right p_cushions H locs ls hw hl hf
      refine lv_iload hx hb dX0_hint_54 (lv_at hl 7 rfl) ?_
      refine lv_bipush (v := 8) hx hb dX0_hint_56 rfl ?_
      refine lv_icmp_ge (tgt := 127) hx hb dX0_hint_58 rfl (fun c9 => ?_) (fun c9 => ?_)
      · have hf := dk_t c9 hf
        exact L127 v5 v6 p_row p_column p_down p_right p_cushions _ _ _ hw (lv_sub hl [4, 5, 6] rfl) hf
      · have hf := dk_f c9 hf
        refine lv_aload_n hx hb dX0_hint_61 rfl (lv_at hl 0 rfl) ?_
        refine gX0_this_table hC hw dX0_hint_62 ?_
        refine gX0_t_cells hC hw dX0_hint_65 ?_
        refine lv_iload_n hx hb dX0_hint_68 rfl (lv_at hl 1 rfl) ?_
        obtain ⟨b3, hf⟩ := dk_c hf
        refine aX0_t_cells hC hw b3 dX0_hint_69 ?_
        refine lv_if_lt (tgt := 127) hx hb dX0_hint_70 rfl (fun c8 => ?_) (fun c8 => ?_)
        · have hf := dk_t c8 hf
          exact L127 v5 v6 p_row p_column p_down p_right p_cushions _ _ _ hw (lv_sub hl [4, 5, 6] rfl) hf
        · have hf := dk_f c8 hf
          refine lv_aload_n hx hb dX0_hint_73 rfl (lv_at hl 0 rfl) ?_
          refine gX0_this_table hC hw dX0_hint_74 ?_
          refine gX0_t_cells hC hw dX0_hint_77 ?_
          refine lv_iload_n hx hb dX0_hint_80 rfl (lv_at hl 2 rfl) ?_
          obtain ⟨b4, hf⟩ := dk_c hf
          refine aX0_t_cells hC hw b4 dX0_hint_81 ?_
          refine lv_if_lt (tgt := 127) hx hb dX0_hint_82 rfl (fun c7 => ?_) (fun c7 => ?_)
          · have hf := dk_t c7 hf
            exact L127 v5 v6 p_row p_column p_down p_right p_cushions _ _ _ hw (lv_sub hl [4, 5, 6] rfl) hf
          · have hf := dk_f c7 hf
            refine lv_aload_n hx hb dX0_hint_85 rfl (lv_at hl 0 rfl) ?_
            refine lv_iload_n hx hb dX0_hint_86 rfl (lv_at hl 1 rfl) ?_
            refine lv_iload hx hb dX0_hint_87 (lv_at hl 7 rfl) ?_
            refine lv_iload_n hx hb dX0_hint_89 rfl (lv_at hl 2 rfl) ?_
            refine lv_iload_n hx hb dX0_hint_90 rfl (lv_at hl 3 rfl) ?_
            obtain ⟨z5, hz5, hf⟩ := dk_b hf
            refine callVI (rest := []) 0 _ 0 hC hw (sm1 _) (metX0_forceBy hz5) mi_X0_forceBy q326 (rm_ok (by decide) (by decide)) rfl rfl rfl hl.1 rfl (Nat.le_of_ble_eq_true rfl) dX0_hint_91 ⟨Nat.zero_le _, Nat.zero_le _⟩ (sm2 _ _) (fun H locs hw => ?_)
            refine lv_istore (lv' := [(8, .int z5.1), (0, .ref (h 0)), (1, .int v1), (2, .int v2), (3, .int v3), (4, .int v4), (5, .int v5), (6, .int v6), (7, .int v7)]) hx hb dX0_hint_94 hl (by decide) rfl (fun ls hl => ?_)
            refine lv_iload hx hb dX0_hint_96 (lv_at hl 0 rfl) ?_
            refine lv_iload hx hb dX0_hint_98 (lv_at hl 6 rfl) ?_
            refine lv_icmp_ge (tgt := 108) hx hb dX0_hint_100 rfl (fun c6 => ?_) (fun c6 => ?_)
            · have hf := dk_t c6 hf
              refine lv_iload hx hb dX0_hint_108 (lv_at hl 7 rfl) ?_
              refine lv_istore (lv' := [(6, .int v6), (8, .int z5.1), (0, .ref (h 0)), (1, .int v1), (2, .int v2), (3, .int v3), (4, .int v4), (5, .int v5), (7, .int v7)]) hx hb dX0_hint_110 hl (by decide) rfl (fun ls hl => ?_)
              refine lv_iload hx hb dX0_hint_112 (lv_at hl 7 rfl) ?_
              refine lv_iload hx hb dX0_hint_114 (lv_at hl 1 rfl) ?_
              refine va_mmin (rest := []) hx hb (hC.1.2.2.1.trans hl.1.symm) hown (hts _ q333) (hts _ q334) (hts _ q48) (hts _ q335) (by decide) (by decide) (Nat.zero_le _) (Nat.zero_le _) dX0_hint_116 ?_
              refine lv_istore (lv' := [(5, .int (if z5.1 < v5 then z5.1 else v5)), (6, .int v6), (8, .int z5.1), (0, .ref (h 0)), (1, .int v1), (2, .int v2), (3, .int v3), (4, .int v4), (7, .int v7)]) hx hb dX0_hint_119 hl (by decide) rfl (fun ls hl => ?_)
              refine lv_iinc (v := (v7 + 1)) (lv' := [(7, .int (v7 + 1)), (5, .int (if z5.1 < v5 then z5.1 else v5)), (6, .int v6), (8, .int z5.1), (0, .ref (h 0)), (1, .int v1), (2, .int v2), (3, .int v3), (4, .int v4)]) hx hb dX0_hint_121 hl (k := 8) rfl rfl (by decide) rfl (fun ls hl => ?_)
              refine lv_goto (tgt := 54) hx hb dX0_hint_124 rfl ?_
              exact ih (if z5.1 < v5 then z5.1 else v5) v6 (v7 + 1) z5.2.1 z5.2.2.1 z5.2.2.2.1 z5.2.2.2.2.1 z5.2.2.2.2.2 _ _ _ hw (lv_sub hl [4, 5, 6, 7, 8, 1, 2, 0] rfl) hf
            · have hf := dk_f c6 hf
              refine lv_iload hx hb dX0_hint_103 (lv_at hl 8 rfl) ?_
              refine lv_goto (tgt := 110) hx hb dX0_hint_105 rfl ?_
              refine lv_istore (lv' := [(6, .int v7), (8, .int z5.1), (0, .ref (h 0)), (1, .int v1), (2, .int v2), (3, .int v3), (4, .int v4), (5, .int v5), (7, .int v7)]) hx hb dX0_hint_110 hl (by decide) rfl (fun ls hl => ?_)
              refine lv_iload hx hb dX0_hint_112 (lv_at hl 7 rfl) ?_
              refine lv_iload hx hb dX0_hint_114 (lv_at hl 1 rfl) ?_
              refine va_mmin (rest := []) hx hb (hC.1.2.2.1.trans hl.1.symm) hown (hts _ q333) (hts _ q334) (hts _ q48) (hts _ q335) (by decide) (by decide) (Nat.zero_le _) (Nat.zero_le _) dX0_hint_116 ?_
              refine lv_istore (lv' := [(5, .int (if z5.1 < v5 then z5.1 else v5)), (6, .int v7), (8, .int z5.1), (0, .ref (h 0)), (1, .int v1), (2, .int v2), (3, .int v3), (4, .int v4), (7, .int v7)]) hx hb dX0_hint_119 hl (by decide) rfl (fun ls hl => ?_)
              refine lv_iinc (v := (v7 + 1)) (lv' := [(7, .int (v7 + 1)), (5, .int (if z5.1 < v5 then z5.1 else v5)), (6, .int v7), (8, .int z5.1), (0, .ref (h 0)), (1, .int v1), (2, .int v2), (3, .int v3), (4, .int v4)]) hx hb dX0_hint_121 hl (k := 8) rfl rfl (by decide) rfl (fun ls hl => ?_)
              refine lv_goto (tgt := 54) hx hb dX0_hint_124 rfl ?_
              exact ih (if z5.1 < v5 then z5.1 else v5) v7 (v7 + 1) z5.2.1 z5.2.2.1 z5.2.2.2.1 z5.2.2.2.2.1 z5.2.2.2.2.2 _ _ _ hw (lv_sub hl [4, 5, 6, 7, 8, 1, 2, 0] rfl) hf
  refine lv_iload_n hx hb dX0_hint_0 rfl (lv_at hl 1 rfl) ?_
  refine callSI (rest := []) 0 0 hC hw (st1 _) (metX0_isBall rfl) mi_X0_isBall q200 (rm_ok (by decide) (by decide)) rfl hl.1 rfl (Nat.le_of_ble_eq_true rfl) dX0_hint_1 ⟨Nat.zero_le _, Nat.zero_le _⟩ (st2 _) (fun H locs hw => ?_)
  refine lv_if_eq (tgt := 19) hx hb dX0_hint_4 rfl (fun c14 => ?_) (fun c14 => ?_)
  · have hf := dk_t c14 hf
    refine lv_iconst (v := (-1)) hx hb dX0_hint_19 rfl ?_
    obtain rfl := Option.some.inj hf
    exact ret _ _ _ _ _ dX0_hint_20 rfl rfl hw
  · have hf := dk_f c14 hf
    refine lv_iload_n hx hb dX0_hint_7 rfl (lv_at hl 2 rfl) ?_
    refine callSI (rest := []) 0 0 hC hw (st1 _) (metX0_isBall rfl) mi_X0_isBall q200 (rm_ok (by decide) (by decide)) rfl hl.1 rfl (Nat.le_of_ble_eq_true rfl) dX0_hint_8 ⟨Nat.zero_le _, Nat.zero_le _⟩ (st2 _) (fun H locs hw => ?_)
    refine lv_if_eq (tgt := 19) hx hb dX0_hint_11 rfl (fun c13 => ?_) (fun c13 => ?_)
    · have hf := dk_t c13 hf
      refine lv_iconst (v := (-1)) hx hb dX0_hint_19 rfl ?_
      obtain rfl := Option.some.inj hf
      exact ret _ _ _ _ _ dX0_hint_20 rfl rfl hw
    · have hf := dk_f c13 hf
      refine lv_iload_n hx hb dX0_hint_14 rfl (lv_at hl 1 rfl) ?_
      refine lv_iload_n hx hb dX0_hint_15 rfl (lv_at hl 2 rfl) ?_
      refine lv_icmp_ne (tgt := 21) hx hb dX0_hint_16 rfl (fun c12 => ?_) (fun c12 => ?_)
      · have hf := dk_f c12 hf
        refine lv_iload_n hx hb dX0_hint_21 rfl (lv_at hl 3 rfl) ?_
        refine lv_iconst (v := 0) hx hb dX0_hint_22 rfl ?_
        refine lv_iconst (v := 4) hx hb dX0_hint_23 rfl ?_
        refine callSI (rest := []) 0 0 hC hw (st1 _) (metX0_isIn rfl) mi_X0_isIn q203 (rm_ok (by decide) (by decide)) rfl hl.1 rfl (Nat.le_of_ble_eq_true rfl) dX0_hint_24 ⟨Nat.zero_le _, Nat.zero_le _⟩ (st2 _) (fun H locs hw => ?_)
        refine lv_if_eq (tgt := 40) hx hb dX0_hint_27 rfl (fun c11 => ?_) (fun c11 => ?_)
        · have hf := dk_t c11 hf
          refine lv_bipush (v := (-2)) hx hb dX0_hint_40 rfl ?_
          obtain rfl := Option.some.inj hf
          exact ret _ _ _ _ _ dX0_hint_42 rfl rfl hw
        · have hf := dk_f c11 hf
          refine lv_iload hx hb dX0_hint_30 (lv_at hl 4 rfl) ?_
          refine lv_iconst (v := 0) hx hb dX0_hint_32 rfl ?_
          refine lv_iconst (v := 1) hx hb dX0_hint_33 rfl ?_
          refine callSI (rest := []) 0 0 hC hw (st1 _) (metX0_isIn rfl) mi_X0_isIn q203 (rm_ok (by decide) (by decide)) rfl hl.1 rfl (Nat.le_of_ble_eq_true rfl) dX0_hint_34 ⟨Nat.zero_le _, Nat.zero_le _⟩ (st2 _) (fun H locs hw => ?_)
          refine lv_if_ne (tgt := 43) hx hb dX0_hint_37 rfl (fun c10 => ?_) (fun c10 => ?_)
          · have hf := dk_f c10 hf
            refine lv_ldc (v := 1000000) hx hb hown (hts _ q325) dX0_hint_43 ?_
            refine lv_istore (lv' := [(5, .int 1000000), (0, .ref (h 0)), (1, .int v1), (2, .int v2), (3, .int v3), (4, .int v4)]) hx hb dX0_hint_45 hl (by decide) rfl (fun ls hl => ?_)
            refine lv_bipush (v := (-6)) hx hb dX0_hint_47 rfl ?_
            refine lv_istore (lv' := [(6, .int (-6)), (5, .int 1000000), (0, .ref (h 0)), (1, .int v1), (2, .int v2), (3, .int v3), (4, .int v4)]) hx hb dX0_hint_49 hl (by decide) rfl (fun ls hl => ?_)
            refine lv_iconst (v := 0) hx hb dX0_hint_51 rfl ?_
            refine lv_istore (lv' := [(7, .int 0), (6, .int (-6)), (5, .int 1000000), (0, .ref (h 0)), (1, .int v1), (2, .int v2), (3, .int v3), (4, .int v4)]) hx hb dX0_hint_52 hl (by decide) rfl (fun ls hl => ?_)
            exact L54 FU 1000000 (-6) 0 p_row p_column p_down p_right p_cushions _ _ _ hw (lv_sub hl [3, 4, 5, 6, 7, 2, 1, 0] rfl) hf
          · have hf := dk_t c10 hf
            refine lv_bipush (v := (-2)) hx hb dX0_hint_40 rfl ?_
            obtain rfl := Option.some.inj hf
            exact ret _ _ _ _ _ dX0_hint_42 rfl rfl hw
      · have hf := dk_t c12 hf
        refine lv_iconst (v := (-1)) hx hb dX0_hint_19 rfl ?_
        obtain rfl := Option.some.inj hf
        exact ret _ _ _ _ _ dX0_hint_20 rfl rfl hw
set_option maxHeartbeats 4000000 in
set_option maxRecDepth 100000 in
theorem metX0_walkAlone {v1 : Int32} {v2 : Int32} {v3 : Int32} {res : Int32 × Int32 × Int32 × Int32 × Int32} (hf : fX0_walkAlone v1 v2 v3 p_row p_column p_down p_right p_cushions = some res) : CtV l yX0_walkAlone cX0_walkAlone 6 2 D E sz [.ref (h 0), .int v1, .int v2, .int v3] (WX0 h E t_cells t_points t_fouls t_evening t_sights t_seenStep t_seenCell t_isKept t_touches t_cushions t_p_row t_p_column t_p_down t_p_right t_p_cushions n_cells n_points n_fouls n_evening n_sights n_seenStep n_seenCell n_isKept n_touches n_cushions n_p_row n_p_column n_p_down n_p_right n_p_cushions i_cells i_points i_fouls i_evening i_sights i_seenStep i_seenCell i_isKept i_touches i_cushions i_p_row i_p_column i_p_down i_p_right i_p_cushions j_cells j_points j_fouls j_evening j_sights j_seenStep j_seenCell j_isKept j_touches j_cushions j_p_row j_p_column j_p_down j_p_right j_p_cushions x_signs x_sign x_reason x_acts x_candourAt p_row p_column p_down p_right p_cushions x_met x_reached x_firstWay x_queue x_queued x_fitting x_byCell x_wins x_ways) (WX0 h E t_cells t_points t_fouls t_evening t_sights t_seenStep t_seenCell t_isKept t_touches t_cushions t_p_row t_p_column t_p_down t_p_right t_p_cushions n_cells n_points n_fouls n_evening n_sights n_seenStep n_seenCell n_isKept n_touches n_cushions n_p_row n_p_column n_p_down n_p_right n_p_cushions i_cells i_points i_fouls i_evening i_sights i_seenStep i_seenCell i_isKept i_touches i_cushions i_p_row i_p_column i_p_down i_p_right i_p_cushions j_cells j_points j_fouls j_evening j_sights j_seenStep j_seenCell j_isKept j_touches j_cushions j_p_row j_p_column j_p_down j_p_right j_p_cushions x_signs x_sign x_reason x_acts x_candourAt res.1 res.2.1 res.2.2.1 res.2.2.2.1 res.2.2.2.2 x_met x_reached x_firstWay x_queue x_queued x_fitting x_byCell x_wins x_ways) := by
  refine startV (own := RX0) (by decide) rfl (Nat.le_of_ble_eq_true rfl) ?_
  intro p e s m args below meth c A Q ls hC ret hl hw
  have hx := hC.1.1
  have hb := hC.1.2.1
  have hown := hC.1.2.2.2.1
  have hts := hC.1.2.2.2.2
  have hl : lv_has ls 6 [(0, .ref (h 0)), (1, .int v1), (2, .int v2), (3, .int v3)] := hl
  have L31 : ∀ (n : Nat), ∀ (v4 : Int32) (v5 : Int32) (p_row : Int32) (p_column : Int32) (p_down : Int32) (p_right : Int32) (p_cushions : Int32) (H : Heap) (locs : List Loc) (ls : Array Slot), Wo D A s.heap H locs (WX0 h E t_cells t_points t_fouls t_evening t_sights t_seenStep t_seenCell t_isKept t_touches t_cushions t_p_row t_p_column t_p_down t_p_right t_p_cushions n_cells n_points n_fouls n_evening n_sights n_seenStep n_seenCell n_isKept n_touches n_cushions n_p_row n_p_column n_p_down n_p_right n_p_cushions i_cells i_points i_fouls i_evening i_sights i_seenStep i_seenCell i_isKept i_touches i_cushions i_p_row i_p_column i_p_down i_p_right i_p_cushions j_cells j_points j_fouls j_evening j_sights j_seenStep j_seenCell j_isKept j_touches j_cushions j_p_row j_p_column j_p_down j_p_right j_p_cushions x_signs x_sign x_reason x_acts x_candourAt p_row p_column p_down p_right p_cushions x_met x_reached x_firstWay x_queue x_queued x_fitting x_byCell x_wins x_ways) → lv_has ls 6 [(0, .ref (h 0)), (4, .int v4), (5, .int v5)] → fX0_walkAlone_L31 v1 v2 v3  n v4 v5 p_row p_column p_down p_right p_cushions = some res → W p l e (rmN 2) s m args below meth c H locs 0 0 Q (F0 m 31 ls []) := by
    intro  n
    induction n with
    | zero =>
      intro v4 v5 p_row p_column p_down p_right p_cushions H locs ls hw hl hf
      exact dk_n hf
    | succ n ih =>
      intro v4 v5 p_row p_column p_down p_right p_cushions H locs ls hw hl hf
      refine lv_iload hx hb dX0_walkAlone_31 (lv_at hl 2 rfl) ?_
      refine lv_iload hx hb dX0_walkAlone_33 (lv_at hl 1 rfl) ?_
      refine lv_icmp_ge (tgt := 59) hx hb dX0_walkAlone_35 rfl (fun c4 => ?_) (fun c4 => ?_)
      · have hf := dk_t c4 hf
        obtain rfl := Option.some.inj hf
        exact ret _ _ _ _ dX0_walkAlone_59 hw
      · have hf := dk_f c4 hf
        refine lv_aload_n hx hb dX0_walkAlone_38 rfl (lv_at hl 0 rfl) ?_
        refine gX0_this_path hC hw dX0_walkAlone_39 ?_
        obtain ⟨z2, hz2, hf⟩ := dk_b hf
        refine callVI (rest := []) 23 1 2 hC hw subX0_p (metX2_next hz2) mi_X2_next q331 (rm_ok (by decide) (by decide)) rfl rfl rfl hl.1 rfl (Nat.le_of_ble_eq_true rfl) dX0_walkAlone_42 ⟨Nat.zero_le _, Nat.zero_le _⟩ putX0_p (fun H locs hw => ?_)
        refine lv_pop hx hb dX0_walkAlone_45 rfl ?_
        refine lv_aload_n hx hb dX0_walkAlone_46 rfl (lv_at hl 0 rfl) ?_
        refine gX0_this_path hC hw dX0_walkAlone_47 ?_
        obtain ⟨z3, hz3, hf⟩ := dk_b hf
        refine callVV (rest := []) 23 1 2 hC hw subX0_p (metX2_go hz3) mi_X2_go q332 (rm_ok (by decide) (by decide)) rfl rfl rfl hl.1 rfl (Nat.le_of_ble_eq_true rfl) dX0_walkAlone_50 ⟨Nat.zero_le _, Nat.zero_le _⟩ putX0_p (fun H locs hw => ?_)
        refine lv_iinc (v := (v5 + 1)) (lv' := [(5, .int (v5 + 1)), (0, .ref (h 0)), (4, .int v4)]) hx hb dX0_walkAlone_53 hl (k := 2) rfl rfl (by decide) rfl (fun ls hl => ?_)
        refine lv_goto (tgt := 31) hx hb dX0_walkAlone_56 rfl ?_
        exact ih v4 (v5 + 1) z3.1 z3.2 z2.2.1 z2.2.2.1 z2.2.2.2 _ _ _ hw (lv_sub hl [1, 2, 0] rfl) hf
  refine lv_aload_n hx hb dX0_walkAlone_0 rfl (lv_at hl 0 rfl) ?_
  refine gX0_this_path hC hw dX0_walkAlone_1 ?_
  refine lv_iload_n hx hb dX0_walkAlone_4 rfl (lv_at hl 1 rfl) ?_
  refine lv_iload_n hx hb dX0_walkAlone_5 rfl (lv_at hl 2 rfl) ?_
  obtain ⟨z1, hz1, hf⟩ := dk_b hf
  refine callVV (rest := []) 23 1 2 hC hw subX0_p (metX2_send hz1) mi_X2_send q330 (rm_ok (by decide) (by decide)) rfl rfl rfl hl.1 rfl (Nat.le_of_ble_eq_true rfl) dX0_walkAlone_6 ⟨Nat.zero_le _, Nat.zero_le _⟩ putX0_p (fun H locs hw => ?_)
  refine lv_iload_n hx hb dX0_walkAlone_9 rfl (lv_at hl 3 rfl) ?_
  refine lv_bipush (v := 32) hx hb dX0_walkAlone_10 rfl ?_
  refine lv_icmp_le (tgt := 25) hx hb dX0_walkAlone_12 rfl (fun c5 => ?_) (fun c5 => ?_)
  · have hf := dk_t c5 hf
    refine lv_iload_n hx hb dX0_walkAlone_25 rfl (lv_at hl 3 rfl) ?_
    refine lv_istore (lv' := [(4, .int v3), (0, .ref (h 0)), (1, .int v1), (2, .int v2), (3, .int v3)]) hx hb dX0_walkAlone_26 hl (by decide) rfl (fun ls hl => ?_)
    refine lv_iconst (v := 0) hx hb dX0_walkAlone_28 rfl ?_
    refine lv_istore (lv' := [(5, .int 0), (4, .int v3), (0, .ref (h 0)), (1, .int v1), (2, .int v2), (3, .int v3)]) hx hb dX0_walkAlone_29 hl (by decide) rfl (fun ls hl => ?_)
    exact L31 FU v3 0 z1.1 z1.2.1 z1.2.2.1 z1.2.2.2.1 z1.2.2.2.2 _ _ _ hw (lv_sub hl [2, 1, 0] rfl) hf
  · have hf := dk_f c5 hf
    refine lv_bipush (v := 16) hx hb dX0_walkAlone_15 rfl ?_
    refine lv_iload_n hx hb dX0_walkAlone_17 rfl (lv_at hl 3 rfl) ?_
    refine lv_bipush (v := 16) hx hb dX0_walkAlone_18 rfl ?_
    refine lv_irem hx hb dX0_walkAlone_20 (by decide) ?_
    refine lv_iadd hx hb dX0_walkAlone_21 ?_
    refine lv_goto (tgt := 26) hx hb dX0_walkAlone_22 rfl ?_
    refine lv_istore (lv' := [(4, .int ((16 : Int32) + (v3 - v3 / 16 * 16))), (0, .ref (h 0)), (1, .int v1), (2, .int v2), (3, .int v3)]) hx hb dX0_walkAlone_26 hl (by decide) rfl (fun ls hl => ?_)
    refine lv_iconst (v := 0) hx hb dX0_walkAlone_28 rfl ?_
    refine lv_istore (lv' := [(5, .int 0), (4, .int ((16 : Int32) + (v3 - v3 / 16 * 16))), (0, .ref (h 0)), (1, .int v1), (2, .int v2), (3, .int v3)]) hx hb dX0_walkAlone_29 hl (by decide) rfl (fun ls hl => ?_)
    exact L31 FU ((16 : Int32) + (v3 - v3 / 16 * 16)) 0 z1.1 z1.2.1 z1.2.2.1 z1.2.2.2.1 z1.2.2.2.2 _ _ _ hw (lv_sub hl [2, 1, 0] rfl) hf
set_option maxHeartbeats 4000000 in
set_option maxRecDepth 100000 in
theorem metX0_alone {v1 : Int32} {v2 : Int32} {v3 : Int32} {v4 : Int32} {res : Int32 × Int32 × Int32 × Int32 × Int32 × Int32 × (Nat → Int32)} (hf : fX0_alone v1 v2 v3 v4 p_row p_column p_down p_right p_cushions x_met = some res) : CtI l yX0_alone cX0_alone 9 .int 3 D E sz [.ref (h 0), .int v1, .int v2, .int v3, .int v4] (WX0 h E t_cells t_points t_fouls t_evening t_sights t_seenStep t_seenCell t_isKept t_touches t_cushions t_p_row t_p_column t_p_down t_p_right t_p_cushions n_cells n_points n_fouls n_evening n_sights n_seenStep n_seenCell n_isKept n_touches n_cushions n_p_row n_p_column n_p_down n_p_right n_p_cushions i_cells i_points i_fouls i_evening i_sights i_seenStep i_seenCell i_isKept i_touches i_cushions i_p_row i_p_column i_p_down i_p_right i_p_cushions j_cells j_points j_fouls j_evening j_sights j_seenStep j_seenCell j_isKept j_touches j_cushions j_p_row j_p_column j_p_down j_p_right j_p_cushions x_signs x_sign x_reason x_acts x_candourAt p_row p_column p_down p_right p_cushions x_met x_reached x_firstWay x_queue x_queued x_fitting x_byCell x_wins x_ways) (WX0 h E t_cells t_points t_fouls t_evening t_sights t_seenStep t_seenCell t_isKept t_touches t_cushions t_p_row t_p_column t_p_down t_p_right t_p_cushions n_cells n_points n_fouls n_evening n_sights n_seenStep n_seenCell n_isKept n_touches n_cushions n_p_row n_p_column n_p_down n_p_right n_p_cushions i_cells i_points i_fouls i_evening i_sights i_seenStep i_seenCell i_isKept i_touches i_cushions i_p_row i_p_column i_p_down i_p_right i_p_cushions j_cells j_points j_fouls j_evening j_sights j_seenStep j_seenCell j_isKept j_touches j_cushions j_p_row j_p_column j_p_down j_p_right j_p_cushions x_signs x_sign x_reason x_acts x_candourAt res.2.1 res.2.2.1 res.2.2.2.1 res.2.2.2.2.1 res.2.2.2.2.2.1 res.2.2.2.2.2.2 x_reached x_firstWay x_queue x_queued x_fitting x_byCell x_wins x_ways) res.1 := by
  refine startI (own := RX0) (by decide) rfl (Nat.le_of_ble_eq_true rfl) ?_
  intro p e s m args below meth c A Q ls hC ret hl hw
  have hx := hC.1.1
  have hb := hC.1.2.1
  have hown := hC.1.2.2.2.1
  have hts := hC.1.2.2.2.2
  have hl : lv_has ls 9 [(0, .ref (h 0)), (1, .int v1), (2, .int v2), (3, .int v3), (4, .int v4)] := hl
  have L170 : ∀ (k89c : Int32 → Int32 → Int32 → Int32 → Int32 → Int32 → Int32 → Int32 → (Nat → Int32) → Option (Int32 × Int32 × Int32 × Int32 × Int32 × Int32 × (Nat → Int32))) (hk89 : ∀ (v5 : Int32) (v6 : Int32) (v7 : Int32) (p_row : Int32) (p_column : Int32) (p_down : Int32) (p_right : Int32) (p_cushions : Int32) (x_met : Nat → Int32) (H : Heap) (locs : List Loc) (ls : Array Slot), Wo D A s.heap H locs (WX0 h E t_cells t_points t_fouls t_evening t_sights t_seenStep t_seenCell t_isKept t_touches t_cushions t_p_row t_p_column t_p_down t_p_right t_p_cushions n_cells n_points n_fouls n_evening n_sights n_seenStep n_seenCell n_isKept n_touches n_cushions n_p_row n_p_column n_p_down n_p_right n_p_cushions i_cells i_points i_fouls i_evening i_sights i_seenStep i_seenCell i_isKept i_touches i_cushions i_p_row i_p_column i_p_down i_p_right i_p_cushions j_cells j_points j_fouls j_evening j_sights j_seenStep j_seenCell j_isKept j_touches j_cushions j_p_row j_p_column j_p_down j_p_right j_p_cushions x_signs x_sign x_reason x_acts x_candourAt p_row p_column p_down p_right p_cushions x_met x_reached x_firstWay x_queue x_queued x_fitting x_byCell x_wins x_ways) → lv_has ls 9 [(0, .ref (h 0)), (1, .int v1), (2, .int v2), (4, .int v4), (5, .int v5), (6, .int v6), (7, .int v7)] → k89c v5 v6 v7 p_row p_column p_down p_right p_cushions x_met = some res → W p l e (rmN 3) s m args below meth c H locs 0 0 Q (F0 m 89 ls [])) (v6 : Int32) (v7 : Int32) (k0 : Int32) (p_row : Int32) (p_column : Int32) (p_down : Int32) (p_right : Int32) (p_cushions : Int32) (x_met : Nat → Int32) (H : Heap) (locs : List Loc) (ls : Array Slot), Wo D A s.heap H locs (WX0 h E t_cells t_points t_fouls t_evening t_sights t_seenStep t_seenCell t_isKept t_touches t_cushions t_p_row t_p_column t_p_down t_p_right t_p_cushions n_cells n_points n_fouls n_evening n_sights n_seenStep n_seenCell n_isKept n_touches n_cushions n_p_row n_p_column n_p_down n_p_right n_p_cushions i_cells i_points i_fouls i_evening i_sights i_seenStep i_seenCell i_isKept i_touches i_cushions i_p_row i_p_column i_p_down i_p_right i_p_cushions j_cells j_points j_fouls j_evening j_sights j_seenStep j_seenCell j_isKept j_touches j_cushions j_p_row j_p_column j_p_down j_p_right j_p_cushions x_signs x_sign x_reason x_acts x_candourAt p_row p_column p_down p_right p_cushions x_met x_reached x_firstWay x_queue x_queued x_fitting x_byCell x_wins x_ways) → lv_has ls 9 [(0, .ref (h 0)), (1, .int v1), (2, .int v2), (4, .int v4), (6, .int v6), (7, .int v7)] → fX0_alone_L170 v1 v2 v3 v4 k89c v6 v7 k0 p_row p_column p_down p_right p_cushions x_met = some res → W p l e (rmN 3) s m args below meth c H locs 0 0 Q (F0 m 170 ls [.int k0]) := by
    intro k89c hk89 v6 v7 k0 p_row p_column p_down p_right p_cushions x_met H locs ls hw hl hf
    refine lv_istore (lv' := [(5, .int k0), (0, .ref (h 0)), (1, .int v1), (2, .int v2), (4, .int v4), (6, .int v6), (7, .int v7)]) hx hb dX0_alone_170 hl (by decide) rfl (fun ls hl => ?_)
    refine lv_aload_n hx hb dX0_alone_172 rfl (lv_at hl 1 rfl) ?_
    refine gX0_this_path hC hw dX0_alone_173 ?_
    obtain ⟨z7, hz7, hf⟩ := dk_b hf
    refine callVI (rest := []) 23 1 2 hC hw subX0_p (metX2_next hz7) mi_X2_next q331 (rm_ok (by decide) (by decide)) rfl rfl rfl hl.1 rfl (Nat.le_of_ble_eq_true rfl) dX0_alone_176 ⟨Nat.zero_le _, Nat.zero_le _⟩ putX0_p (fun H locs hw => ?_)
    refine lv_pop hx hb dX0_alone_179 rfl ?_
    refine lv_aload_n hx hb dX0_alone_180 rfl (lv_at hl 1 rfl) ?_
    refine gX0_this_path hC hw dX0_alone_181 ?_
    obtain ⟨z8, hz8, hf⟩ := dk_b hf
    refine callVV (rest := []) 23 1 2 hC hw subX0_p (metX2_go hz8) mi_X2_go q332 (rm_ok (by decide) (by decide)) rfl rfl rfl hl.1 rfl (Nat.le_of_ble_eq_true rfl) dX0_alone_184 ⟨Nat.zero_le _, Nat.zero_le _⟩ putX0_p (fun H locs hw => ?_)
    refine lv_iinc (v := (v7 + 1)) (lv' := [(7, .int (v7 + 1)), (5, .int k0), (0, .ref (h 0)), (1, .int v1), (2, .int v2), (4, .int v4), (6, .int v6)]) hx hb dX0_alone_187 hl (k := 6) rfl rfl (by decide) rfl (fun ls hl => ?_)
    refine lv_goto (tgt := 89) hx hb dX0_alone_190 rfl ?_
    exact hk89 k0 v6 (v7 + 1) z8.1 z8.2 z7.2.1 z7.2.2.1 z7.2.2.2 x_met _ _ _ hw (lv_sub hl [2, 3, 4, 5, 1, 6, 0] rfl) hf
  have L122 : ∀ (k89c : Int32 → Int32 → Int32 → Int32 → Int32 → Int32 → Int32 → Int32 → (Nat → Int32) → Option (Int32 × Int32 × Int32 × Int32 × Int32 × Int32 × (Nat → Int32))) (hk89 : ∀ (v5 : Int32) (v6 : Int32) (v7 : Int32) (p_row : Int32) (p_column : Int32) (p_down : Int32) (p_right : Int32) (p_cushions : Int32) (x_met : Nat → Int32) (H : Heap) (locs : List Loc) (ls : Array Slot), Wo D A s.heap H locs (WX0 h E t_cells t_points t_fouls t_evening t_sights t_seenStep t_seenCell t_isKept t_touches t_cushions t_p_row t_p_column t_p_down t_p_right t_p_cushions n_cells n_points n_fouls n_evening n_sights n_seenStep n_seenCell n_isKept n_touches n_cushions n_p_row n_p_column n_p_down n_p_right n_p_cushions i_cells i_points i_fouls i_evening i_sights i_seenStep i_seenCell i_isKept i_touches i_cushions i_p_row i_p_column i_p_down i_p_right i_p_cushions j_cells j_points j_fouls j_evening j_sights j_seenStep j_seenCell j_isKept j_touches j_cushions j_p_row j_p_column j_p_down j_p_right j_p_cushions x_signs x_sign x_reason x_acts x_candourAt p_row p_column p_down p_right p_cushions x_met x_reached x_firstWay x_queue x_queued x_fitting x_byCell x_wins x_ways) → lv_has ls 9 [(0, .ref (h 0)), (1, .int v1), (2, .int v2), (4, .int v4), (5, .int v5), (6, .int v6), (7, .int v7)] → k89c v5 v6 v7 p_row p_column p_down p_right p_cushions x_met = some res → W p l e (rmN 3) s m args below meth c H locs 0 0 Q (F0 m 89 ls [])) (v5 : Int32) (v7 : Int32) (v8 : Int32) (k0 : Int32) (k1 : Int32) (p_row : Int32) (p_column : Int32) (p_down : Int32) (p_right : Int32) (p_cushions : Int32) (x_met : Nat → Int32) (H : Heap) (locs : List Loc) (ls : Array Slot), Wo D A s.heap H locs (WX0 h E t_cells t_points t_fouls t_evening t_sights t_seenStep t_seenCell t_isKept t_touches t_cushions t_p_row t_p_column t_p_down t_p_right t_p_cushions n_cells n_points n_fouls n_evening n_sights n_seenStep n_seenCell n_isKept n_touches n_cushions n_p_row n_p_column n_p_down n_p_right n_p_cushions i_cells i_points i_fouls i_evening i_sights i_seenStep i_seenCell i_isKept i_touches i_cushions i_p_row i_p_column i_p_down i_p_right i_p_cushions j_cells j_points j_fouls j_evening j_sights j_seenStep j_seenCell j_isKept j_touches j_cushions j_p_row j_p_column j_p_down j_p_right j_p_cushions x_signs x_sign x_reason x_acts x_candourAt p_row p_column p_down p_right p_cushions x_met x_reached x_firstWay x_queue x_queued x_fitting x_byCell x_wins x_ways) → lv_has ls 9 [(0, .ref (h 0)), (1, .int v1), (2, .int v2), (4, .int v4), (5, .int v5), (7, .int v7), (8, .int v8)] → fX0_alone_L122 v1 v2 v3 v4 k89c v5 v7 v8 k0 k1 p_row p_column p_down p_right p_cushions x_met = some res → W p l e (rmN 3) s m args below meth c H locs 0 0 Q (F0 m 122 ls [.int k1, .int k0]) := by
    intro k89c hk89 v5 v7 v8 k0 k1 p_row p_column p_down p_right p_cushions x_met H locs ls hw hl hf
    refine callSI (rest := [.int k0]) 0 0 hC hw (st1 _) (metX0_asNumber rfl) mi_X0_asNumber q355 (rm_ok (by decide) (by decide)) rfl hl.1 rfl (Nat.le_of_ble_eq_true rfl) dX0_alone_122 ⟨Nat.zero_le _, Nat.zero_le _⟩ (st2 _) (fun H locs hw => ?_)
    refine lv_iadd hx hb dX0_alone_125 ?_
    refine lv_istore (lv' := [(6, .int (k0 + (fX0_asNumber k1))), (0, .ref (h 0)), (1, .int v1), (2, .int v2), (4, .int v4), (5, .int v5), (7, .int v7), (8, .int v8)]) hx hb dX0_alone_126 hl (by decide) rfl (fun ls hl => ?_)
    refine lv_aload_n hx hb dX0_alone_128 rfl (lv_at hl 1 rfl) ?_
    refine gX0_this_met hC hw dX0_alone_129 ?_
    refine lv_iload hx hb dX0_alone_132 (lv_at hl 7 rfl) ?_
    refine lv_iconst (v := 1) hx hb dX0_alone_134 rfl ?_
    obtain ⟨b6, hf⟩ := dk_c hf
    refine sX0_x_met hC hw b6 dX0_alone_135 (fun H locs hw => ?_)
    refine lv_iload hx hb dX0_alone_136 (lv_at hl 6 rfl) ?_
    refine lv_if_le (tgt := 168) hx hb dX0_alone_138 rfl (fun c13 => ?_) (fun c13 => ?_)
    · have hf := dk_t c13 hf
      refine lv_iload hx hb dX0_alone_168 (lv_at hl 5 rfl) ?_
      exact L170 k89c hk89 (k0 + (fX0_asNumber k1)) v7 v5 p_row p_column p_down p_right p_cushions (upd x_met v8.toNatClampNeg (vp_nar .boolean 1)) _ _ _ hw (lv_sub hl [1, 2, 3, 4, 0, 6] rfl) hf
    · have hf := dk_f c13 hf
      refine lv_iload hx hb dX0_alone_141 (lv_at hl 5 rfl) ?_
      refine lv_if_ge (tgt := 168) hx hb dX0_alone_143 rfl (fun c12 => ?_) (fun c12 => ?_)
      · have hf := dk_t c12 hf
        refine lv_iload hx hb dX0_alone_168 (lv_at hl 5 rfl) ?_
        exact L170 k89c hk89 (k0 + (fX0_asNumber k1)) v7 v5 p_row p_column p_down p_right p_cushions (upd x_met v8.toNatClampNeg (vp_nar .boolean 1)) _ _ _ hw (lv_sub hl [1, 2, 3, 4, 0, 6] rfl) hf
      · have hf := dk_f c12 hf
        refine lv_iload hx hb dX0_alone_146 (lv_at hl 7 rfl) ?_
        refine lv_iload_n hx hb dX0_alone_148 rfl (lv_at hl 2 rfl) ?_
        refine lv_icmp_ne (tgt := 168) hx hb dX0_alone_149 rfl (fun c11 => ?_) (fun c11 => ?_)
        · have hf := dk_f c11 hf
          refine lv_iload hx hb dX0_alone_168 (lv_at hl 5 rfl) ?_
          exact L170 k89c hk89 (k0 + (fX0_asNumber k1)) v7 v5 p_row p_column p_down p_right p_cushions (upd x_met v8.toNatClampNeg (vp_nar .boolean 1)) _ _ _ hw (lv_sub hl [1, 2, 3, 4, 0, 6] rfl) hf
        · have hf := dk_t c11 hf
          refine lv_aload_n hx hb dX0_alone_152 rfl (lv_at hl 1 rfl) ?_
          refine gX0_this_path hC hw dX0_alone_153 ?_
          obtain ⟨z9, hz9, hf⟩ := dk_b hf
          refine callVI (rest := []) 23 1 2 hC hw subX0_p (metX2_way hz9) mi_X2_way q356 (rm_ok (by decide) (by decide)) rfl rfl rfl hl.1 rfl (Nat.le_of_ble_eq_true rfl) dX0_alone_156 ⟨Nat.zero_le _, Nat.zero_le _⟩ putX0_p (fun H locs hw => ?_)
          refine lv_iload_n hx hb dX0_alone_159 rfl (lv_at hl 3 rfl) ?_
          refine lv_icmp_ne (tgt := 168) hx hb dX0_alone_160 rfl (fun c10 => ?_) (fun c10 => ?_)
          · have hf := dk_f c10 hf
            refine lv_iload hx hb dX0_alone_168 (lv_at hl 5 rfl) ?_
            exact L170 k89c hk89 (k0 + (fX0_asNumber k1)) v7 v5 p_row p_column p_down p_right p_cushions (upd x_met v8.toNatClampNeg (vp_nar .boolean 1)) _ _ _ hw (lv_sub hl [1, 2, 3, 4, 0, 6] rfl) hf
          · have hf := dk_t c10 hf
            refine lv_iload hx hb dX0_alone_163 (lv_at hl 6 rfl) ?_
            refine lv_goto (tgt := 170) hx hb dX0_alone_165 rfl ?_
            exact L170 k89c hk89 (k0 + (fX0_asNumber k1)) v7 v7 p_row p_column p_down p_right p_cushions (upd x_met v8.toNatClampNeg (vp_nar .boolean 1)) _ _ _ hw (lv_sub hl [1, 2, 3, 4, 0, 6] rfl) hf
  have L89 : ∀ (n : Nat), ∀ (v5 : Int32) (v6 : Int32) (v7 : Int32) (p_row : Int32) (p_column : Int32) (p_down : Int32) (p_right : Int32) (p_cushions : Int32) (x_met : Nat → Int32) (H : Heap) (locs : List Loc) (ls : Array Slot), Wo D A s.heap H locs (WX0 h E t_cells t_points t_fouls t_evening t_sights t_seenStep t_seenCell t_isKept t_touches t_cushions t_p_row t_p_column t_p_down t_p_right t_p_cushions n_cells n_points n_fouls n_evening n_sights n_seenStep n_seenCell n_isKept n_touches n_cushions n_p_row n_p_column n_p_down n_p_right n_p_cushions i_cells i_points i_fouls i_evening i_sights i_seenStep i_seenCell i_isKept i_touches i_cushions i_p_row i_p_column i_p_down i_p_right i_p_cushions j_cells j_points j_fouls j_evening j_sights j_seenStep j_seenCell j_isKept j_touches j_cushions j_p_row j_p_column j_p_down j_p_right j_p_cushions x_signs x_sign x_reason x_acts x_candourAt p_row p_column p_down p_right p_cushions x_met x_reached x_firstWay x_queue x_queued x_fitting x_byCell x_wins x_ways) → lv_has ls 9 [(0, .ref (h 0)), (1, .int v1), (2, .int v2), (4, .int v4), (5, .int v5), (6, .int v6), (7, .int v7)] → fX0_alone_L89 v1 v2 v3 v4  n v5 v6 v7 p_row p_column p_down p_right p_cushions x_met = some res → W p l e (rmN 3) s m args below meth c H locs 0 0 Q (F0 m 89 ls []) := by
    intro  n
    induction n with
    | zero =>
      intro v5 v6 v7 p_row p_column p_down p_right p_cushions x_met H locs ls hw hl hf
      exact dk_n hf
    | succ n ih =>
      intro v5 v6 v7 p_row p_column p_down p_right p_cushions x_met H locs ls hw hl hf
      refine lv_iload hx hb dX0_alone_89 (lv_at hl 6 rfl) ?_
      refine lv_bipush (v := 32) hx hb dX0_alone_91 rfl ?_
      refine lv_icmp_gt (tgt := 193) hx hb dX0_alone_93 rfl (fun c15 => ?_) (fun c15 => ?_)
      · have hf := dk_t c15 hf
        refine lv_iload hx hb dX0_alone_193 (lv_at hl 3 rfl) ?_
        refine lv_iconst (v := 1) hx hb dX0_alone_195 rfl ?_
        refine lv_icmp_ne (tgt := 204) hx hb dX0_alone_196 rfl (fun c3 => ?_) (fun c3 => ?_)
        · have hf := dk_f c3 hf
          refine lv_iload hx hb dX0_alone_204 (lv_at hl 5 rfl) ?_
          obtain rfl := Option.some.inj hf
          exact ret _ _ _ _ _ dX0_alone_206 rfl rfl hw
        · have hf := dk_t c3 hf
          refine lv_iload hx hb dX0_alone_199 (lv_at hl 4 rfl) ?_
          refine lv_goto (tgt := 206) hx hb dX0_alone_201 rfl ?_
          obtain rfl := Option.some.inj hf
          exact ret _ _ _ _ _ dX0_alone_206 rfl rfl hw
      · have hf := dk_f c15 hf
        refine lv_aload_n hx hb dX0_alone_96 rfl (lv_at hl 0 rfl) ?_
        refine gX0_this_path hC hw dX0_alone_97 ?_
        obtain ⟨z4, hz4, hf⟩ := dk_b hf
        refine callVI (rest := []) 23 1 2 hC hw subX0_p (metX2_cell hz4) mi_X2_cell q348 (rm_ok (by decide) (by decide)) rfl rfl rfl hl.1 rfl (Nat.le_of_ble_eq_true rfl) dX0_alone_100 ⟨Nat.zero_le _, Nat.zero_le _⟩ putX0_p (fun H locs hw => ?_)
        refine lv_istore (lv' := [(8, .int z4), (0, .ref (h 0)), (1, .int v1), (2, .int v2), (4, .int v4), (5, .int v5), (6, .int v6), (7, .int v7)]) hx hb dX0_alone_103 hl (by decide) rfl (fun ls hl => ?_)
        refine lv_iload hx hb dX0_alone_105 (lv_at hl 6 rfl) ?_
        refine lv_aload_n hx hb dX0_alone_107 rfl (lv_at hl 1 rfl) ?_
        refine gX0_this_met hC hw dX0_alone_108 ?_
        refine lv_iload hx hb dX0_alone_111 (lv_at hl 0 rfl) ?_
        obtain ⟨b5, hf⟩ := dk_c hf
        refine aX0_x_met hC hw b5 dX0_alone_113 ?_
        refine lv_if_ne (tgt := 121) hx hb dX0_alone_114 rfl (fun c14 => ?_) (fun c14 => ?_)
        · have hf := dk_f c14 hf
          refine lv_iconst (v := 0) hx hb dX0_alone_121 rfl ?_
          exact L122 (fun y0 y1 y2 y3 y4 y5 y6 y7 y8 => fX0_alone_L89 v1 v2 v3 v4 n y0 y1 y2 y3 y4 y5 y6 y7 y8) ih v5 v7 z4 v6 0 p_row p_column p_down p_right p_cushions x_met _ _ _ hw (lv_sub hl [1, 2, 3, 4, 5, 7, 0] rfl) hf
        · have hf := dk_t c14 hf
          refine lv_iconst (v := 1) hx hb dX0_alone_117 rfl ?_
          refine lv_goto (tgt := 122) hx hb dX0_alone_118 rfl ?_
          exact L122 (fun y0 y1 y2 y3 y4 y5 y6 y7 y8 => fX0_alone_L89 v1 v2 v3 v4 n y0 y1 y2 y3 y4 y5 y6 y7 y8) ih v5 v7 z4 v6 1 p_row p_column p_down p_right p_cushions x_met _ _ _ hw (lv_sub hl [1, 2, 3, 4, 5, 7, 0] rfl) hf
  refine lv_iload_n hx hb dX0_alone_0 rfl (lv_at hl 1 rfl) ?_
  refine callSI (rest := []) 0 0 hC hw (st1 _) (metX0_isOpen rfl) mi_X0_isOpen q340 (rm_ok (by decide) (by decide)) rfl hl.1 rfl (Nat.le_of_ble_eq_true rfl) dX0_alone_1 ⟨Nat.zero_le _, Nat.zero_le _⟩ (st2 _) (fun H locs hw => ?_)
  refine lv_if_ne (tgt := 9) hx hb dX0_alone_4 rfl (fun c22 => ?_) (fun c22 => ?_)
  · have hf := dk_f c22 hf
    refine lv_iload_n hx hb dX0_alone_9 rfl (lv_at hl 2 rfl) ?_
    refine lv_iconst (v := 0) hx hb dX0_alone_10 rfl ?_
    refine lv_bipush (v := 7) hx hb dX0_alone_11 rfl ?_
    refine callSI (rest := []) 0 0 hC hw (st1 _) (metX0_isIn rfl) mi_X0_isIn q203 (rm_ok (by decide) (by decide)) rfl hl.1 rfl (Nat.le_of_ble_eq_true rfl) dX0_alone_13 ⟨Nat.zero_le _, Nat.zero_le _⟩ (st2 _) (fun H locs hw => ?_)
    refine lv_if_eq (tgt := 39) hx hb dX0_alone_16 rfl (fun c21 => ?_) (fun c21 => ?_)
    · have hf := dk_t c21 hf
      refine lv_bipush (v := (-2)) hx hb dX0_alone_39 rfl ?_
      obtain rfl := Option.some.inj hf
      exact ret _ _ _ _ _ dX0_alone_41 rfl rfl hw
    · have hf := dk_f c21 hf
      refine lv_iload_n hx hb dX0_alone_19 rfl (lv_at hl 3 rfl) ?_
      refine lv_iconst (v := 0) hx hb dX0_alone_20 rfl ?_
      refine lv_ldc (v := 99999) hx hb hown (hts _ q343) dX0_alone_21 ?_
      refine callSI (rest := []) 0 0 hC hw (st1 _) (metX0_isIn rfl) mi_X0_isIn q203 (rm_ok (by decide) (by decide)) rfl hl.1 rfl (Nat.le_of_ble_eq_true rfl) dX0_alone_23 ⟨Nat.zero_le _, Nat.zero_le _⟩ (st2 _) (fun H locs hw => ?_)
      refine lv_if_eq (tgt := 39) hx hb dX0_alone_26 rfl (fun c20 => ?_) (fun c20 => ?_)
      · have hf := dk_t c20 hf
        refine lv_bipush (v := (-2)) hx hb dX0_alone_39 rfl ?_
        obtain rfl := Option.some.inj hf
        exact ret _ _ _ _ _ dX0_alone_41 rfl rfl hw
      · have hf := dk_f c20 hf
        refine lv_iload hx hb dX0_alone_29 (lv_at hl 4 rfl) ?_
        refine lv_iconst (v := 0) hx hb dX0_alone_31 rfl ?_
        refine lv_iconst (v := 2) hx hb dX0_alone_32 rfl ?_
        refine callSI (rest := []) 0 0 hC hw (st1 _) (metX0_isIn rfl) mi_X0_isIn q203 (rm_ok (by decide) (by decide)) rfl hl.1 rfl (Nat.le_of_ble_eq_true rfl) dX0_alone_33 ⟨Nat.zero_le _, Nat.zero_le _⟩ (st2 _) (fun H locs hw => ?_)
        refine lv_if_ne (tgt := 42) hx hb dX0_alone_36 rfl (fun c19 => ?_) (fun c19 => ?_)
        · have hf := dk_f c19 hf
          refine lv_iload hx hb dX0_alone_42 (lv_at hl 4 rfl) ?_
          refine lv_if_ne (tgt := 62) hx hb dX0_alone_44 rfl (fun c18 => ?_) (fun c18 => ?_)
          · have hf := dk_f c18 hf
            refine lv_aload_n hx hb dX0_alone_62 rfl (lv_at hl 0 rfl) ?_
            refine gX0_this_met hC hw dX0_alone_63 ?_
            refine lv_iconst (v := 0) hx hb dX0_alone_66 rfl ?_
            obtain ⟨z1, hz1, hf⟩ := dk_b hf
            refine callSV (rest := []) 24 1 hC hw subX0_x_met (metJ1_fill hz1) mi_J1_fill q352 (rm_ok (by decide) (by decide)) rfl hl.1 rfl (Nat.le_of_ble_eq_true rfl) dX0_alone_67 ⟨Nat.zero_le _, Nat.zero_le _⟩ putX0_x_met (fun H locs hw => ?_)
            refine lv_bipush (v := (-6)) hx hb dX0_alone_70 rfl ?_
            refine lv_istore (lv' := [(5, .int (-6)), (0, .ref (h 0)), (1, .int v1), (2, .int v2), (3, .int v3), (4, .int v4)]) hx hb dX0_alone_72 hl (by decide) rfl (fun ls hl => ?_)
            refine lv_iconst (v := 0) hx hb dX0_alone_74 rfl ?_
            refine lv_istore (lv' := [(6, .int 0), (5, .int (-6)), (0, .ref (h 0)), (1, .int v1), (2, .int v2), (3, .int v3), (4, .int v4)]) hx hb dX0_alone_75 hl (by decide) rfl (fun ls hl => ?_)
            refine lv_aload_n hx hb dX0_alone_77 rfl (lv_at hl 2 rfl) ?_
            refine gX0_this_path hC hw dX0_alone_78 ?_
            refine lv_iload_n hx hb dX0_alone_81 rfl (lv_at hl 3 rfl) ?_
            refine lv_iload_n hx hb dX0_alone_82 rfl (lv_at hl 4 rfl) ?_
            obtain ⟨z2, hz2, hf⟩ := dk_b hf
            refine callVV (rest := []) 23 1 2 hC hw subX0_p (metX2_send hz2) mi_X2_send q330 (rm_ok (by decide) (by decide)) rfl rfl rfl hl.1 rfl (Nat.le_of_ble_eq_true rfl) dX0_alone_83 ⟨Nat.zero_le _, Nat.zero_le _⟩ putX0_p (fun H locs hw => ?_)
            refine lv_iconst (v := 0) hx hb dX0_alone_86 rfl ?_
            refine lv_istore (lv' := [(7, .int 0), (6, .int 0), (5, .int (-6)), (0, .ref (h 0)), (1, .int v1), (2, .int v2), (3, .int v3), (4, .int v4)]) hx hb dX0_alone_87 hl (by decide) rfl (fun ls hl => ?_)
            exact L89 FU (-6) 0 0 z2.1 z2.2.1 z2.2.2.1 z2.2.2.2.1 z2.2.2.2.2 z1 _ _ _ hw (lv_sub hl [3, 4, 5, 7, 2, 1, 0] rfl) hf
          · have hf := dk_t c18 hf
            refine lv_aload_n hx hb dX0_alone_47 rfl (lv_at hl 0 rfl) ?_
            refine lv_iload_n hx hb dX0_alone_48 rfl (lv_at hl 1 rfl) ?_
            refine lv_iload_n hx hb dX0_alone_49 rfl (lv_at hl 2 rfl) ?_
            refine lv_iload_n hx hb dX0_alone_50 rfl (lv_at hl 3 rfl) ?_
            obtain ⟨z16, hz16, hf⟩ := dk_b hf
            refine callVV (rest := []) 0 _ 0 hC hw (sm1 _) (metX0_walkAlone hz16) mi_X0_walkAlone q344 (rm_ok (by decide) (by decide)) rfl rfl rfl hl.1 rfl (Nat.le_of_ble_eq_true rfl) dX0_alone_51 ⟨Nat.zero_le _, Nat.zero_le _⟩ (sm2 _ _) (fun H locs hw => ?_)
            refine lv_aload_n hx hb dX0_alone_54 rfl (lv_at hl 0 rfl) ?_
            refine gX0_this_path hC hw dX0_alone_55 ?_
            obtain ⟨z17, hz17, hf⟩ := dk_b hf
            refine callVI (rest := []) 23 1 2 hC hw subX0_p (metX2_cell hz17) mi_X2_cell q348 (rm_ok (by decide) (by decide)) rfl rfl rfl hl.1 rfl (Nat.le_of_ble_eq_true rfl) dX0_alone_58 ⟨Nat.zero_le _, Nat.zero_le _⟩ putX0_p (fun H locs hw => ?_)
            obtain rfl := Option.some.inj hf
            exact ret _ _ _ _ _ dX0_alone_61 rfl rfl hw
        · have hf := dk_t c19 hf
          refine lv_bipush (v := (-2)) hx hb dX0_alone_39 rfl ?_
          obtain rfl := Option.some.inj hf
          exact ret _ _ _ _ _ dX0_alone_41 rfl rfl hw
  · have hf := dk_t c22 hf
    refine lv_iconst (v := (-1)) hx hb dX0_alone_7 rfl ?_
    obtain rfl := Option.some.inj hf
    exact ret _ _ _ _ _ dX0_alone_8 rfl rfl hw
set_option maxHeartbeats 4000000 in
set_option maxRecDepth 100000 in
theorem metX0_reachFrom {v1 : Int32} {res : Int32 × Int32 × Int32 × Int32 × Int32 × (Nat → Int32) × (Nat → Int32) × (Nat → Int32) × Int32} (hf : fX0_reachFrom v1 p_row p_column p_down p_right p_cushions x_reached x_firstWay x_queue x_queued = some res) : CtV l yX0_reachFrom cX0_reachFrom 5 2 D E sz [.ref (h 0), .int v1] (WX0 h E t_cells t_points t_fouls t_evening t_sights t_seenStep t_seenCell t_isKept t_touches t_cushions t_p_row t_p_column t_p_down t_p_right t_p_cushions n_cells n_points n_fouls n_evening n_sights n_seenStep n_seenCell n_isKept n_touches n_cushions n_p_row n_p_column n_p_down n_p_right n_p_cushions i_cells i_points i_fouls i_evening i_sights i_seenStep i_seenCell i_isKept i_touches i_cushions i_p_row i_p_column i_p_down i_p_right i_p_cushions j_cells j_points j_fouls j_evening j_sights j_seenStep j_seenCell j_isKept j_touches j_cushions j_p_row j_p_column j_p_down j_p_right j_p_cushions x_signs x_sign x_reason x_acts x_candourAt p_row p_column p_down p_right p_cushions x_met x_reached x_firstWay x_queue x_queued x_fitting x_byCell x_wins x_ways) (WX0 h E t_cells t_points t_fouls t_evening t_sights t_seenStep t_seenCell t_isKept t_touches t_cushions t_p_row t_p_column t_p_down t_p_right t_p_cushions n_cells n_points n_fouls n_evening n_sights n_seenStep n_seenCell n_isKept n_touches n_cushions n_p_row n_p_column n_p_down n_p_right n_p_cushions i_cells i_points i_fouls i_evening i_sights i_seenStep i_seenCell i_isKept i_touches i_cushions i_p_row i_p_column i_p_down i_p_right i_p_cushions j_cells j_points j_fouls j_evening j_sights j_seenStep j_seenCell j_isKept j_touches j_cushions j_p_row j_p_column j_p_down j_p_right j_p_cushions x_signs x_sign x_reason x_acts x_candourAt res.1 res.2.1 res.2.2.1 res.2.2.2.1 res.2.2.2.2.1 x_met res.2.2.2.2.2.1 res.2.2.2.2.2.2.1 res.2.2.2.2.2.2.2.1 res.2.2.2.2.2.2.2.2 x_fitting x_byCell x_wins x_ways) := by
  refine startV (own := RX0) (by decide) rfl (Nat.le_of_ble_eq_true rfl) ?_
  intro p e s m args below meth c A Q ls hC ret hl hw
  have hx := hC.1.1
  have hb := hC.1.2.1
  have hown := hC.1.2.2.2.1
  have hts := hC.1.2.2.2.2
  have hl : lv_has ls 5 [(0, .ref (h 0)), (1, .int v1)] := hl
  have L102 : ∀ (k2c : Int32 → Int32 → Int32 → Int32 → Int32 → Int32 → (Nat → Int32) → (Nat → Int32) → (Nat → Int32) → Int32 → Option (Int32 × Int32 × Int32 × Int32 × Int32 × (Nat → Int32) × (Nat → Int32) × (Nat → Int32) × Int32)) (hk2 : ∀ (v2 : Int32) (p_row : Int32) (p_column : Int32) (p_down : Int32) (p_right : Int32) (p_cushions : Int32) (x_reached : Nat → Int32) (x_firstWay : Nat → Int32) (x_queue : Nat → Int32) (x_queued : Int32) (H : Heap) (locs : List Loc) (ls : Array Slot), Wo D A s.heap H locs (WX0 h E t_cells t_points t_fouls t_evening t_sights t_seenStep t_seenCell t_isKept t_touches t_cushions t_p_row t_p_column t_p_down t_p_right t_p_cushions n_cells n_points n_fouls n_evening n_sights n_seenStep n_seenCell n_isKept n_touches n_cushions n_p_row n_p_column n_p_down n_p_right n_p_cushions i_cells i_points i_fouls i_evening i_sights i_seenStep i_seenCell i_isKept i_touches i_cushions i_p_row i_p_column i_p_down i_p_right i_p_cushions j_cells j_points j_fouls j_evening j_sights j_seenStep j_seenCell j_isKept j_touches j_cushions j_p_row j_p_column j_p_down j_p_right j_p_cushions x_signs x_sign x_reason x_acts x_candourAt p_row p_column p_down p_right p_cushions x_met x_reached x_firstWay x_queue x_queued x_fitting x_byCell x_wins x_ways) → lv_has ls 5 [(0, .ref (h 0)), (1, .int v1), (2, .int v2)] → k2c v2 p_row p_column p_down p_right p_cushions x_reached x_firstWay x_queue x_queued = some res → W p l e (rmN 2) s m args below meth c H locs 0 0 Q (F0 m 2 ls [])) (k19c : Int32 → Int32 → Int32 → Int32 → Int32 → Int32 → Int32 → (Nat → Int32) → (Nat → Int32) → (Nat → Int32) → Int32 → Option (Int32 × Int32 × Int32 × Int32 × Int32 × (Nat → Int32) × (Nat → Int32) × (Nat → Int32) × Int32)) (hk19 : ∀ (v2 : Int32) (v3 : Int32) (p_row : Int32) (p_column : Int32) (p_down : Int32) (p_right : Int32) (p_cushions : Int32) (x_reached : Nat → Int32) (x_firstWay : Nat → Int32) (x_queue : Nat → Int32) (x_queued : Int32) (H : Heap) (locs : List Loc) (ls : Array Slot), Wo D A s.heap H locs (WX0 h E t_cells t_points t_fouls t_evening t_sights t_seenStep t_seenCell t_isKept t_touches t_cushions t_p_row t_p_column t_p_down t_p_right t_p_cushions n_cells n_points n_fouls n_evening n_sights n_seenStep n_seenCell n_isKept n_touches n_cushions n_p_row n_p_column n_p_down n_p_right n_p_cushions i_cells i_points i_fouls i_evening i_sights i_seenStep i_seenCell i_isKept i_touches i_cushions i_p_row i_p_column i_p_down i_p_right i_p_cushions j_cells j_points j_fouls j_evening j_sights j_seenStep j_seenCell j_isKept j_touches j_cushions j_p_row j_p_column j_p_down j_p_right j_p_cushions x_signs x_sign x_reason x_acts x_candourAt p_row p_column p_down p_right p_cushions x_met x_reached x_firstWay x_queue x_queued x_fitting x_byCell x_wins x_ways) → lv_has ls 5 [(0, .ref (h 0)), (1, .int v1), (2, .int v2), (3, .int v3)] → k19c v2 v3 p_row p_column p_down p_right p_cushions x_reached x_firstWay x_queue x_queued = some res → W p l e (rmN 2) s m args below meth c H locs 0 0 Q (F0 m 19 ls [])) (v2 : Int32) (v3 : Int32) (v4 : Int32) (k1 : Int32) (k2 : Int32) (p_row : Int32) (p_column : Int32) (p_down : Int32) (p_right : Int32) (p_cushions : Int32) (x_reached : Nat → Int32) (x_firstWay : Nat → Int32) (x_queue : Nat → Int32) (x_queued : Int32) (H : Heap) (locs : List Loc) (ls : Array Slot), Wo D A s.heap H locs (WX0 h E t_cells t_points t_fouls t_evening t_sights t_seenStep t_seenCell t_isKept t_touches t_cushions t_p_row t_p_column t_p_down t_p_right t_p_cushions n_cells n_points n_fouls n_evening n_sights n_seenStep n_seenCell n_isKept n_touches n_cushions n_p_row n_p_column n_p_down n_p_right n_p_cushions i_cells i_points i_fouls i_evening i_sights i_seenStep i_seenCell i_isKept i_touches i_cushions i_p_row i_p_column i_p_down i_p_right i_p_cushions j_cells j_points j_fouls j_evening j_sights j_seenStep j_seenCell j_isKept j_touches j_cushions j_p_row j_p_column j_p_down j_p_right j_p_cushions x_signs x_sign x_reason x_acts x_candourAt p_row p_column p_down p_right p_cushions x_met x_reached x_firstWay x_queue x_queued x_fitting x_byCell x_wins x_ways) → lv_has ls 5 [(0, .ref (h 0)), (1, .int v1), (2, .int v2), (3, .int v3), (4, .int v4)] → fX0_reachFrom_L102 v1 k2c k19c v2 v3 v4 k1 k2 p_row p_column p_down p_right p_cushions x_reached x_firstWay x_queue x_queued = some res → W p l e (rmN 2) s m args below meth c H locs 0 0 Q (F0 m 102 ls [.int k2, .int k1, .ref (h 26)]) := by
    intro k2c hk2 k19c hk19 v2 v3 v4 k1 k2 p_row p_column p_down p_right p_cushions x_reached x_firstWay x_queue x_queued H locs ls hw hl hf
    obtain ⟨b9, hf⟩ := dk_c hf
    refine sX0_x_firstWay hC hw b9 dX0_reachFrom_102 (fun H locs hw => ?_)
    refine lv_aload_n hx hb dX0_reachFrom_103 rfl (lv_at hl 0 rfl) ?_
    refine gX0_this_queue hC hw dX0_reachFrom_104 ?_
    refine lv_aload_n hx hb dX0_reachFrom_107 rfl (lv_at hl 0 rfl) ?_
    refine gX0_this_queued hC hw dX0_reachFrom_108 ?_
    refine lv_iload hx hb dX0_reachFrom_111 (lv_at hl 4 rfl) ?_
    obtain ⟨b10, hf⟩ := dk_c hf
    refine sX0_x_queue hC hw b10 dX0_reachFrom_113 (fun H locs hw => ?_)
    refine lv_aload_n hx hb dX0_reachFrom_114 rfl (lv_at hl 0 rfl) ?_
    refine lv_dup hx hb dX0_reachFrom_115 rfl ?_
    refine gX0_this_queued hC hw dX0_reachFrom_116 ?_
    refine lv_iconst (v := 1) hx hb dX0_reachFrom_119 rfl ?_
    refine lv_iadd hx hb dX0_reachFrom_120 ?_
    refine pX0_this_queued hC hw dX0_reachFrom_121 (fun H locs hw => ?_)
    refine lv_iinc (v := (v3 + 1)) (lv' := [(3, .int (v3 + 1)), (0, .ref (h 0)), (1, .int v1), (2, .int v2), (4, .int v4)]) hx hb dX0_reachFrom_124 hl (k := 3) rfl rfl (by decide) rfl (fun ls hl => ?_)
    refine lv_goto (tgt := 19) hx hb dX0_reachFrom_127 rfl ?_
    exact hk19 v2 (v3 + 1) p_row p_column p_down p_right p_cushions x_reached (upd x_firstWay k1.toNatClampNeg k2) (upd x_queue x_queued.toNatClampNeg v4) (x_queued + 1) _ _ _ hw (lv_sub hl [1, 2, 3, 0] rfl) hf
  have L19 : ∀ (k2c : Int32 → Int32 → Int32 → Int32 → Int32 → Int32 → (Nat → Int32) → (Nat → Int32) → (Nat → Int32) → Int32 → Option (Int32 × Int32 × Int32 × Int32 × Int32 × (Nat → Int32) × (Nat → Int32) × (Nat → Int32) × Int32)) (hk2 : ∀ (v2 : Int32) (p_row : Int32) (p_column : Int32) (p_down : Int32) (p_right : Int32) (p_cushions : Int32) (x_reached : Nat → Int32) (x_firstWay : Nat → Int32) (x_queue : Nat → Int32) (x_queued : Int32) (H : Heap) (locs : List Loc) (ls : Array Slot), Wo D A s.heap H locs (WX0 h E t_cells t_points t_fouls t_evening t_sights t_seenStep t_seenCell t_isKept t_touches t_cushions t_p_row t_p_column t_p_down t_p_right t_p_cushions n_cells n_points n_fouls n_evening n_sights n_seenStep n_seenCell n_isKept n_touches n_cushions n_p_row n_p_column n_p_down n_p_right n_p_cushions i_cells i_points i_fouls i_evening i_sights i_seenStep i_seenCell i_isKept i_touches i_cushions i_p_row i_p_column i_p_down i_p_right i_p_cushions j_cells j_points j_fouls j_evening j_sights j_seenStep j_seenCell j_isKept j_touches j_cushions j_p_row j_p_column j_p_down j_p_right j_p_cushions x_signs x_sign x_reason x_acts x_candourAt p_row p_column p_down p_right p_cushions x_met x_reached x_firstWay x_queue x_queued x_fitting x_byCell x_wins x_ways) → lv_has ls 5 [(0, .ref (h 0)), (1, .int v1), (2, .int v2)] → k2c v2 p_row p_column p_down p_right p_cushions x_reached x_firstWay x_queue x_queued = some res → W p l e (rmN 2) s m args below meth c H locs 0 0 Q (F0 m 2 ls [])) (n : Nat), ∀ (v2 : Int32) (v3 : Int32) (p_row : Int32) (p_column : Int32) (p_down : Int32) (p_right : Int32) (p_cushions : Int32) (x_reached : Nat → Int32) (x_firstWay : Nat → Int32) (x_queue : Nat → Int32) (x_queued : Int32) (H : Heap) (locs : List Loc) (ls : Array Slot), Wo D A s.heap H locs (WX0 h E t_cells t_points t_fouls t_evening t_sights t_seenStep t_seenCell t_isKept t_touches t_cushions t_p_row t_p_column t_p_down t_p_right t_p_cushions n_cells n_points n_fouls n_evening n_sights n_seenStep n_seenCell n_isKept n_touches n_cushions n_p_row n_p_column n_p_down n_p_right n_p_cushions i_cells i_points i_fouls i_evening i_sights i_seenStep i_seenCell i_isKept i_touches i_cushions i_p_row i_p_column i_p_down i_p_right i_p_cushions j_cells j_points j_fouls j_evening j_sights j_seenStep j_seenCell j_isKept j_touches j_cushions j_p_row j_p_column j_p_down j_p_right j_p_cushions x_signs x_sign x_reason x_acts x_candourAt p_row p_column p_down p_right p_cushions x_met x_reached x_firstWay x_queue x_queued x_fitting x_byCell x_wins x_ways) → lv_has ls 5 [(0, .ref (h 0)), (1, .int v1), (2, .int v2), (3, .int v3)] → fX0_reachFrom_L19 v1 k2c n v2 v3 p_row p_column p_down p_right p_cushions x_reached x_firstWay x_queue x_queued = some res → W p l e (rmN 2) s m args below meth c H locs 0 0 Q (F0 m 19 ls []) := by
    intro k2c hk2 n
    induction n with
    | zero =>
      intro v2 v3 p_row p_column p_down p_right p_cushions x_reached x_firstWay x_queue x_queued H locs ls hw hl hf
      exact dk_n hf
    | succ n ih =>
      intro v2 v3 p_row p_column p_down p_right p_cushions x_reached x_firstWay x_queue x_queued H locs ls hw hl hf
      refine lv_iload_n hx hb dX0_reachFrom_19 rfl (lv_at hl 3 rfl) ?_
      refine lv_bipush (v := 9) hx hb dX0_reachFrom_20 rfl ?_
      refine lv_icmp_gt (tgt := 130) hx hb dX0_reachFrom_22 rfl (fun c14 => ?_) (fun c14 => ?_)
      · have hf := dk_t c14 hf
        refine lv_iinc (v := (v2 + 1)) (lv' := [(2, .int (v2 + 1)), (0, .ref (h 0)), (1, .int v1), (3, .int v3)]) hx hb dX0_reachFrom_130 hl (k := 2) rfl rfl (by decide) rfl (fun ls hl => ?_)
        refine lv_goto (tgt := 2) hx hb dX0_reachFrom_133 rfl ?_
        exact hk2 (v2 + 1) p_row p_column p_down p_right p_cushions x_reached x_firstWay x_queue x_queued _ _ _ hw (lv_sub hl [1, 2, 0] rfl) hf
      · have hf := dk_f c14 hf
        refine lv_aload_n hx hb dX0_reachFrom_25 rfl (lv_at hl 0 rfl) ?_
        refine gX0_this_path hC hw dX0_reachFrom_26 ?_
        obtain ⟨z2, hz2, hf⟩ := dk_b hf
        refine callVI (rest := []) 23 1 2 hC hw subX0_p (metX2_next hz2) mi_X2_next q331 (rm_ok (by decide) (by decide)) rfl rfl rfl hl.1 rfl (Nat.le_of_ble_eq_true rfl) dX0_reachFrom_29 ⟨Nat.zero_le _, Nat.zero_le _⟩ putX0_p (fun H locs hw => ?_)
        refine lv_istore (lv' := [(4, .int z2.1), (0, .ref (h 0)), (1, .int v1), (2, .int v2), (3, .int v3)]) hx hb dX0_reachFrom_32 hl (by decide) rfl (fun ls hl => ?_)
        refine lv_iload hx hb dX0_reachFrom_34 (lv_at hl 0 rfl) ?_
        refine callSI (rest := []) 0 0 hC hw (st1 _) (metX0_isPocket rfl) mi_X0_isPocket q209 (rm_ok (by decide) (by decide)) rfl hl.1 rfl (Nat.le_of_ble_eq_true rfl) dX0_reachFrom_36 ⟨Nat.zero_le _, Nat.zero_le _⟩ (st2 _) (fun H locs hw => ?_)
        refine lv_if_eq (tgt := 45) hx hb dX0_reachFrom_39 rfl (fun c13 => ?_) (fun c13 => ?_)
        · have hf := dk_t c13 hf
          refine lv_aload_n hx hb dX0_reachFrom_45 rfl (lv_at hl 1 rfl) ?_
          refine gX0_this_path hC hw dX0_reachFrom_46 ?_
          obtain ⟨z3, hz3, hf⟩ := dk_b hf
          refine callVV (rest := []) 23 1 2 hC hw subX0_p (metX2_go hz3) mi_X2_go q332 (rm_ok (by decide) (by decide)) rfl rfl rfl hl.1 rfl (Nat.le_of_ble_eq_true rfl) dX0_reachFrom_49 ⟨Nat.zero_le _, Nat.zero_le _⟩ putX0_p (fun H locs hw => ?_)
          refine lv_aload_n hx hb dX0_reachFrom_52 rfl (lv_at hl 1 rfl) ?_
          refine gX0_this_reached hC hw dX0_reachFrom_53 ?_
          refine lv_iload hx hb dX0_reachFrom_56 (lv_at hl 0 rfl) ?_
          obtain ⟨b4, hf⟩ := dk_c hf
          refine aX0_x_reached hC hw b4 dX0_reachFrom_58 ?_
          refine lv_if_ge (tgt := 124) hx hb dX0_reachFrom_59 rfl (fun c12 => ?_) (fun c12 => ?_)
          · have hf := dk_t c12 hf
            refine lv_iinc (v := (v3 + 1)) (lv' := [(3, .int (v3 + 1)), (4, .int z2.1), (0, .ref (h 0)), (1, .int v1), (2, .int v2)]) hx hb dX0_reachFrom_124 hl (k := 4) rfl rfl (by decide) rfl (fun ls hl => ?_)
            refine lv_goto (tgt := 19) hx hb dX0_reachFrom_127 rfl ?_
            exact ih v2 (v3 + 1) z3.1 z3.2 z2.2.1 z2.2.2.1 z2.2.2.2 x_reached x_firstWay x_queue x_queued _ _ _ hw (lv_sub hl [2, 3, 4, 0] rfl) hf
          · have hf := dk_f c12 hf
            refine lv_aload_n hx hb dX0_reachFrom_62 rfl (lv_at hl 1 rfl) ?_
            refine gX0_this_reached hC hw dX0_reachFrom_63 ?_
            refine lv_iload hx hb dX0_reachFrom_66 (lv_at hl 0 rfl) ?_
            refine lv_aload_n hx hb dX0_reachFrom_68 rfl (lv_at hl 1 rfl) ?_
            refine gX0_this_reached hC hw dX0_reachFrom_69 ?_
            refine lv_iload_n hx hb dX0_reachFrom_72 rfl (lv_at hl 2 rfl) ?_
            obtain ⟨b5, hf⟩ := dk_c hf
            refine aX0_x_reached hC hw b5 dX0_reachFrom_73 ?_
            refine lv_iconst (v := 1) hx hb dX0_reachFrom_74 rfl ?_
            refine lv_iadd hx hb dX0_reachFrom_75 ?_
            obtain ⟨b6, hf⟩ := dk_c hf
            refine sX0_x_reached hC hw b6 dX0_reachFrom_76 (fun H locs hw => ?_)
            refine lv_aload_n hx hb dX0_reachFrom_77 rfl (lv_at hl 1 rfl) ?_
            refine gX0_this_firstWay hC hw dX0_reachFrom_78 ?_
            refine lv_iload hx hb dX0_reachFrom_81 (lv_at hl 0 rfl) ?_
            refine lv_aload_n hx hb dX0_reachFrom_83 rfl (lv_at hl 1 rfl) ?_
            refine gX0_this_reached hC hw dX0_reachFrom_84 ?_
            refine lv_iload_n hx hb dX0_reachFrom_87 rfl (lv_at hl 2 rfl) ?_
            obtain ⟨b7, hf⟩ := dk_c hf
            refine aX0_x_reached hC hw b7 dX0_reachFrom_88 ?_
            refine lv_if_ne (tgt := 96) hx hb dX0_reachFrom_89 rfl (fun c11 => ?_) (fun c11 => ?_)
            · have hf := dk_f c11 hf
              refine lv_aload_n hx hb dX0_reachFrom_96 rfl (lv_at hl 1 rfl) ?_
              refine gX0_this_firstWay hC hw dX0_reachFrom_97 ?_
              refine lv_iload_n hx hb dX0_reachFrom_100 rfl (lv_at hl 2 rfl) ?_
              obtain ⟨b8, hf⟩ := dk_c hf
              refine aX0_x_firstWay hC hw b8 dX0_reachFrom_101 ?_
              exact L102 k2c hk2 (fun y0 y1 y2 y3 y4 y5 y6 y7 y8 y9 y10 => fX0_reachFrom_L19 v1 k2c n y0 y1 y2 y3 y4 y5 y6 y7 y8 y9 y10) ih v2 v3 z2.1 z2.1 (x_firstWay v1.toNatClampNeg) z3.1 z3.2 z2.2.1 z2.2.2.1 z2.2.2.2 (upd x_reached z2.1.toNatClampNeg ((x_reached v1.toNatClampNeg) + 1)) x_firstWay x_queue x_queued _ _ _ hw (lv_sub hl [1, 2, 3, 4, 0] rfl) hf
            · have hf := dk_t c11 hf
              refine lv_iload_n hx hb dX0_reachFrom_92 rfl (lv_at hl 3 rfl) ?_
              refine lv_goto (tgt := 102) hx hb dX0_reachFrom_93 rfl ?_
              exact L102 k2c hk2 (fun y0 y1 y2 y3 y4 y5 y6 y7 y8 y9 y10 => fX0_reachFrom_L19 v1 k2c n y0 y1 y2 y3 y4 y5 y6 y7 y8 y9 y10) ih v2 v3 z2.1 z2.1 v2 z3.1 z3.2 z2.2.1 z2.2.2.1 z2.2.2.2 (upd x_reached z2.1.toNatClampNeg ((x_reached v1.toNatClampNeg) + 1)) x_firstWay x_queue x_queued _ _ _ hw (lv_sub hl [1, 2, 3, 4, 0] rfl) hf
        · have hf := dk_f c13 hf
          refine lv_goto (tgt := 130) hx hb dX0_reachFrom_42 rfl ?_
          refine lv_iinc (v := (v2 + 1)) (lv' := [(2, .int (v2 + 1)), (4, .int z2.1), (0, .ref (h 0)), (1, .int v1), (3, .int v3)]) hx hb dX0_reachFrom_130 hl (k := 3) rfl rfl (by decide) rfl (fun ls hl => ?_)
          refine lv_goto (tgt := 2) hx hb dX0_reachFrom_133 rfl ?_
          exact hk2 (v2 + 1) p_row p_column z2.2.1 z2.2.2.1 z2.2.2.2 x_reached x_firstWay x_queue x_queued _ _ _ hw (lv_sub hl [2, 3, 0] rfl) hf
  have L2 : ∀ (n : Nat), ∀ (v2 : Int32) (p_row : Int32) (p_column : Int32) (p_down : Int32) (p_right : Int32) (p_cushions : Int32) (x_reached : Nat → Int32) (x_firstWay : Nat → Int32) (x_queue : Nat → Int32) (x_queued : Int32) (H : Heap) (locs : List Loc) (ls : Array Slot), Wo D A s.heap H locs (WX0 h E t_cells t_points t_fouls t_evening t_sights t_seenStep t_seenCell t_isKept t_touches t_cushions t_p_row t_p_column t_p_down t_p_right t_p_cushions n_cells n_points n_fouls n_evening n_sights n_seenStep n_seenCell n_isKept n_touches n_cushions n_p_row n_p_column n_p_down n_p_right n_p_cushions i_cells i_points i_fouls i_evening i_sights i_seenStep i_seenCell i_isKept i_touches i_cushions i_p_row i_p_column i_p_down i_p_right i_p_cushions j_cells j_points j_fouls j_evening j_sights j_seenStep j_seenCell j_isKept j_touches j_cushions j_p_row j_p_column j_p_down j_p_right j_p_cushions x_signs x_sign x_reason x_acts x_candourAt p_row p_column p_down p_right p_cushions x_met x_reached x_firstWay x_queue x_queued x_fitting x_byCell x_wins x_ways) → lv_has ls 5 [(0, .ref (h 0)), (1, .int v1), (2, .int v2)] → fX0_reachFrom_L2 v1  n v2 p_row p_column p_down p_right p_cushions x_reached x_firstWay x_queue x_queued = some res → W p l e (rmN 2) s m args below meth c H locs 0 0 Q (F0 m 2 ls []) := by
    intro  n
    induction n with
    | zero =>
      intro v2 p_row p_column p_down p_right p_cushions x_reached x_firstWay x_queue x_queued H locs ls hw hl hf
      exact dk_n hf
    | succ n ih =>
      intro v2 p_row p_column p_down p_right p_cushions x_reached x_firstWay x_queue x_queued H locs ls hw hl hf
      refine lv_iload_n hx hb dX0_reachFrom_2 rfl (lv_at hl 2 rfl) ?_
      refine lv_bipush (v := 8) hx hb dX0_reachFrom_3 rfl ?_
      refine lv_icmp_ge (tgt := 136) hx hb dX0_reachFrom_5 rfl (fun c15 => ?_) (fun c15 => ?_)
      · have hf := dk_t c15 hf
        obtain rfl := Option.some.inj hf
        exact ret _ _ _ _ dX0_reachFrom_136 hw
      · have hf := dk_f c15 hf
        refine lv_aload_n hx hb dX0_reachFrom_8 rfl (lv_at hl 0 rfl) ?_
        refine gX0_this_path hC hw dX0_reachFrom_9 ?_
        refine lv_iload_n hx hb dX0_reachFrom_12 rfl (lv_at hl 1 rfl) ?_
        refine lv_iload_n hx hb dX0_reachFrom_13 rfl (lv_at hl 2 rfl) ?_
        obtain ⟨z1, hz1, hf⟩ := dk_b hf
        refine callVV (rest := []) 23 1 2 hC hw subX0_p (metX2_send hz1) mi_X2_send q330 (rm_ok (by decide) (by decide)) rfl rfl rfl hl.1 rfl (Nat.le_of_ble_eq_true rfl) dX0_reachFrom_14 ⟨Nat.zero_le _, Nat.zero_le _⟩ putX0_p (fun H locs hw => ?_)
        refine lv_iconst (v := 1) hx hb dX0_reachFrom_17 rfl ?_
        refine lv_istore_n (lv' := [(3, .int 1), (0, .ref (h 0)), (1, .int v1), (2, .int v2)]) hx hb dX0_reachFrom_18 rfl hl (by decide) rfl (fun ls hl => ?_)
        exact L19 (fun y0 y1 y2 y3 y4 y5 y6 y7 y8 y9 => fX0_reachFrom_L2 v1 n y0 y1 y2 y3 y4 y5 y6 y7 y8 y9) ih FU v2 1 z1.1 z1.2.1 z1.2.2.1 z1.2.2.2.1 z1.2.2.2.2 x_reached x_firstWay x_queue x_queued _ _ _ hw (lv_sub hl [1, 2, 3, 0] rfl) hf
  refine lv_iconst (v := 0) hx hb dX0_reachFrom_0 rfl ?_
  refine lv_istore_n (lv' := [(2, .int 0), (0, .ref (h 0)), (1, .int v1)]) hx hb dX0_reachFrom_1 rfl hl (by decide) rfl (fun ls hl => ?_)
  exact L2 FU 0 p_row p_column p_down p_right p_cushions x_reached x_firstWay x_queue x_queued _ _ _ hw (lv_sub hl [1, 2, 0] rfl) hf
set_option maxHeartbeats 4000000 in
set_option maxRecDepth 100000 in
theorem metX0_strokes {v1 : Int32} {v2 : Int32} {v3 : Int32} {res : Int32 × Int32 × Int32 × Int32 × Int32 × Int32 × (Nat → Int32) × (Nat → Int32) × (Nat → Int32) × Int32} (hf : fX0_strokes v1 v2 v3 p_row p_column p_down p_right p_cushions x_reached x_firstWay x_queue x_queued = some res) : CtI l yX0_strokes cX0_strokes 5 .int 3 D E sz [.ref (h 0), .int v1, .int v2, .int v3] (WX0 h E t_cells t_points t_fouls t_evening t_sights t_seenStep t_seenCell t_isKept t_touches t_cushions t_p_row t_p_column t_p_down t_p_right t_p_cushions n_cells n_points n_fouls n_evening n_sights n_seenStep n_seenCell n_isKept n_touches n_cushions n_p_row n_p_column n_p_down n_p_right n_p_cushions i_cells i_points i_fouls i_evening i_sights i_seenStep i_seenCell i_isKept i_touches i_cushions i_p_row i_p_column i_p_down i_p_right i_p_cushions j_cells j_points j_fouls j_evening j_sights j_seenStep j_seenCell j_isKept j_touches j_cushions j_p_row j_p_column j_p_down j_p_right j_p_cushions x_signs x_sign x_reason x_acts x_candourAt p_row p_column p_down p_right p_cushions x_met x_reached x_firstWay x_queue x_queued x_fitting x_byCell x_wins x_ways) (WX0 h E t_cells t_points t_fouls t_evening t_sights t_seenStep t_seenCell t_isKept t_touches t_cushions t_p_row t_p_column t_p_down t_p_right t_p_cushions n_cells n_points n_fouls n_evening n_sights n_seenStep n_seenCell n_isKept n_touches n_cushions n_p_row n_p_column n_p_down n_p_right n_p_cushions i_cells i_points i_fouls i_evening i_sights i_seenStep i_seenCell i_isKept i_touches i_cushions i_p_row i_p_column i_p_down i_p_right i_p_cushions j_cells j_points j_fouls j_evening j_sights j_seenStep j_seenCell j_isKept j_touches j_cushions j_p_row j_p_column j_p_down j_p_right j_p_cushions x_signs x_sign x_reason x_acts x_candourAt res.2.1 res.2.2.1 res.2.2.2.1 res.2.2.2.2.1 res.2.2.2.2.2.1 x_met res.2.2.2.2.2.2.1 res.2.2.2.2.2.2.2.1 res.2.2.2.2.2.2.2.2.1 res.2.2.2.2.2.2.2.2.2 x_fitting x_byCell x_wins x_ways) res.1 := by
  refine startI (own := RX0) (by decide) rfl (Nat.le_of_ble_eq_true rfl) ?_
  intro p e s m args below meth c A Q ls hC ret hl hw
  have hx := hC.1.1
  have hb := hC.1.2.1
  have hown := hC.1.2.2.2.1
  have hts := hC.1.2.2.2.2
  have hl : lv_has ls 5 [(0, .ref (h 0)), (1, .int v1), (2, .int v2), (3, .int v3)] := hl
  have L67 : ∀ (n : Nat), ∀ (v4 : Int32) (p_row : Int32) (p_column : Int32) (p_down : Int32) (p_right : Int32) (p_cushions : Int32) (x_reached : Nat → Int32) (x_firstWay : Nat → Int32) (x_queue : Nat → Int32) (x_queued : Int32) (H : Heap) (locs : List Loc) (ls : Array Slot), Wo D A s.heap H locs (WX0 h E t_cells t_points t_fouls t_evening t_sights t_seenStep t_seenCell t_isKept t_touches t_cushions t_p_row t_p_column t_p_down t_p_right t_p_cushions n_cells n_points n_fouls n_evening n_sights n_seenStep n_seenCell n_isKept n_touches n_cushions n_p_row n_p_column n_p_down n_p_right n_p_cushions i_cells i_points i_fouls i_evening i_sights i_seenStep i_seenCell i_isKept i_touches i_cushions i_p_row i_p_column i_p_down i_p_right i_p_cushions j_cells j_points j_fouls j_evening j_sights j_seenStep j_seenCell j_isKept j_touches j_cushions j_p_row j_p_column j_p_down j_p_right j_p_cushions x_signs x_sign x_reason x_acts x_candourAt p_row p_column p_down p_right p_cushions x_met x_reached x_firstWay x_queue x_queued x_fitting x_byCell x_wins x_ways) → lv_has ls 5 [(0, .ref (h 0)), (2, .int v2), (3, .int v3), (4, .int v4)] → fX0_strokes_L67 v1 v2 v3  n v4 p_row p_column p_down p_right p_cushions x_reached x_firstWay x_queue x_queued = some res → W p l e (rmN 3) s m args below meth c H locs 0 0 Q (F0 m 67 ls []) := by
    intro  n
    induction n with
    | zero =>
      intro v4 p_row p_column p_down p_right p_cushions x_reached x_firstWay x_queue x_queued H locs ls hw hl hf
      exact dk_n hf
    | succ n ih =>
      intro v4 p_row p_column p_down p_right p_cushions x_reached x_firstWay x_queue x_queued H locs ls hw hl hf
      refine lv_iload hx hb dX0_strokes_67 (lv_at hl 3 rfl) ?_
      refine lv_aload_n hx hb dX0_strokes_69 rfl (lv_at hl 0 rfl) ?_
      refine gX0_this_queued hC hw dX0_strokes_70 ?_
      refine lv_icmp_ge (tgt := 93) hx hb dX0_strokes_73 rfl (fun c12 => ?_) (fun c12 => ?_)
      · have hf := dk_t c12 hf
        refine lv_aload_n hx hb dX0_strokes_93 rfl (lv_at hl 0 rfl) ?_
        refine gX0_this_reached hC hw dX0_strokes_94 ?_
        refine lv_iload_n hx hb dX0_strokes_97 rfl (lv_at hl 1 rfl) ?_
        obtain ⟨b5, hf⟩ := dk_c hf
        refine aX0_x_reached hC hw b5 dX0_strokes_98 ?_
        refine lv_if_ge (tgt := 107) hx hb dX0_strokes_99 rfl (fun c9 => ?_) (fun c9 => ?_)
        · have hf := dk_t c9 hf
          refine lv_iload_n hx hb dX0_strokes_107 rfl (lv_at hl 2 rfl) ?_
          refine lv_if_ne (tgt := 120) hx hb dX0_strokes_108 rfl (fun c8 => ?_) (fun c8 => ?_)
          · have hf := dk_f c8 hf
            refine lv_aload_n hx hb dX0_strokes_120 rfl (lv_at hl 0 rfl) ?_
            refine gX0_this_firstWay hC hw dX0_strokes_121 ?_
            refine lv_iload_n hx hb dX0_strokes_124 rfl (lv_at hl 1 rfl) ?_
            obtain ⟨b6, hf⟩ := dk_c hf
            refine aX0_x_firstWay hC hw b6 dX0_strokes_125 ?_
            obtain rfl := Option.some.inj hf
            exact ret _ _ _ _ _ dX0_strokes_126 rfl rfl hw
          · have hf := dk_t c8 hf
            refine lv_aload_n hx hb dX0_strokes_111 rfl (lv_at hl 0 rfl) ?_
            refine gX0_this_reached hC hw dX0_strokes_112 ?_
            refine lv_iload_n hx hb dX0_strokes_115 rfl (lv_at hl 1 rfl) ?_
            obtain ⟨b7, hf⟩ := dk_c hf
            refine aX0_x_reached hC hw b7 dX0_strokes_116 ?_
            refine lv_goto (tgt := 126) hx hb dX0_strokes_117 rfl ?_
            obtain rfl := Option.some.inj hf
            exact ret _ _ _ _ _ dX0_strokes_126 rfl rfl hw
        · have hf := dk_f c9 hf
          refine lv_bipush (v := (-6)) hx hb dX0_strokes_102 rfl ?_
          refine lv_goto (tgt := 126) hx hb dX0_strokes_104 rfl ?_
          obtain rfl := Option.some.inj hf
          exact ret _ _ _ _ _ dX0_strokes_126 rfl rfl hw
      · have hf := dk_f c12 hf
        refine lv_aload_n hx hb dX0_strokes_76 rfl (lv_at hl 0 rfl) ?_
        refine lv_aload_n hx hb dX0_strokes_77 rfl (lv_at hl 0 rfl) ?_
        refine gX0_this_queue hC hw dX0_strokes_78 ?_
        refine lv_iload hx hb dX0_strokes_81 (lv_at hl 3 rfl) ?_
        obtain ⟨b10, hf⟩ := dk_c hf
        refine aX0_x_queue hC hw b10 dX0_strokes_83 ?_
        obtain ⟨z11, hz11, hf⟩ := dk_b hf
        refine callVV (rest := []) 0 _ 0 hC hw (sm1 _) (metX0_reachFrom hz11) mi_X0_reachFrom q367 (rm_ok (by decide) (by decide)) rfl rfl rfl hl.1 rfl (Nat.le_of_ble_eq_true rfl) dX0_strokes_84 ⟨Nat.zero_le _, Nat.zero_le _⟩ (sm2 _ _) (fun H locs hw => ?_)
        refine lv_iinc (v := (v4 + 1)) (lv' := [(4, .int (v4 + 1)), (0, .ref (h 0)), (2, .int v2), (3, .int v3)]) hx hb dX0_strokes_87 hl (k := 3) rfl rfl (by decide) rfl (fun ls hl => ?_)
        refine lv_goto (tgt := 67) hx hb dX0_strokes_90 rfl ?_
        exact ih (v4 + 1) z11.1 z11.2.1 z11.2.2.1 z11.2.2.2.1 z11.2.2.2.2.1 z11.2.2.2.2.2.1 z11.2.2.2.2.2.2.1 z11.2.2.2.2.2.2.2.1 z11.2.2.2.2.2.2.2.2 _ _ _ hw (lv_sub hl [1, 2, 3, 0] rfl) hf
  refine lv_iload_n hx hb dX0_strokes_0 rfl (lv_at hl 1 rfl) ?_
  refine callSI (rest := []) 0 0 hC hw (st1 _) (metX0_isOpen rfl) mi_X0_isOpen q340 (rm_ok (by decide) (by decide)) rfl hl.1 rfl (Nat.le_of_ble_eq_true rfl) dX0_strokes_1 ⟨Nat.zero_le _, Nat.zero_le _⟩ (st2 _) (fun H locs hw => ?_)
  refine lv_if_eq (tgt := 14) hx hb dX0_strokes_4 rfl (fun c15 => ?_) (fun c15 => ?_)
  · have hf := dk_t c15 hf
    refine lv_iconst (v := (-1)) hx hb dX0_strokes_14 rfl ?_
    obtain rfl := Option.some.inj hf
    exact ret _ _ _ _ _ dX0_strokes_15 rfl rfl hw
  · have hf := dk_f c15 hf
    refine lv_iload_n hx hb dX0_strokes_7 rfl (lv_at hl 2 rfl) ?_
    refine callSI (rest := []) 0 0 hC hw (st1 _) (metX0_isOpen rfl) mi_X0_isOpen q340 (rm_ok (by decide) (by decide)) rfl hl.1 rfl (Nat.le_of_ble_eq_true rfl) dX0_strokes_8 ⟨Nat.zero_le _, Nat.zero_le _⟩ (st2 _) (fun H locs hw => ?_)
    refine lv_if_ne (tgt := 16) hx hb dX0_strokes_11 rfl (fun c14 => ?_) (fun c14 => ?_)
    · have hf := dk_f c14 hf
      refine lv_iload_n hx hb dX0_strokes_16 rfl (lv_at hl 3 rfl) ?_
      refine lv_iconst (v := 0) hx hb dX0_strokes_17 rfl ?_
      refine lv_iconst (v := 1) hx hb dX0_strokes_18 rfl ?_
      refine callSI (rest := []) 0 0 hC hw (st1 _) (metX0_isIn rfl) mi_X0_isIn q203 (rm_ok (by decide) (by decide)) rfl hl.1 rfl (Nat.le_of_ble_eq_true rfl) dX0_strokes_19 ⟨Nat.zero_le _, Nat.zero_le _⟩ (st2 _) (fun H locs hw => ?_)
      refine lv_if_ne (tgt := 28) hx hb dX0_strokes_22 rfl (fun c13 => ?_) (fun c13 => ?_)
      · have hf := dk_f c13 hf
        refine lv_aload_n hx hb dX0_strokes_28 rfl (lv_at hl 0 rfl) ?_
        refine gX0_this_reached hC hw dX0_strokes_29 ?_
        refine lv_bipush (v := (-6)) hx hb dX0_strokes_32 rfl ?_
        obtain ⟨z1, hz1, hf⟩ := dk_b hf
        refine callSV (rest := []) 25 1 hC hw subX0_x_reached (metJ1_fill_2 hz1) mi_J1_fill_2 q364 (rm_ok (by decide) (by decide)) rfl hl.1 rfl (Nat.le_of_ble_eq_true rfl) dX0_strokes_34 ⟨Nat.zero_le _, Nat.zero_le _⟩ putX0_x_reached (fun H locs hw => ?_)
        refine lv_aload_n hx hb dX0_strokes_37 rfl (lv_at hl 0 rfl) ?_
        refine gX0_this_reached hC hw dX0_strokes_38 ?_
        refine lv_iload_n hx hb dX0_strokes_41 rfl (lv_at hl 1 rfl) ?_
        refine lv_iconst (v := 0) hx hb dX0_strokes_42 rfl ?_
        obtain ⟨b2, hf⟩ := dk_c hf
        refine sX0_x_reached hC hw b2 dX0_strokes_43 (fun H locs hw => ?_)
        refine lv_aload_n hx hb dX0_strokes_44 rfl (lv_at hl 0 rfl) ?_
        refine gX0_this_firstWay hC hw dX0_strokes_45 ?_
        refine lv_iload_n hx hb dX0_strokes_48 rfl (lv_at hl 1 rfl) ?_
        refine lv_bipush (v := (-6)) hx hb dX0_strokes_49 rfl ?_
        obtain ⟨b3, hf⟩ := dk_c hf
        refine sX0_x_firstWay hC hw b3 dX0_strokes_51 (fun H locs hw => ?_)
        refine lv_aload_n hx hb dX0_strokes_52 rfl (lv_at hl 0 rfl) ?_
        refine gX0_this_queue hC hw dX0_strokes_53 ?_
        refine lv_iconst (v := 0) hx hb dX0_strokes_56 rfl ?_
        refine lv_iload_n hx hb dX0_strokes_57 rfl (lv_at hl 1 rfl) ?_
        obtain ⟨b4, hf⟩ := dk_c hf
        refine sX0_x_queue hC hw b4 dX0_strokes_58 (fun H locs hw => ?_)
        refine lv_aload_n hx hb dX0_strokes_59 rfl (lv_at hl 0 rfl) ?_
        refine lv_iconst (v := 1) hx hb dX0_strokes_60 rfl ?_
        refine pX0_this_queued hC hw dX0_strokes_61 (fun H locs hw => ?_)
        refine lv_iconst (v := 0) hx hb dX0_strokes_64 rfl ?_
        refine lv_istore (lv' := [(4, .int 0), (0, .ref (h 0)), (1, .int v1), (2, .int v2), (3, .int v3)]) hx hb dX0_strokes_65 hl (by decide) rfl (fun ls hl => ?_)
        exact L67 FU 0 p_row p_column p_down p_right p_cushions (upd z1 v1.toNatClampNeg 0) (upd x_firstWay v1.toNatClampNeg (-6)) (upd x_queue (0 : Int32).toNatClampNeg v1) 1 _ _ _ hw (lv_sub hl [1, 3, 4, 0] rfl) hf
      · have hf := dk_t c13 hf
        refine lv_bipush (v := (-2)) hx hb dX0_strokes_25 rfl ?_
        obtain rfl := Option.some.inj hf
        exact ret _ _ _ _ _ dX0_strokes_27 rfl rfl hw
    · have hf := dk_t c14 hf
      refine lv_iconst (v := (-1)) hx hb dX0_strokes_14 rfl ?_
      obtain rfl := Option.some.inj hf
      exact ret _ _ _ _ _ dX0_strokes_15 rfl rfl hw
set_option maxHeartbeats 4000000 in
set_option maxRecDepth 100000 in
theorem metX0_seen {v1 : Int32} {v2 : Int32} {res : Int32 × Int32 × (Nat → Int32) × (Nat → Int32)} (hf : fX0_seen v1 v2 t_sights t_seenStep t_seenCell = some res) : CtI l yX0_seen cX0_seen 3 .int 2 D E sz [.ref (h 0), .int v1, .int v2] (WX0 h E t_cells t_points t_fouls t_evening t_sights t_seenStep t_seenCell t_isKept t_touches t_cushions t_p_row t_p_column t_p_down t_p_right t_p_cushions n_cells n_points n_fouls n_evening n_sights n_seenStep n_seenCell n_isKept n_touches n_cushions n_p_row n_p_column n_p_down n_p_right n_p_cushions i_cells i_points i_fouls i_evening i_sights i_seenStep i_seenCell i_isKept i_touches i_cushions i_p_row i_p_column i_p_down i_p_right i_p_cushions j_cells j_points j_fouls j_evening j_sights j_seenStep j_seenCell j_isKept j_touches j_cushions j_p_row j_p_column j_p_down j_p_right j_p_cushions x_signs x_sign x_reason x_acts x_candourAt p_row p_column p_down p_right p_cushions x_met x_reached x_firstWay x_queue x_queued x_fitting x_byCell x_wins x_ways) (WX0 h E t_cells t_points t_fouls t_evening res.2.1 res.2.2.1 res.2.2.2 t_isKept t_touches t_cushions t_p_row t_p_column t_p_down t_p_right t_p_cushions n_cells n_points n_fouls n_evening n_sights n_seenStep n_seenCell n_isKept n_touches n_cushions n_p_row n_p_column n_p_down n_p_right n_p_cushions i_cells i_points i_fouls i_evening i_sights i_seenStep i_seenCell i_isKept i_touches i_cushions i_p_row i_p_column i_p_down i_p_right i_p_cushions j_cells j_points j_fouls j_evening j_sights j_seenStep j_seenCell j_isKept j_touches j_cushions j_p_row j_p_column j_p_down j_p_right j_p_cushions x_signs x_sign x_reason x_acts x_candourAt p_row p_column p_down p_right p_cushions x_met x_reached x_firstWay x_queue x_queued x_fitting x_byCell x_wins x_ways) res.1 := by
  refine startI (own := RX0) (by decide) rfl (Nat.le_of_ble_eq_true rfl) ?_
  intro p e s m args below meth c A Q ls hC ret hl hw
  have hx := hC.1.1
  have hb := hC.1.2.1
  have hown := hC.1.2.2.2.1
  have hts := hC.1.2.2.2.2
  have hl : lv_has ls 3 [(0, .ref (h 0)), (1, .int v1), (2, .int v2)] := hl
  refine lv_iload_n hx hb dX0_seen_0 rfl (lv_at hl 2 rfl) ?_
  refine callSI (rest := []) 0 0 hC hw (st1 _) (metX0_isCell rfl) mi_X0_isCell q206 (rm_ok (by decide) (by decide)) rfl hl.1 rfl (Nat.le_of_ble_eq_true rfl) dX0_seen_1 ⟨Nat.zero_le _, Nat.zero_le _⟩ (st2 _) (fun H locs hw => ?_)
  refine lv_if_ne (tgt := 9) hx hb dX0_seen_4 rfl (fun c5 => ?_) (fun c5 => ?_)
  · have hf := dk_f c5 hf
    refine lv_iload_n hx hb dX0_seen_9 rfl (lv_at hl 1 rfl) ?_
    refine lv_iconst (v := 0) hx hb dX0_seen_10 rfl ?_
    refine lv_bipush (v := 60) hx hb dX0_seen_11 rfl ?_
    refine callSI (rest := []) 0 0 hC hw (st1 _) (metX0_isIn rfl) mi_X0_isIn q203 (rm_ok (by decide) (by decide)) rfl hl.1 rfl (Nat.le_of_ble_eq_true rfl) dX0_seen_13 ⟨Nat.zero_le _, Nat.zero_le _⟩ (st2 _) (fun H locs hw => ?_)
    refine lv_if_ne (tgt := 22) hx hb dX0_seen_16 rfl (fun c4 => ?_) (fun c4 => ?_)
    · have hf := dk_f c4 hf
      refine lv_aload_n hx hb dX0_seen_22 rfl (lv_at hl 0 rfl) ?_
      refine gX0_this_table hC hw dX0_seen_23 ?_
      refine gX0_t_sights hC hw dX0_seen_26 ?_
      refine lv_bipush (v := 8) hx hb dX0_seen_29 rfl ?_
      refine lv_icmp_ne (tgt := 37) hx hb dX0_seen_31 rfl (fun c3 => ?_) (fun c3 => ?_)
      · have hf := dk_f c3 hf
        refine lv_aload_n hx hb dX0_seen_37 rfl (lv_at hl 0 rfl) ?_
        refine gX0_this_table hC hw dX0_seen_38 ?_
        refine gX0_t_seenStep hC hw dX0_seen_41 ?_
        refine lv_aload_n hx hb dX0_seen_44 rfl (lv_at hl 0 rfl) ?_
        refine gX0_this_table hC hw dX0_seen_45 ?_
        refine gX0_t_sights hC hw dX0_seen_48 ?_
        refine lv_iload_n hx hb dX0_seen_51 rfl (lv_at hl 1 rfl) ?_
        obtain ⟨b1, hf⟩ := dk_c hf
        refine sX0_t_seenStep hC hw b1 dX0_seen_52 (fun H locs hw => ?_)
        refine lv_aload_n hx hb dX0_seen_53 rfl (lv_at hl 0 rfl) ?_
        refine gX0_this_table hC hw dX0_seen_54 ?_
        refine gX0_t_seenCell hC hw dX0_seen_57 ?_
        refine lv_aload_n hx hb dX0_seen_60 rfl (lv_at hl 0 rfl) ?_
        refine gX0_this_table hC hw dX0_seen_61 ?_
        refine gX0_t_sights hC hw dX0_seen_64 ?_
        refine lv_iload_n hx hb dX0_seen_67 rfl (lv_at hl 2 rfl) ?_
        obtain ⟨b2, hf⟩ := dk_c hf
        refine sX0_t_seenCell hC hw b2 dX0_seen_68 (fun H locs hw => ?_)
        refine lv_aload_n hx hb dX0_seen_69 rfl (lv_at hl 0 rfl) ?_
        refine gX0_this_table hC hw dX0_seen_70 ?_
        refine lv_dup hx hb dX0_seen_73 rfl ?_
        refine gX0_t_sights hC hw dX0_seen_74 ?_
        refine lv_iconst (v := 1) hx hb dX0_seen_77 rfl ?_
        refine lv_iadd hx hb dX0_seen_78 ?_
        refine pX0_t_sights hC hw dX0_seen_79 (fun H locs hw => ?_)
        refine lv_aload_n hx hb dX0_seen_82 rfl (lv_at hl 0 rfl) ?_
        refine gX0_this_table hC hw dX0_seen_83 ?_
        refine gX0_t_sights hC hw dX0_seen_86 ?_
        obtain rfl := Option.some.inj hf
        exact ret _ _ _ _ _ dX0_seen_89 rfl rfl hw
      · have hf := dk_t c3 hf
        refine lv_bipush (v := (-4)) hx hb dX0_seen_34 rfl ?_
        obtain rfl := Option.some.inj hf
        exact ret _ _ _ _ _ dX0_seen_36 rfl rfl hw
    · have hf := dk_t c4 hf
      refine lv_bipush (v := (-2)) hx hb dX0_seen_19 rfl ?_
      obtain rfl := Option.some.inj hf
      exact ret _ _ _ _ _ dX0_seen_21 rfl rfl hw
  · have hf := dk_t c5 hf
    refine lv_iconst (v := (-1)) hx hb dX0_seen_7 rfl ?_
    obtain rfl := Option.some.inj hf
    exact ret _ _ _ _ _ dX0_seen_8 rfl rfl hw
set_option maxHeartbeats 4000000 in
set_option maxRecDepth 100000 in
theorem metX0_forget  {res : Int32 × Int32} (hf : fX0_forget t_sights = some res) : CtI l yX0_forget cX0_forget 2 .int 0 D E sz [.ref (h 0)] (WX0 h E t_cells t_points t_fouls t_evening t_sights t_seenStep t_seenCell t_isKept t_touches t_cushions t_p_row t_p_column t_p_down t_p_right t_p_cushions n_cells n_points n_fouls n_evening n_sights n_seenStep n_seenCell n_isKept n_touches n_cushions n_p_row n_p_column n_p_down n_p_right n_p_cushions i_cells i_points i_fouls i_evening i_sights i_seenStep i_seenCell i_isKept i_touches i_cushions i_p_row i_p_column i_p_down i_p_right i_p_cushions j_cells j_points j_fouls j_evening j_sights j_seenStep j_seenCell j_isKept j_touches j_cushions j_p_row j_p_column j_p_down j_p_right j_p_cushions x_signs x_sign x_reason x_acts x_candourAt p_row p_column p_down p_right p_cushions x_met x_reached x_firstWay x_queue x_queued x_fitting x_byCell x_wins x_ways) (WX0 h E t_cells t_points t_fouls t_evening res.2 t_seenStep t_seenCell t_isKept t_touches t_cushions t_p_row t_p_column t_p_down t_p_right t_p_cushions n_cells n_points n_fouls n_evening n_sights n_seenStep n_seenCell n_isKept n_touches n_cushions n_p_row n_p_column n_p_down n_p_right n_p_cushions i_cells i_points i_fouls i_evening i_sights i_seenStep i_seenCell i_isKept i_touches i_cushions i_p_row i_p_column i_p_down i_p_right i_p_cushions j_cells j_points j_fouls j_evening j_sights j_seenStep j_seenCell j_isKept j_touches j_cushions j_p_row j_p_column j_p_down j_p_right j_p_cushions x_signs x_sign x_reason x_acts x_candourAt p_row p_column p_down p_right p_cushions x_met x_reached x_firstWay x_queue x_queued x_fitting x_byCell x_wins x_ways) res.1 := by
  refine startI (own := RX0) (by decide) rfl (Nat.le_of_ble_eq_true rfl) ?_
  intro p e s m args below meth c A Q ls hC ret hl hw
  have hx := hC.1.1
  have hb := hC.1.2.1
  have hown := hC.1.2.2.2.1
  have hts := hC.1.2.2.2.2
  have hl : lv_has ls 2 [(0, .ref (h 0))] := hl
  refine lv_aload_n hx hb dX0_forget_0 rfl (lv_at hl 0 rfl) ?_
  refine gX0_this_table hC hw dX0_forget_1 ?_
  refine gX0_t_sights hC hw dX0_forget_4 ?_
  refine lv_istore_n (lv' := [(1, .int t_sights), (0, .ref (h 0))]) hx hb dX0_forget_7 rfl hl (by decide) rfl (fun ls hl => ?_)
  refine lv_aload_n hx hb dX0_forget_8 rfl (lv_at hl 1 rfl) ?_
  refine gX0_this_table hC hw dX0_forget_9 ?_
  refine lv_iconst (v := 0) hx hb dX0_forget_12 rfl ?_
  refine pX0_t_sights hC hw dX0_forget_13 (fun H locs hw => ?_)
  refine lv_iload_n hx hb dX0_forget_16 rfl (lv_at hl 0 rfl) ?_
  obtain rfl := Option.some.inj hf
  exact ret _ _ _ _ _ dX0_forget_17 rfl rfl hw
set_option maxHeartbeats 4000000 in
set_option maxRecDepth 100000 in
theorem metX0_cellAfter {v1 : Int32} {v2 : Int32} {res : Int32 × Int32 × Int32 × Int32 × Int32 × Int32} (hf : fX0_cellAfter v1 v2 p_row p_column p_down p_right p_cushions = some res) : CtI l yX0_cellAfter cX0_cellAfter 3 .int 3 D E sz [.ref (h 0), .int v1, .int v2] (WX0 h E t_cells t_points t_fouls t_evening t_sights t_seenStep t_seenCell t_isKept t_touches t_cushions t_p_row t_p_column t_p_down t_p_right t_p_cushions n_cells n_points n_fouls n_evening n_sights n_seenStep n_seenCell n_isKept n_touches n_cushions n_p_row n_p_column n_p_down n_p_right n_p_cushions i_cells i_points i_fouls i_evening i_sights i_seenStep i_seenCell i_isKept i_touches i_cushions i_p_row i_p_column i_p_down i_p_right i_p_cushions j_cells j_points j_fouls j_evening j_sights j_seenStep j_seenCell j_isKept j_touches j_cushions j_p_row j_p_column j_p_down j_p_right j_p_cushions x_signs x_sign x_reason x_acts x_candourAt p_row p_column p_down p_right p_cushions x_met x_reached x_firstWay x_queue x_queued x_fitting x_byCell x_wins x_ways) (WX0 h E t_cells t_points t_fouls t_evening t_sights t_seenStep t_seenCell t_isKept t_touches t_cushions t_p_row t_p_column t_p_down t_p_right t_p_cushions n_cells n_points n_fouls n_evening n_sights n_seenStep n_seenCell n_isKept n_touches n_cushions n_p_row n_p_column n_p_down n_p_right n_p_cushions i_cells i_points i_fouls i_evening i_sights i_seenStep i_seenCell i_isKept i_touches i_cushions i_p_row i_p_column i_p_down i_p_right i_p_cushions j_cells j_points j_fouls j_evening j_sights j_seenStep j_seenCell j_isKept j_touches j_cushions j_p_row j_p_column j_p_down j_p_right j_p_cushions x_signs x_sign x_reason x_acts x_candourAt res.2.1 res.2.2.1 res.2.2.2.1 res.2.2.2.2.1 res.2.2.2.2.2 x_met x_reached x_firstWay x_queue x_queued x_fitting x_byCell x_wins x_ways) res.1 := by
  refine startI (own := RX0) (by decide) rfl (Nat.le_of_ble_eq_true rfl) ?_
  intro p e s m args below meth c A Q ls hC ret hl hw
  have hx := hC.1.1
  have hb := hC.1.2.1
  have hown := hC.1.2.2.2.1
  have hts := hC.1.2.2.2.2
  have hl : lv_has ls 3 [(0, .ref (h 0)), (1, .int v1), (2, .int v2)] := hl
  refine lv_aload_n hx hb dX0_cellAfter_0 rfl (lv_at hl 0 rfl) ?_
  refine lv_iload_n hx hb dX0_cellAfter_1 rfl (lv_at hl 1 rfl) ?_
  refine lv_bipush (v := 10) hx hb dX0_cellAfter_2 rfl ?_
  refine lv_idiv hx hb dX0_cellAfter_4 (by decide) ?_
  refine lv_iload_n hx hb dX0_cellAfter_5 rfl (lv_at hl 1 rfl) ?_
  refine lv_bipush (v := 10) hx hb dX0_cellAfter_6 rfl ?_
  refine lv_irem hx hb dX0_cellAfter_8 (by decide) ?_
  refine lv_iload_n hx hb dX0_cellAfter_9 rfl (lv_at hl 2 rfl) ?_
  obtain ⟨z1, hz1, hf⟩ := dk_b hf
  refine callVV (rest := []) 0 _ 0 hC hw (sm1 _) (metX0_walkAlone hz1) mi_X0_walkAlone q344 (rm_ok (by decide) (by decide)) rfl rfl rfl hl.1 rfl (Nat.le_of_ble_eq_true rfl) dX0_cellAfter_10 ⟨Nat.zero_le _, Nat.zero_le _⟩ (sm2 _ _) (fun H locs hw => ?_)
  refine lv_aload_n hx hb dX0_cellAfter_13 rfl (lv_at hl 0 rfl) ?_
  refine gX0_this_path hC hw dX0_cellAfter_14 ?_
  obtain ⟨z2, hz2, hf⟩ := dk_b hf
  refine callVI (rest := []) 23 1 2 hC hw subX0_p (metX2_cell hz2) mi_X2_cell q348 (rm_ok (by decide) (by decide)) rfl rfl rfl hl.1 rfl (Nat.le_of_ble_eq_true rfl) dX0_cellAfter_17 ⟨Nat.zero_le _, Nat.zero_le _⟩ putX0_p (fun H locs hw => ?_)
  obtain rfl := Option.some.inj hf
  exact ret _ _ _ _ _ dX0_cellAfter_20 rfl rfl hw
set_option maxHeartbeats 4000000 in
set_option maxRecDepth 100000 in
theorem metX0_canBe {v1 : Int32} {res : Int32 × Int32 × Int32 × Int32 × Int32 × Int32} (hf : fX0_canBe v1 t_sights t_seenStep t_seenCell p_row p_column p_down p_right p_cushions = some res) : CtI l yX0_canBe cX0_canBe 4 .boolean 4 D E sz [.ref (h 0), .int v1] (WX0 h E t_cells t_points t_fouls t_evening t_sights t_seenStep t_seenCell t_isKept t_touches t_cushions t_p_row t_p_column t_p_down t_p_right t_p_cushions n_cells n_points n_fouls n_evening n_sights n_seenStep n_seenCell n_isKept n_touches n_cushions n_p_row n_p_column n_p_down n_p_right n_p_cushions i_cells i_points i_fouls i_evening i_sights i_seenStep i_seenCell i_isKept i_touches i_cushions i_p_row i_p_column i_p_down i_p_right i_p_cushions j_cells j_points j_fouls j_evening j_sights j_seenStep j_seenCell j_isKept j_touches j_cushions j_p_row j_p_column j_p_down j_p_right j_p_cushions x_signs x_sign x_reason x_acts x_candourAt p_row p_column p_down p_right p_cushions x_met x_reached x_firstWay x_queue x_queued x_fitting x_byCell x_wins x_ways) (WX0 h E t_cells t_points t_fouls t_evening t_sights t_seenStep t_seenCell t_isKept t_touches t_cushions t_p_row t_p_column t_p_down t_p_right t_p_cushions n_cells n_points n_fouls n_evening n_sights n_seenStep n_seenCell n_isKept n_touches n_cushions n_p_row n_p_column n_p_down n_p_right n_p_cushions i_cells i_points i_fouls i_evening i_sights i_seenStep i_seenCell i_isKept i_touches i_cushions i_p_row i_p_column i_p_down i_p_right i_p_cushions j_cells j_points j_fouls j_evening j_sights j_seenStep j_seenCell j_isKept j_touches j_cushions j_p_row j_p_column j_p_down j_p_right j_p_cushions x_signs x_sign x_reason x_acts x_candourAt res.2.1 res.2.2.1 res.2.2.2.1 res.2.2.2.2.1 res.2.2.2.2.2 x_met x_reached x_firstWay x_queue x_queued x_fitting x_byCell x_wins x_ways) res.1 := by
  refine startI (own := RX0) (by decide) rfl (Nat.le_of_ble_eq_true rfl) ?_
  intro p e s m args below meth c A Q ls hC ret hl hw
  have hx := hC.1.1
  have hb := hC.1.2.1
  have hown := hC.1.2.2.2.1
  have hts := hC.1.2.2.2.2
  have hl : lv_has ls 4 [(0, .ref (h 0)), (1, .int v1)] := hl
  have L27 : ∀ (n : Nat), ∀ (v2 : Int32) (v3 : Int32) (p_row : Int32) (p_column : Int32) (p_down : Int32) (p_right : Int32) (p_cushions : Int32) (H : Heap) (locs : List Loc) (ls : Array Slot), Wo D A s.heap H locs (WX0 h E t_cells t_points t_fouls t_evening t_sights t_seenStep t_seenCell t_isKept t_touches t_cushions t_p_row t_p_column t_p_down t_p_right t_p_cushions n_cells n_points n_fouls n_evening n_sights n_seenStep n_seenCell n_isKept n_touches n_cushions n_p_row n_p_column n_p_down n_p_right n_p_cushions i_cells i_points i_fouls i_evening i_sights i_seenStep i_seenCell i_isKept i_touches i_cushions i_p_row i_p_column i_p_down i_p_right i_p_cushions j_cells j_points j_fouls j_evening j_sights j_seenStep j_seenCell j_isKept j_touches j_cushions j_p_row j_p_column j_p_down j_p_right j_p_cushions x_signs x_sign x_reason x_acts x_candourAt p_row p_column p_down p_right p_cushions x_met x_reached x_firstWay x_queue x_queued x_fitting x_byCell x_wins x_ways) → lv_has ls 4 [(0, .ref (h 0)), (1, .int v1), (2, .int v2), (3, .int v3)] → fX0_canBe_L27 v1 t_sights t_seenStep t_seenCell  n v2 v3 p_row p_column p_down p_right p_cushions = some res → W p l e (rmN 4) s m args below meth c H locs 0 0 Q (F0 m 27 ls []) := by
    intro  n
    induction n with
    | zero =>
      intro v2 v3 p_row p_column p_down p_right p_cushions H locs ls hw hl hf
      exact dk_n hf
    | succ n ih =>
      intro v2 v3 p_row p_column p_down p_right p_cushions H locs ls hw hl hf
      refine lv_iload_n hx hb dX0_canBe_27 rfl (lv_at hl 3 rfl) ?_
      refine lv_aload_n hx hb dX0_canBe_28 rfl (lv_at hl 0 rfl) ?_
      refine gX0_this_table hC hw dX0_canBe_29 ?_
      refine gX0_t_sights hC hw dX0_canBe_32 ?_
      refine lv_icmp_ge (tgt := 80) hx hb dX0_canBe_35 rfl (fun c8 => ?_) (fun c8 => ?_)
      · have hf := dk_t c8 hf
        refine lv_iload_n hx hb dX0_canBe_80 rfl (lv_at hl 2 rfl) ?_
        obtain ⟨b1, hf⟩ := dk_c hf
        obtain rfl := Option.some.inj hf
        exact ret _ _ _ _ _ dX0_canBe_81 (nar01 b1) rfl hw
      · have hf := dk_f c8 hf
        refine lv_iload_n hx hb dX0_canBe_38 rfl (lv_at hl 2 rfl) ?_
        refine lv_if_eq (tgt := 80) hx hb dX0_canBe_39 rfl (fun c7 => ?_) (fun c7 => ?_)
        · have hf := dk_t c7 hf
          refine lv_iload_n hx hb dX0_canBe_80 rfl (lv_at hl 2 rfl) ?_
          obtain ⟨b2, hf⟩ := dk_c hf
          obtain rfl := Option.some.inj hf
          exact ret _ _ _ _ _ dX0_canBe_81 (nar01 b2) rfl hw
        · have hf := dk_f c7 hf
          refine lv_aload_n hx hb dX0_canBe_42 rfl (lv_at hl 0 rfl) ?_
          refine lv_iload_n hx hb dX0_canBe_43 rfl (lv_at hl 1 rfl) ?_
          refine lv_aload_n hx hb dX0_canBe_44 rfl (lv_at hl 0 rfl) ?_
          refine gX0_this_table hC hw dX0_canBe_45 ?_
          refine gX0_t_seenStep hC hw dX0_canBe_48 ?_
          refine lv_iload_n hx hb dX0_canBe_51 rfl (lv_at hl 3 rfl) ?_
          obtain ⟨b3, hf⟩ := dk_c hf
          refine aX0_t_seenStep hC hw b3 dX0_canBe_52 ?_
          obtain ⟨z4, hz4, hf⟩ := dk_b hf
          refine callVI (rest := []) 0 _ 0 hC hw (sm1 _) (metX0_cellAfter hz4) mi_X0_cellAfter q387 (rm_ok (by decide) (by decide)) rfl rfl rfl hl.1 rfl (Nat.le_of_ble_eq_true rfl) dX0_canBe_53 ⟨Nat.zero_le _, Nat.zero_le _⟩ (sm2 _ _) (fun H locs hw => ?_)
          refine lv_aload_n hx hb dX0_canBe_56 rfl (lv_at hl 0 rfl) ?_
          refine gX0_this_table hC hw dX0_canBe_57 ?_
          refine gX0_t_seenCell hC hw dX0_canBe_60 ?_
          refine lv_iload_n hx hb dX0_canBe_63 rfl (lv_at hl 3 rfl) ?_
          obtain ⟨b5, hf⟩ := dk_c hf
          refine aX0_t_seenCell hC hw b5 dX0_canBe_64 ?_
          refine lv_icmp_ne (tgt := 72) hx hb dX0_canBe_65 rfl (fun c6 => ?_) (fun c6 => ?_)
          · have hf := dk_f c6 hf
            refine lv_iconst (v := 0) hx hb dX0_canBe_72 rfl ?_
            refine lv_istore_n (lv' := [(2, .int 0), (0, .ref (h 0)), (1, .int v1), (3, .int v3)]) hx hb dX0_canBe_73 rfl hl (by decide) rfl (fun ls hl => ?_)
            refine lv_iinc (v := (v3 + 1)) (lv' := [(3, .int (v3 + 1)), (2, .int 0), (0, .ref (h 0)), (1, .int v1)]) hx hb dX0_canBe_74 hl (k := 3) rfl rfl (by decide) rfl (fun ls hl => ?_)
            refine lv_goto (tgt := 27) hx hb dX0_canBe_77 rfl ?_
            exact ih 0 (v3 + 1) z4.2.1 z4.2.2.1 z4.2.2.2.1 z4.2.2.2.2.1 z4.2.2.2.2.2 _ _ _ hw (lv_sub hl [2, 3, 1, 0] rfl) hf
          · have hf := dk_t c6 hf
            refine lv_iconst (v := 1) hx hb dX0_canBe_68 rfl ?_
            refine lv_goto (tgt := 73) hx hb dX0_canBe_69 rfl ?_
            refine lv_istore_n (lv' := [(2, .int 1), (0, .ref (h 0)), (1, .int v1), (3, .int v3)]) hx hb dX0_canBe_73 rfl hl (by decide) rfl (fun ls hl => ?_)
            refine lv_iinc (v := (v3 + 1)) (lv' := [(3, .int (v3 + 1)), (2, .int 1), (0, .ref (h 0)), (1, .int v1)]) hx hb dX0_canBe_74 hl (k := 3) rfl rfl (by decide) rfl (fun ls hl => ?_)
            refine lv_goto (tgt := 27) hx hb dX0_canBe_77 rfl ?_
            exact ih 1 (v3 + 1) z4.2.1 z4.2.2.1 z4.2.2.2.1 z4.2.2.2.2.1 z4.2.2.2.2.2 _ _ _ hw (lv_sub hl [2, 3, 1, 0] rfl) hf
  refine lv_iload_n hx hb dX0_canBe_0 rfl (lv_at hl 1 rfl) ?_
  refine lv_bipush (v := 10) hx hb dX0_canBe_1 rfl ?_
  refine lv_irem hx hb dX0_canBe_3 (by decide) ?_
  refine lv_bipush (v := 8) hx hb dX0_canBe_4 rfl ?_
  refine lv_icmp_ge (tgt := 23) hx hb dX0_canBe_6 rfl (fun c10 => ?_) (fun c10 => ?_)
  · have hf := dk_t c10 hf
    refine lv_iconst (v := 0) hx hb dX0_canBe_23 rfl ?_
    refine lv_istore_n (lv' := [(2, .int 0), (0, .ref (h 0)), (1, .int v1)]) hx hb dX0_canBe_24 rfl hl (by decide) rfl (fun ls hl => ?_)
    refine lv_iconst (v := 0) hx hb dX0_canBe_25 rfl ?_
    refine lv_istore_n (lv' := [(3, .int 0), (2, .int 0), (0, .ref (h 0)), (1, .int v1)]) hx hb dX0_canBe_26 rfl hl (by decide) rfl (fun ls hl => ?_)
    exact L27 FU 0 0 p_row p_column p_down p_right p_cushions _ _ _ hw (lv_sub hl [2, 3, 1, 0] rfl) hf
  · have hf := dk_f c10 hf
    refine lv_iload_n hx hb dX0_canBe_9 rfl (lv_at hl 1 rfl) ?_
    refine lv_bipush (v := 10) hx hb dX0_canBe_10 rfl ?_
    refine lv_idiv hx hb dX0_canBe_12 (by decide) ?_
    refine callSI (rest := []) 0 0 hC hw (st1 _) (metX0_isOpen rfl) mi_X0_isOpen q340 (rm_ok (by decide) (by decide)) rfl hl.1 rfl (Nat.le_of_ble_eq_true rfl) dX0_canBe_13 ⟨Nat.zero_le _, Nat.zero_le _⟩ (st2 _) (fun H locs hw => ?_)
    refine lv_if_eq (tgt := 23) hx hb dX0_canBe_16 rfl (fun c9 => ?_) (fun c9 => ?_)
    · have hf := dk_t c9 hf
      refine lv_iconst (v := 0) hx hb dX0_canBe_23 rfl ?_
      refine lv_istore_n (lv' := [(2, .int 0), (0, .ref (h 0)), (1, .int v1)]) hx hb dX0_canBe_24 rfl hl (by decide) rfl (fun ls hl => ?_)
      refine lv_iconst (v := 0) hx hb dX0_canBe_25 rfl ?_
      refine lv_istore_n (lv' := [(3, .int 0), (2, .int 0), (0, .ref (h 0)), (1, .int v1)]) hx hb dX0_canBe_26 rfl hl (by decide) rfl (fun ls hl => ?_)
      exact L27 FU 0 0 p_row p_column p_down p_right p_cushions _ _ _ hw (lv_sub hl [2, 3, 1, 0] rfl) hf
    · have hf := dk_f c9 hf
      refine lv_iconst (v := 1) hx hb dX0_canBe_19 rfl ?_
      refine lv_goto (tgt := 24) hx hb dX0_canBe_20 rfl ?_
      refine lv_istore_n (lv' := [(2, .int 1), (0, .ref (h 0)), (1, .int v1)]) hx hb dX0_canBe_24 rfl hl (by decide) rfl (fun ls hl => ?_)
      refine lv_iconst (v := 0) hx hb dX0_canBe_25 rfl ?_
      refine lv_istore_n (lv' := [(3, .int 0), (2, .int 1), (0, .ref (h 0)), (1, .int v1)]) hx hb dX0_canBe_26 rfl hl (by decide) rfl (fun ls hl => ?_)
      exact L27 FU 1 0 p_row p_column p_down p_right p_cushions _ _ _ hw (lv_sub hl [2, 3, 1, 0] rfl) hf
set_option maxHeartbeats 4000000 in
set_option maxRecDepth 100000 in
theorem metX0_sent {v1 : Int32} {res : Int32 × Int32 × Int32 × Int32 × Int32 × Int32} (hf : fX0_sent v1 t_sights t_seenStep t_seenCell p_row p_column p_down p_right p_cushions = some res) : CtI l yX0_sent cX0_sent 4 .int 5 D E sz [.ref (h 0), .int v1] (WX0 h E t_cells t_points t_fouls t_evening t_sights t_seenStep t_seenCell t_isKept t_touches t_cushions t_p_row t_p_column t_p_down t_p_right t_p_cushions n_cells n_points n_fouls n_evening n_sights n_seenStep n_seenCell n_isKept n_touches n_cushions n_p_row n_p_column n_p_down n_p_right n_p_cushions i_cells i_points i_fouls i_evening i_sights i_seenStep i_seenCell i_isKept i_touches i_cushions i_p_row i_p_column i_p_down i_p_right i_p_cushions j_cells j_points j_fouls j_evening j_sights j_seenStep j_seenCell j_isKept j_touches j_cushions j_p_row j_p_column j_p_down j_p_right j_p_cushions x_signs x_sign x_reason x_acts x_candourAt p_row p_column p_down p_right p_cushions x_met x_reached x_firstWay x_queue x_queued x_fitting x_byCell x_wins x_ways) (WX0 h E t_cells t_points t_fouls t_evening t_sights t_seenStep t_seenCell t_isKept t_touches t_cushions t_p_row t_p_column t_p_down t_p_right t_p_cushions n_cells n_points n_fouls n_evening n_sights n_seenStep n_seenCell n_isKept n_touches n_cushions n_p_row n_p_column n_p_down n_p_right n_p_cushions i_cells i_points i_fouls i_evening i_sights i_seenStep i_seenCell i_isKept i_touches i_cushions i_p_row i_p_column i_p_down i_p_right i_p_cushions j_cells j_points j_fouls j_evening j_sights j_seenStep j_seenCell j_isKept j_touches j_cushions j_p_row j_p_column j_p_down j_p_right j_p_cushions x_signs x_sign x_reason x_acts x_candourAt res.2.1 res.2.2.1 res.2.2.2.1 res.2.2.2.2.1 res.2.2.2.2.2 x_met x_reached x_firstWay x_queue x_queued x_fitting x_byCell x_wins x_ways) res.1 := by
  refine startI (own := RX0) (by decide) rfl (Nat.le_of_ble_eq_true rfl) ?_
  intro p e s m args below meth c A Q ls hC ret hl hw
  have hx := hC.1.1
  have hb := hC.1.2.1
  have hown := hC.1.2.2.2.1
  have hts := hC.1.2.2.2.2
  have hl : lv_has ls 4 [(0, .ref (h 0)), (1, .int v1)] := hl
  have L4 : ∀ (n : Nat), ∀ (v2 : Int32) (v3 : Int32) (p_row : Int32) (p_column : Int32) (p_down : Int32) (p_right : Int32) (p_cushions : Int32) (H : Heap) (locs : List Loc) (ls : Array Slot), Wo D A s.heap H locs (WX0 h E t_cells t_points t_fouls t_evening t_sights t_seenStep t_seenCell t_isKept t_touches t_cushions t_p_row t_p_column t_p_down t_p_right t_p_cushions n_cells n_points n_fouls n_evening n_sights n_seenStep n_seenCell n_isKept n_touches n_cushions n_p_row n_p_column n_p_down n_p_right n_p_cushions i_cells i_points i_fouls i_evening i_sights i_seenStep i_seenCell i_isKept i_touches i_cushions i_p_row i_p_column i_p_down i_p_right i_p_cushions j_cells j_points j_fouls j_evening j_sights j_seenStep j_seenCell j_isKept j_touches j_cushions j_p_row j_p_column j_p_down j_p_right j_p_cushions x_signs x_sign x_reason x_acts x_candourAt p_row p_column p_down p_right p_cushions x_met x_reached x_firstWay x_queue x_queued x_fitting x_byCell x_wins x_ways) → lv_has ls 4 [(0, .ref (h 0)), (1, .int v1), (2, .int v2), (3, .int v3)] → fX0_sent_L4 v1 t_sights t_seenStep t_seenCell  n v2 v3 p_row p_column p_down p_right p_cushions = some res → W p l e (rmN 5) s m args below meth c H locs 0 0 Q (F0 m 4 ls []) := by
    intro  n
    induction n with
    | zero =>
      intro v2 v3 p_row p_column p_down p_right p_cushions H locs ls hw hl hf
      exact dk_n hf
    | succ n ih =>
      intro v2 v3 p_row p_column p_down p_right p_cushions H locs ls hw hl hf
      refine lv_iload_n hx hb dX0_sent_4 rfl (lv_at hl 3 rfl) ?_
      refine lv_sipush (v := 450) hx hb dX0_sent_5 rfl ?_
      refine lv_icmp_ge (tgt := 35) hx hb dX0_sent_8 rfl (fun c5 => ?_) (fun c5 => ?_)
      · have hf := dk_t c5 hf
        refine lv_iload_n hx hb dX0_sent_35 rfl (lv_at hl 1 rfl) ?_
        refine lv_iconst (v := (-1)) hx hb dX0_sent_36 rfl ?_
        refine lv_icmp_ne (tgt := 44) hx hb dX0_sent_37 rfl (fun c1 => ?_) (fun c1 => ?_)
        · have hf := dk_f c1 hf
          refine lv_bipush (v := (-6)) hx hb dX0_sent_44 rfl ?_
          obtain rfl := Option.some.inj hf
          exact ret _ _ _ _ _ dX0_sent_46 rfl rfl hw
        · have hf := dk_t c1 hf
          refine lv_iload_n hx hb dX0_sent_40 rfl (lv_at hl 2 rfl) ?_
          refine lv_goto (tgt := 46) hx hb dX0_sent_41 rfl ?_
          obtain rfl := Option.some.inj hf
          exact ret _ _ _ _ _ dX0_sent_46 rfl rfl hw
      · have hf := dk_f c5 hf
        refine lv_aload_n hx hb dX0_sent_11 rfl (lv_at hl 0 rfl) ?_
        refine lv_iload_n hx hb dX0_sent_12 rfl (lv_at hl 3 rfl) ?_
        obtain ⟨z2, hz2, hf⟩ := dk_b hf
        refine callVI (rest := []) 0 _ 0 hC hw (sm1 _) (metX0_canBe hz2) mi_X0_canBe q383 (rm_ok (by decide) (by decide)) rfl rfl rfl hl.1 rfl (Nat.le_of_ble_eq_true rfl) dX0_sent_13 ⟨Nat.zero_le _, Nat.zero_le _⟩ (sm2 _ _) (fun H locs hw => ?_)
        refine lv_if_eq (tgt := 29) hx hb dX0_sent_16 rfl (fun c4 => ?_) (fun c4 => ?_)
        · have hf := dk_t c4 hf
          refine lv_iinc (v := (v3 + 1)) (lv' := [(3, .int (v3 + 1)), (0, .ref (h 0)), (1, .int v1), (2, .int v2)]) hx hb dX0_sent_29 hl (k := 3) rfl rfl (by decide) rfl (fun ls hl => ?_)
          refine lv_goto (tgt := 4) hx hb dX0_sent_32 rfl ?_
          exact ih v2 (v3 + 1) z2.2.1 z2.2.2.1 z2.2.2.2.1 z2.2.2.2.2.1 z2.2.2.2.2.2 _ _ _ hw (lv_sub hl [1, 2, 3, 0] rfl) hf
        · have hf := dk_f c4 hf
          refine lv_iload_n hx hb dX0_sent_19 rfl (lv_at hl 2 rfl) ?_
          refine lv_iload_n hx hb dX0_sent_20 rfl (lv_at hl 1 rfl) ?_
          refine lv_icmp_ne (tgt := 26) hx hb dX0_sent_21 rfl (fun c3 => ?_) (fun c3 => ?_)
          · have hf := dk_f c3 hf
            refine lv_iinc (v := (v2 + 1)) (lv' := [(2, .int (v2 + 1)), (0, .ref (h 0)), (1, .int v1), (3, .int v3)]) hx hb dX0_sent_26 hl (k := 2) rfl rfl (by decide) rfl (fun ls hl => ?_)
            refine lv_iinc (v := (v3 + 1)) (lv' := [(3, .int (v3 + 1)), (2, .int (v2 + 1)), (0, .ref (h 0)), (1, .int v1)]) hx hb dX0_sent_29 hl (k := 3) rfl rfl (by decide) rfl (fun ls hl => ?_)
            refine lv_goto (tgt := 4) hx hb dX0_sent_32 rfl ?_
            exact ih (v2 + 1) (v3 + 1) z2.2.1 z2.2.2.1 z2.2.2.2.1 z2.2.2.2.2.1 z2.2.2.2.2.2 _ _ _ hw (lv_sub hl [2, 3, 1, 0] rfl) hf
          · have hf := dk_t c3 hf
            refine lv_iload_n hx hb dX0_sent_24 rfl (lv_at hl 3 rfl) ?_
            obtain rfl := Option.some.inj hf
            exact ret _ _ _ _ _ dX0_sent_25 rfl rfl hw
  refine lv_iconst (v := 0) hx hb dX0_sent_0 rfl ?_
  refine lv_istore_n (lv' := [(2, .int 0), (0, .ref (h 0)), (1, .int v1)]) hx hb dX0_sent_1 rfl hl (by decide) rfl (fun ls hl => ?_)
  refine lv_iconst (v := 0) hx hb dX0_sent_2 rfl ?_
  refine lv_istore_n (lv' := [(3, .int 0), (2, .int 0), (0, .ref (h 0)), (1, .int v1)]) hx hb dX0_sent_3 rfl hl (by decide) rfl (fun ls hl => ?_)
  exact L4 FU 0 0 p_row p_column p_down p_right p_cushions _ _ _ hw (lv_sub hl [2, 3, 1, 0] rfl) hf
set_option maxHeartbeats 4000000 in
set_option maxRecDepth 100000 in
theorem metX0_ask {v1 : Int32} {res : Int32 × Int32 × Int32 × Int32 × Int32 × Int32 × (Nat → Int32) × (Nat → Int32)} (hf : fX0_ask v1 t_sights t_seenStep t_seenCell p_row p_column p_down p_right p_cushions x_fitting x_byCell = some res) : CtI l yX0_ask cX0_ask 9 .int 5 D E sz [.ref (h 0), .int v1] (WX0 h E t_cells t_points t_fouls t_evening t_sights t_seenStep t_seenCell t_isKept t_touches t_cushions t_p_row t_p_column t_p_down t_p_right t_p_cushions n_cells n_points n_fouls n_evening n_sights n_seenStep n_seenCell n_isKept n_touches n_cushions n_p_row n_p_column n_p_down n_p_right n_p_cushions i_cells i_points i_fouls i_evening i_sights i_seenStep i_seenCell i_isKept i_touches i_cushions i_p_row i_p_column i_p_down i_p_right i_p_cushions j_cells j_points j_fouls j_evening j_sights j_seenStep j_seenCell j_isKept j_touches j_cushions j_p_row j_p_column j_p_down j_p_right j_p_cushions x_signs x_sign x_reason x_acts x_candourAt p_row p_column p_down p_right p_cushions x_met x_reached x_firstWay x_queue x_queued x_fitting x_byCell x_wins x_ways) (WX0 h E t_cells t_points t_fouls t_evening t_sights t_seenStep t_seenCell t_isKept t_touches t_cushions t_p_row t_p_column t_p_down t_p_right t_p_cushions n_cells n_points n_fouls n_evening n_sights n_seenStep n_seenCell n_isKept n_touches n_cushions n_p_row n_p_column n_p_down n_p_right n_p_cushions i_cells i_points i_fouls i_evening i_sights i_seenStep i_seenCell i_isKept i_touches i_cushions i_p_row i_p_column i_p_down i_p_right i_p_cushions j_cells j_points j_fouls j_evening j_sights j_seenStep j_seenCell j_isKept j_touches j_cushions j_p_row j_p_column j_p_down j_p_right j_p_cushions x_signs x_sign x_reason x_acts x_candourAt res.2.1 res.2.2.1 res.2.2.2.1 res.2.2.2.2.1 res.2.2.2.2.2.1 x_met x_reached x_firstWay x_queue x_queued res.2.2.2.2.2.2.1 res.2.2.2.2.2.2.2 x_wins x_ways) res.1 := by
  refine startI (own := RX0) (by decide) rfl (Nat.le_of_ble_eq_true rfl) ?_
  intro p e s m args below meth c A Q ls hC ret hl hw
  have hx := hC.1.1
  have hb := hC.1.2.1
  have hown := hC.1.2.2.2.1
  have hts := hC.1.2.2.2.2
  have hl : lv_has ls 9 [(0, .ref (h 0)), (1, .int v1)] := hl
  have L163 : ∀ (v3 : Int32) (v4 : Int32) (p_row : Int32) (p_column : Int32) (p_down : Int32) (p_right : Int32) (p_cushions : Int32) (x_fitting : Nat → Int32) (x_byCell : Nat → Int32) (H : Heap) (locs : List Loc) (ls : Array Slot), Wo D A s.heap H locs (WX0 h E t_cells t_points t_fouls t_evening t_sights t_seenStep t_seenCell t_isKept t_touches t_cushions t_p_row t_p_column t_p_down t_p_right t_p_cushions n_cells n_points n_fouls n_evening n_sights n_seenStep n_seenCell n_isKept n_touches n_cushions n_p_row n_p_column n_p_down n_p_right n_p_cushions i_cells i_points i_fouls i_evening i_sights i_seenStep i_seenCell i_isKept i_touches i_cushions i_p_row i_p_column i_p_down i_p_right i_p_cushions j_cells j_points j_fouls j_evening j_sights j_seenStep j_seenCell j_isKept j_touches j_cushions j_p_row j_p_column j_p_down j_p_right j_p_cushions x_signs x_sign x_reason x_acts x_candourAt p_row p_column p_down p_right p_cushions x_met x_reached x_firstWay x_queue x_queued x_fitting x_byCell x_wins x_ways) → lv_has ls 9 [(1, .int v1), (3, .int v3), (4, .int v4)] → fX0_ask_L163 v1 t_sights t_seenStep t_seenCell  v3 v4 p_row p_column p_down p_right p_cushions x_fitting x_byCell = some res → W p l e (rmN 5) s m args below meth c H locs 0 0 Q (F0 m 163 ls []) := by
    intro  v3 v4 p_row p_column p_down p_right p_cushions x_fitting x_byCell H locs ls hw hl hf
    refine lv_iload_n hx hb dX0_ask_163 rfl (lv_at hl 1 rfl) ?_
    refine lv_if_lt (tgt := 171) hx hb dX0_ask_164 rfl (fun c2 => ?_) (fun c2 => ?_)
    · have hf := dk_t c2 hf
      refine lv_iload_n hx hb dX0_ask_171 rfl (lv_at hl 1 rfl) ?_
      refine lv_goto (tgt := 177) hx hb dX0_ask_172 rfl ?_
      obtain rfl := Option.some.inj hf
      exact ret _ _ _ _ _ dX0_ask_177 rfl rfl hw
    · have hf := dk_f c2 hf
      refine lv_iload_n hx hb dX0_ask_167 rfl (lv_at hl 0 rfl) ?_
      refine lv_if_ne (tgt := 175) hx hb dX0_ask_168 rfl (fun c1 => ?_) (fun c1 => ?_)
      · have hf := dk_f c1 hf
        refine lv_iload hx hb dX0_ask_175 (lv_at hl 2 rfl) ?_
        obtain rfl := Option.some.inj hf
        exact ret _ _ _ _ _ dX0_ask_177 rfl rfl hw
      · have hf := dk_t c1 hf
        refine lv_iload_n hx hb dX0_ask_171 rfl (lv_at hl 1 rfl) ?_
        refine lv_goto (tgt := 177) hx hb dX0_ask_172 rfl ?_
        obtain rfl := Option.some.inj hf
        exact ret _ _ _ _ _ dX0_ask_177 rfl rfl hw
  have L82 : ∀ (k57c : Int32 → Int32 → Int32 → Int32 → Int32 → Int32 → Int32 → Int32 → Int32 → (Nat → Int32) → (Nat → Int32) → Option (Int32 × Int32 × Int32 × Int32 × Int32 × Int32 × (Nat → Int32) × (Nat → Int32))) (hk57 : ∀ (v2 : Int32) (v3 : Int32) (v4 : Int32) (v5 : Int32) (p_row : Int32) (p_column : Int32) (p_down : Int32) (p_right : Int32) (p_cushions : Int32) (x_fitting : Nat → Int32) (x_byCell : Nat → Int32) (H : Heap) (locs : List Loc) (ls : Array Slot), Wo D A s.heap H locs (WX0 h E t_cells t_points t_fouls t_evening t_sights t_seenStep t_seenCell t_isKept t_touches t_cushions t_p_row t_p_column t_p_down t_p_right t_p_cushions n_cells n_points n_fouls n_evening n_sights n_seenStep n_seenCell n_isKept n_touches n_cushions n_p_row n_p_column n_p_down n_p_right n_p_cushions i_cells i_points i_fouls i_evening i_sights i_seenStep i_seenCell i_isKept i_touches i_cushions i_p_row i_p_column i_p_down i_p_right i_p_cushions j_cells j_points j_fouls j_evening j_sights j_seenStep j_seenCell j_isKept j_touches j_cushions j_p_row j_p_column j_p_down j_p_right j_p_cushions x_signs x_sign x_reason x_acts x_candourAt p_row p_column p_down p_right p_cushions x_met x_reached x_firstWay x_queue x_queued x_fitting x_byCell x_wins x_ways) → lv_has ls 9 [(0, .ref (h 0)), (1, .int v1), (2, .int v2), (3, .int v3), (4, .int v4), (5, .int v5)] → k57c v2 v3 v4 v5 p_row p_column p_down p_right p_cushions x_fitting x_byCell = some res → W p l e (rmN 5) s m args below meth c H locs 0 0 Q (F0 m 57 ls [])) (n : Nat), ∀ (v2 : Int32) (v3 : Int32) (v4 : Int32) (v5 : Int32) (v6 : Int32) (v7 : Int32) (p_row : Int32) (p_column : Int32) (p_down : Int32) (p_right : Int32) (p_cushions : Int32) (x_fitting : Nat → Int32) (x_byCell : Nat → Int32) (H : Heap) (locs : List Loc) (ls : Array Slot), Wo D A s.heap H locs (WX0 h E t_cells t_points t_fouls t_evening t_sights t_seenStep t_seenCell t_isKept t_touches t_cushions t_p_row t_p_column t_p_down t_p_right t_p_cushions n_cells n_points n_fouls n_evening n_sights n_seenStep n_seenCell n_isKept n_touches n_cushions n_p_row n_p_column n_p_down n_p_right n_p_cushions i_cells i_points i_fouls i_evening i_sights i_seenStep i_seenCell i_isKept i_touches i_cushions i_p_row i_p_column i_p_down i_p_right i_p_cushions j_cells j_points j_fouls j_evening j_sights j_seenStep j_seenCell j_isKept j_touches j_cushions j_p_row j_p_column j_p_down j_p_right j_p_cushions x_signs x_sign x_reason x_acts x_candourAt p_row p_column p_down p_right p_cushions x_met x_reached x_firstWay x_queue x_queued x_fitting x_byCell x_wins x_ways) → lv_has ls 9 [(0, .ref (h 0)), (1, .int v1), (2, .int v2), (3, .int v3), (4, .int v4), (5, .int v5), (6, .int v6), (7, .int v7)] → fX0_ask_L82 v1 t_sights t_seenStep t_seenCell k57c n v2 v3 v4 v5 v6 v7 p_row p_column p_down p_right p_cushions x_fitting x_byCell = some res → W p l e (rmN 5) s m args below meth c H locs 0 0 Q (F0 m 82 ls []) := by
    intro k57c hk57 n
    induction n with
    | zero =>
      intro v2 v3 v4 v5 v6 v7 p_row p_column p_down p_right p_cushions x_fitting x_byCell H locs ls hw hl hf
      exact dk_n hf
    | succ n ih =>
      intro v2 v3 v4 v5 v6 v7 p_row p_column p_down p_right p_cushions x_fitting x_byCell H locs ls hw hl hf
      refine lv_iload hx hb dX0_ask_82 (lv_at hl 7 rfl) ?_
      refine lv_iload_n hx hb dX0_ask_84 rfl (lv_at hl 2 rfl) ?_
      refine lv_icmp_ge (tgt := 134) hx hb dX0_ask_85 rfl (fun c10 => ?_) (fun c10 => ?_)
      · have hf := dk_t c10 hf
        refine lv_iload hx hb dX0_ask_134 (lv_at hl 6 rfl) ?_
        refine lv_iload hx hb dX0_ask_136 (lv_at hl 4 rfl) ?_
        refine lv_icmp_ge (tgt := 146) hx hb dX0_ask_138 rfl (fun c4 => ?_) (fun c4 => ?_)
        · have hf := dk_t c4 hf
          refine lv_iload_n hx hb dX0_ask_146 rfl (lv_at hl 3 rfl) ?_
          refine lv_istore_n (lv' := [(3, .int v3), (0, .ref (h 0)), (1, .int v1), (2, .int v2), (4, .int v4), (5, .int v5), (6, .int v6), (7, .int v7)]) hx hb dX0_ask_147 rfl hl (by decide) rfl (fun ls hl => ?_)
          refine lv_iload hx hb dX0_ask_148 (lv_at hl 4 rfl) ?_
          refine lv_iload hx hb dX0_ask_150 (lv_at hl 6 rfl) ?_
          refine va_mmin (rest := []) hx hb (hC.1.2.2.1.trans hl.1.symm) hown (hts _ q333) (hts _ q334) (hts _ q48) (hts _ q335) (by decide) (by decide) (Nat.zero_le _) (Nat.zero_le _) dX0_ask_152 ?_
          refine lv_istore (lv' := [(4, .int (if v6 < v4 then v6 else v4)), (3, .int v3), (0, .ref (h 0)), (1, .int v1), (2, .int v2), (5, .int v5), (6, .int v6), (7, .int v7)]) hx hb dX0_ask_155 hl (by decide) rfl (fun ls hl => ?_)
          refine lv_iinc (v := (v5 + 1)) (lv' := [(5, .int (v5 + 1)), (4, .int (if v6 < v4 then v6 else v4)), (3, .int v3), (0, .ref (h 0)), (1, .int v1), (2, .int v2), (6, .int v6), (7, .int v7)]) hx hb dX0_ask_157 hl (k := 5) rfl rfl (by decide) rfl (fun ls hl => ?_)
          refine lv_goto (tgt := 57) hx hb dX0_ask_160 rfl ?_
          exact hk57 v2 v3 (if v6 < v4 then v6 else v4) (v5 + 1) p_row p_column p_down p_right p_cushions x_fitting x_byCell _ _ _ hw (lv_sub hl [3, 4, 5, 2, 1, 0] rfl) hf
        · have hf := dk_f c4 hf
          refine lv_iload hx hb dX0_ask_141 (lv_at hl 5 rfl) ?_
          refine lv_goto (tgt := 147) hx hb dX0_ask_143 rfl ?_
          refine lv_istore_n (lv' := [(3, .int v5), (0, .ref (h 0)), (1, .int v1), (2, .int v2), (4, .int v4), (5, .int v5), (6, .int v6), (7, .int v7)]) hx hb dX0_ask_147 rfl hl (by decide) rfl (fun ls hl => ?_)
          refine lv_iload hx hb dX0_ask_148 (lv_at hl 4 rfl) ?_
          refine lv_iload hx hb dX0_ask_150 (lv_at hl 6 rfl) ?_
          refine va_mmin (rest := []) hx hb (hC.1.2.2.1.trans hl.1.symm) hown (hts _ q333) (hts _ q334) (hts _ q48) (hts _ q335) (by decide) (by decide) (Nat.zero_le _) (Nat.zero_le _) dX0_ask_152 ?_
          refine lv_istore (lv' := [(4, .int (if v6 < v4 then v6 else v4)), (3, .int v5), (0, .ref (h 0)), (1, .int v1), (2, .int v2), (5, .int v5), (6, .int v6), (7, .int v7)]) hx hb dX0_ask_155 hl (by decide) rfl (fun ls hl => ?_)
          refine lv_iinc (v := (v5 + 1)) (lv' := [(5, .int (v5 + 1)), (4, .int (if v6 < v4 then v6 else v4)), (3, .int v5), (0, .ref (h 0)), (1, .int v1), (2, .int v2), (6, .int v6), (7, .int v7)]) hx hb dX0_ask_157 hl (k := 5) rfl rfl (by decide) rfl (fun ls hl => ?_)
          refine lv_goto (tgt := 57) hx hb dX0_ask_160 rfl ?_
          exact hk57 v2 v5 (if v6 < v4 then v6 else v4) (v5 + 1) p_row p_column p_down p_right p_cushions x_fitting x_byCell _ _ _ hw (lv_sub hl [3, 4, 5, 2, 1, 0] rfl) hf
      · have hf := dk_f c10 hf
        refine lv_aload_n hx hb dX0_ask_88 rfl (lv_at hl 0 rfl) ?_
        refine lv_aload_n hx hb dX0_ask_89 rfl (lv_at hl 0 rfl) ?_
        refine gX0_this_fitting hC hw dX0_ask_90 ?_
        refine lv_iload hx hb dX0_ask_93 (lv_at hl 7 rfl) ?_
        obtain ⟨b5, hf⟩ := dk_c hf
        refine aX0_x_fitting hC hw b5 dX0_ask_95 ?_
        refine lv_iload hx hb dX0_ask_96 (lv_at hl 5 rfl) ?_
        obtain ⟨z6, hz6, hf⟩ := dk_b hf
        refine callVI (rest := []) 0 _ 0 hC hw (sm1 _) (metX0_cellAfter hz6) mi_X0_cellAfter q387 (rm_ok (by decide) (by decide)) rfl rfl rfl hl.1 rfl (Nat.le_of_ble_eq_true rfl) dX0_ask_98 ⟨Nat.zero_le _, Nat.zero_le _⟩ (sm2 _ _) (fun H locs hw => ?_)
        refine lv_istore (lv' := [(8, .int z6.1), (0, .ref (h 0)), (1, .int v1), (2, .int v2), (3, .int v3), (4, .int v4), (5, .int v5), (6, .int v6), (7, .int v7)]) hx hb dX0_ask_101 hl (by decide) rfl (fun ls hl => ?_)
        refine lv_aload_n hx hb dX0_ask_103 rfl (lv_at hl 1 rfl) ?_
        refine gX0_this_byCell hC hw dX0_ask_104 ?_
        refine lv_iload hx hb dX0_ask_107 (lv_at hl 0 rfl) ?_
        refine lv_dup2_11 hx hb dX0_ask_109 rfl rfl ?_
        obtain ⟨b7, hf⟩ := dk_c hf
        refine aX0_x_byCell hC hw b7 dX0_ask_110 ?_
        refine lv_iconst (v := 1) hx hb dX0_ask_111 rfl ?_
        refine lv_iadd hx hb dX0_ask_112 ?_
        obtain ⟨b8, hf⟩ := dk_c hf
        refine sX0_x_byCell hC hw b8 dX0_ask_113 (fun H locs hw => ?_)
        refine lv_iload hx hb dX0_ask_114 (lv_at hl 7 rfl) ?_
        refine lv_aload_n hx hb dX0_ask_116 rfl (lv_at hl 1 rfl) ?_
        refine gX0_this_byCell hC hw dX0_ask_117 ?_
        refine lv_iload hx hb dX0_ask_120 (lv_at hl 0 rfl) ?_
        obtain ⟨b9, hf⟩ := dk_c hf
        refine aX0_x_byCell hC hw b9 dX0_ask_122 ?_
        refine va_mmax (rest := []) hx hb (hC.1.2.2.1.trans hl.1.symm) hown (hts _ q395) (hts _ q396) (hts _ q48) (hts _ q397) (by decide) (by decide) (Nat.zero_le _) (Nat.zero_le _) dX0_ask_123 ?_
        refine lv_istore (lv' := [(6, .int (if v6 < ((upd x_byCell z6.1.toNatClampNeg ((x_byCell z6.1.toNatClampNeg) + 1)) z6.1.toNatClampNeg) then ((upd x_byCell z6.1.toNatClampNeg ((x_byCell z6.1.toNatClampNeg) + 1)) z6.1.toNatClampNeg) else v6)), (8, .int z6.1), (0, .ref (h 0)), (1, .int v1), (2, .int v2), (3, .int v3), (4, .int v4), (5, .int v5), (7, .int v7)]) hx hb dX0_ask_126 hl (by decide) rfl (fun ls hl => ?_)
        refine lv_iinc (v := (v7 + 1)) (lv' := [(7, .int (v7 + 1)), (6, .int (if v6 < ((upd x_byCell z6.1.toNatClampNeg ((x_byCell z6.1.toNatClampNeg) + 1)) z6.1.toNatClampNeg) then ((upd x_byCell z6.1.toNatClampNeg ((x_byCell z6.1.toNatClampNeg) + 1)) z6.1.toNatClampNeg) else v6)), (8, .int z6.1), (0, .ref (h 0)), (1, .int v1), (2, .int v2), (3, .int v3), (4, .int v4), (5, .int v5)]) hx hb dX0_ask_128 hl (k := 8) rfl rfl (by decide) rfl (fun ls hl => ?_)
        refine lv_goto (tgt := 82) hx hb dX0_ask_131 rfl ?_
        exact ih v2 v3 v4 v5 (if v6 < ((upd x_byCell z6.1.toNatClampNeg ((x_byCell z6.1.toNatClampNeg) + 1)) z6.1.toNatClampNeg) then ((upd x_byCell z6.1.toNatClampNeg ((x_byCell z6.1.toNatClampNeg) + 1)) z6.1.toNatClampNeg) else v6) (v7 + 1) z6.2.1 z6.2.2.1 z6.2.2.2.1 z6.2.2.2.2.1 z6.2.2.2.2.2 x_fitting (upd x_byCell z6.1.toNatClampNeg ((x_byCell z6.1.toNatClampNeg) + 1)) _ _ _ hw (lv_sub hl [3, 4, 5, 6, 7, 8, 1, 0] rfl) hf
  have L57 : ∀ (n : Nat), ∀ (v2 : Int32) (v3 : Int32) (v4 : Int32) (v5 : Int32) (p_row : Int32) (p_column : Int32) (p_down : Int32) (p_right : Int32) (p_cushions : Int32) (x_fitting : Nat → Int32) (x_byCell : Nat → Int32) (H : Heap) (locs : List Loc) (ls : Array Slot), Wo D A s.heap H locs (WX0 h E t_cells t_points t_fouls t_evening t_sights t_seenStep t_seenCell t_isKept t_touches t_cushions t_p_row t_p_column t_p_down t_p_right t_p_cushions n_cells n_points n_fouls n_evening n_sights n_seenStep n_seenCell n_isKept n_touches n_cushions n_p_row n_p_column n_p_down n_p_right n_p_cushions i_cells i_points i_fouls i_evening i_sights i_seenStep i_seenCell i_isKept i_touches i_cushions i_p_row i_p_column i_p_down i_p_right i_p_cushions j_cells j_points j_fouls j_evening j_sights j_seenStep j_seenCell j_isKept j_touches j_cushions j_p_row j_p_column j_p_down j_p_right j_p_cushions x_signs x_sign x_reason x_acts x_candourAt p_row p_column p_down p_right p_cushions x_met x_reached x_firstWay x_queue x_queued x_fitting x_byCell x_wins x_ways) → lv_has ls 9 [(0, .ref (h 0)), (1, .int v1), (2, .int v2), (3, .int v3), (4, .int v4), (5, .int v5)] → fX0_ask_L57 v1 t_sights t_seenStep t_seenCell  n v2 v3 v4 v5 p_row p_column p_down p_right p_cushions x_fitting x_byCell = some res → W p l e (rmN 5) s m args below meth c H locs 0 0 Q (F0 m 57 ls []) := by
    intro  n
    induction n with
    | zero =>
      intro v2 v3 v4 v5 p_row p_column p_down p_right p_cushions x_fitting x_byCell H locs ls hw hl hf
      exact dk_n hf
    | succ n ih =>
      intro v2 v3 v4 v5 p_row p_column p_down p_right p_cushions x_fitting x_byCell H locs ls hw hl hf
      refine lv_iload hx hb dX0_ask_57 (lv_at hl 5 rfl) ?_
      refine lv_bipush (v := 60) hx hb dX0_ask_59 rfl ?_
      refine lv_icmp_gt (tgt := 163) hx hb dX0_ask_61 rfl (fun c12 => ?_) (fun c12 => ?_)
      · have hf := dk_t c12 hf
        exact L163 v3 v4 p_row p_column p_down p_right p_cushions x_fitting x_byCell _ _ _ hw (lv_sub hl [1, 3, 4] rfl) hf
      · have hf := dk_f c12 hf
        refine lv_iload_n hx hb dX0_ask_64 rfl (lv_at hl 2 rfl) ?_
        refine lv_if_le (tgt := 163) hx hb dX0_ask_65 rfl (fun c11 => ?_) (fun c11 => ?_)
        · have hf := dk_t c11 hf
          exact L163 v3 v4 p_row p_column p_down p_right p_cushions x_fitting x_byCell _ _ _ hw (lv_sub hl [1, 3, 4] rfl) hf
        · have hf := dk_f c11 hf
          refine lv_aload_n hx hb dX0_ask_68 rfl (lv_at hl 0 rfl) ?_
          refine gX0_this_byCell hC hw dX0_ask_69 ?_
          refine lv_iconst (v := 0) hx hb dX0_ask_72 rfl ?_
          obtain ⟨z3, hz3, hf⟩ := dk_b hf
          refine callSV (rest := []) 29 1 hC hw subX0_x_byCell (metJ1_fill_2 hz3) mi_J1_fill_2 q364 (rm_ok (by decide) (by decide)) rfl hl.1 rfl (Nat.le_of_ble_eq_true rfl) dX0_ask_73 ⟨Nat.zero_le _, Nat.zero_le _⟩ putX0_x_byCell (fun H locs hw => ?_)
          refine lv_iconst (v := 0) hx hb dX0_ask_76 rfl ?_
          refine lv_istore (lv' := [(6, .int 0), (0, .ref (h 0)), (1, .int v1), (2, .int v2), (3, .int v3), (4, .int v4), (5, .int v5)]) hx hb dX0_ask_77 hl (by decide) rfl (fun ls hl => ?_)
          refine lv_iconst (v := 0) hx hb dX0_ask_79 rfl ?_
          refine lv_istore (lv' := [(7, .int 0), (6, .int 0), (0, .ref (h 0)), (1, .int v1), (2, .int v2), (3, .int v3), (4, .int v4), (5, .int v5)]) hx hb dX0_ask_80 hl (by decide) rfl (fun ls hl => ?_)
          exact L82 (fun y0 y1 y2 y3 y4 y5 y6 y7 y8 y9 y10 => fX0_ask_L57 v1 t_sights t_seenStep t_seenCell n y0 y1 y2 y3 y4 y5 y6 y7 y8 y9 y10) ih FU v2 v3 v4 v5 0 0 p_row p_column p_down p_right p_cushions x_fitting z3 _ _ _ hw (lv_sub hl [2, 3, 4, 5, 6, 7, 1, 0] rfl) hf
  have L16 : ∀ (n : Nat), ∀ (v2 : Int32) (v3 : Int32) (p_row : Int32) (p_column : Int32) (p_down : Int32) (p_right : Int32) (p_cushions : Int32) (x_fitting : Nat → Int32) (x_byCell : Nat → Int32) (H : Heap) (locs : List Loc) (ls : Array Slot), Wo D A s.heap H locs (WX0 h E t_cells t_points t_fouls t_evening t_sights t_seenStep t_seenCell t_isKept t_touches t_cushions t_p_row t_p_column t_p_down t_p_right t_p_cushions n_cells n_points n_fouls n_evening n_sights n_seenStep n_seenCell n_isKept n_touches n_cushions n_p_row n_p_column n_p_down n_p_right n_p_cushions i_cells i_points i_fouls i_evening i_sights i_seenStep i_seenCell i_isKept i_touches i_cushions i_p_row i_p_column i_p_down i_p_right i_p_cushions j_cells j_points j_fouls j_evening j_sights j_seenStep j_seenCell j_isKept j_touches j_cushions j_p_row j_p_column j_p_down j_p_right j_p_cushions x_signs x_sign x_reason x_acts x_candourAt p_row p_column p_down p_right p_cushions x_met x_reached x_firstWay x_queue x_queued x_fitting x_byCell x_wins x_ways) → lv_has ls 9 [(0, .ref (h 0)), (1, .int v1), (2, .int v2), (3, .int v3)] → fX0_ask_L16 v1 t_sights t_seenStep t_seenCell  n v2 v3 p_row p_column p_down p_right p_cushions x_fitting x_byCell = some res → W p l e (rmN 5) s m args below meth c H locs 0 0 Q (F0 m 16 ls []) := by
    intro  n
    induction n with
    | zero =>
      intro v2 v3 p_row p_column p_down p_right p_cushions x_fitting x_byCell H locs ls hw hl hf
      exact dk_n hf
    | succ n ih =>
      intro v2 v3 p_row p_column p_down p_right p_cushions x_fitting x_byCell H locs ls hw hl hf
      refine lv_iload_n hx hb dX0_ask_16 rfl (lv_at hl 3 rfl) ?_
      refine lv_sipush (v := 450) hx hb dX0_ask_17 rfl ?_
      refine lv_icmp_ge (tgt := 47) hx hb dX0_ask_20 rfl (fun c16 => ?_) (fun c16 => ?_)
      · have hf := dk_t c16 hf
        refine lv_bipush (v := (-6)) hx hb dX0_ask_47 rfl ?_
        refine lv_istore_n (lv' := [(3, .int (-6)), (0, .ref (h 0)), (1, .int v1), (2, .int v2)]) hx hb dX0_ask_49 rfl hl (by decide) rfl (fun ls hl => ?_)
        refine lv_ldc (v := 1000000) hx hb hown (hts _ q325) dX0_ask_50 ?_
        refine lv_istore (lv' := [(4, .int 1000000), (3, .int (-6)), (0, .ref (h 0)), (1, .int v1), (2, .int v2)]) hx hb dX0_ask_52 hl (by decide) rfl (fun ls hl => ?_)
        refine lv_iconst (v := 0) hx hb dX0_ask_54 rfl ?_
        refine lv_istore (lv' := [(5, .int 0), (4, .int 1000000), (3, .int (-6)), (0, .ref (h 0)), (1, .int v1), (2, .int v2)]) hx hb dX0_ask_55 hl (by decide) rfl (fun ls hl => ?_)
        exact L57 FU v2 (-6) 1000000 0 p_row p_column p_down p_right p_cushions x_fitting x_byCell _ _ _ hw (lv_sub hl [3, 4, 5, 2, 1, 0] rfl) hf
      · have hf := dk_f c16 hf
        refine lv_aload_n hx hb dX0_ask_23 rfl (lv_at hl 0 rfl) ?_
        refine lv_iload_n hx hb dX0_ask_24 rfl (lv_at hl 3 rfl) ?_
        obtain ⟨z13, hz13, hf⟩ := dk_b hf
        refine callVI (rest := []) 0 _ 0 hC hw (sm1 _) (metX0_canBe hz13) mi_X0_canBe q383 (rm_ok (by decide) (by decide)) rfl rfl rfl hl.1 rfl (Nat.le_of_ble_eq_true rfl) dX0_ask_25 ⟨Nat.zero_le _, Nat.zero_le _⟩ (sm2 _ _) (fun H locs hw => ?_)
        refine lv_if_eq (tgt := 41) hx hb dX0_ask_28 rfl (fun c15 => ?_) (fun c15 => ?_)
        · have hf := dk_t c15 hf
          refine lv_iinc (v := (v3 + 1)) (lv' := [(3, .int (v3 + 1)), (0, .ref (h 0)), (1, .int v1), (2, .int v2)]) hx hb dX0_ask_41 hl (k := 3) rfl rfl (by decide) rfl (fun ls hl => ?_)
          refine lv_goto (tgt := 16) hx hb dX0_ask_44 rfl ?_
          exact ih v2 (v3 + 1) z13.2.1 z13.2.2.1 z13.2.2.2.1 z13.2.2.2.2.1 z13.2.2.2.2.2 x_fitting x_byCell _ _ _ hw (lv_sub hl [1, 2, 3, 0] rfl) hf
        · have hf := dk_f c15 hf
          refine lv_aload_n hx hb dX0_ask_31 rfl (lv_at hl 0 rfl) ?_
          refine gX0_this_fitting hC hw dX0_ask_32 ?_
          refine lv_iload_n hx hb dX0_ask_35 rfl (lv_at hl 2 rfl) ?_
          refine lv_iload_n hx hb dX0_ask_36 rfl (lv_at hl 3 rfl) ?_
          obtain ⟨b14, hf⟩ := dk_c hf
          refine sX0_x_fitting hC hw b14 dX0_ask_37 (fun H locs hw => ?_)
          refine lv_iinc (v := (v2 + 1)) (lv' := [(2, .int (v2 + 1)), (0, .ref (h 0)), (1, .int v1), (3, .int v3)]) hx hb dX0_ask_38 hl (k := 2) rfl rfl (by decide) rfl (fun ls hl => ?_)
          refine lv_iinc (v := (v3 + 1)) (lv' := [(3, .int (v3 + 1)), (2, .int (v2 + 1)), (0, .ref (h 0)), (1, .int v1)]) hx hb dX0_ask_41 hl (k := 3) rfl rfl (by decide) rfl (fun ls hl => ?_)
          refine lv_goto (tgt := 16) hx hb dX0_ask_44 rfl ?_
          exact ih (v2 + 1) (v3 + 1) z13.2.1 z13.2.2.1 z13.2.2.2.1 z13.2.2.2.2.1 z13.2.2.2.2.2 (upd x_fitting v2.toNatClampNeg v3) x_byCell _ _ _ hw (lv_sub hl [2, 3, 1, 0] rfl) hf
  refine lv_iload_n hx hb dX0_ask_0 rfl (lv_at hl 1 rfl) ?_
  refine lv_iconst (v := 0) hx hb dX0_ask_1 rfl ?_
  refine lv_iconst (v := 1) hx hb dX0_ask_2 rfl ?_
  refine callSI (rest := []) 0 0 hC hw (st1 _) (metX0_isIn rfl) mi_X0_isIn q203 (rm_ok (by decide) (by decide)) rfl hl.1 rfl (Nat.le_of_ble_eq_true rfl) dX0_ask_3 ⟨Nat.zero_le _, Nat.zero_le _⟩ (st2 _) (fun H locs hw => ?_)
  refine lv_if_ne (tgt := 12) hx hb dX0_ask_6 rfl (fun c17 => ?_) (fun c17 => ?_)
  · have hf := dk_f c17 hf
    refine lv_iconst (v := 0) hx hb dX0_ask_12 rfl ?_
    refine lv_istore_n (lv' := [(2, .int 0), (0, .ref (h 0)), (1, .int v1)]) hx hb dX0_ask_13 rfl hl (by decide) rfl (fun ls hl => ?_)
    refine lv_iconst (v := 0) hx hb dX0_ask_14 rfl ?_
    refine lv_istore_n (lv' := [(3, .int 0), (2, .int 0), (0, .ref (h 0)), (1, .int v1)]) hx hb dX0_ask_15 rfl hl (by decide) rfl (fun ls hl => ?_)
    exact L16 FU 0 0 p_row p_column p_down p_right p_cushions x_fitting x_byCell _ _ _ hw (lv_sub hl [2, 3, 1, 0] rfl) hf
  · have hf := dk_t c17 hf
    refine lv_bipush (v := (-2)) hx hb dX0_ask_9 rfl ?_
    obtain rfl := Option.some.inj hf
    exact ret _ _ _ _ _ dX0_ask_11 rfl rfl hw
set_option maxHeartbeats 4000000 in
set_option maxRecDepth 100000 in
theorem metX0_firstOf {v1 : Int32} {v2 : Int32} {res : Int32} (hf : fX0_firstOf v1 v2 x_wins = some res) : CtI l yX0_firstOf cX0_firstOf 6 .int 1 D E sz [.ref (h 0), .int v1, .int v2] (WX0 h E t_cells t_points t_fouls t_evening t_sights t_seenStep t_seenCell t_isKept t_touches t_cushions t_p_row t_p_column t_p_down t_p_right t_p_cushions n_cells n_points n_fouls n_evening n_sights n_seenStep n_seenCell n_isKept n_touches n_cushions n_p_row n_p_column n_p_down n_p_right n_p_cushions i_cells i_points i_fouls i_evening i_sights i_seenStep i_seenCell i_isKept i_touches i_cushions i_p_row i_p_column i_p_down i_p_right i_p_cushions j_cells j_points j_fouls j_evening j_sights j_seenStep j_seenCell j_isKept j_touches j_cushions j_p_row j_p_column j_p_down j_p_right j_p_cushions x_signs x_sign x_reason x_acts x_candourAt p_row p_column p_down p_right p_cushions x_met x_reached x_firstWay x_queue x_queued x_fitting x_byCell x_wins x_ways) (WX0 h E t_cells t_points t_fouls t_evening t_sights t_seenStep t_seenCell t_isKept t_touches t_cushions t_p_row t_p_column t_p_down t_p_right t_p_cushions n_cells n_points n_fouls n_evening n_sights n_seenStep n_seenCell n_isKept n_touches n_cushions n_p_row n_p_column n_p_down n_p_right n_p_cushions i_cells i_points i_fouls i_evening i_sights i_seenStep i_seenCell i_isKept i_touches i_cushions i_p_row i_p_column i_p_down i_p_right i_p_cushions j_cells j_points j_fouls j_evening j_sights j_seenStep j_seenCell j_isKept j_touches j_cushions j_p_row j_p_column j_p_down j_p_right j_p_cushions x_signs x_sign x_reason x_acts x_candourAt p_row p_column p_down p_right p_cushions x_met x_reached x_firstWay x_queue x_queued x_fitting x_byCell x_wins x_ways) res := by
  refine startI (own := RX0) (by decide) rfl (Nat.le_of_ble_eq_true rfl) ?_
  intro p e s m args below meth c A Q ls hC ret hl hw
  have hx := hC.1.1
  have hb := hC.1.2.1
  have hown := hC.1.2.2.2.1
  have hts := hC.1.2.2.2.2
  have hl : lv_has ls 6 [(0, .ref (h 0)), (1, .int v1), (2, .int v2)] := hl
  have L43 : ∀ (k9c : Int32 → Int32 → Option (Int32)) (hk9 : ∀ (v3 : Int32) (v4 : Int32) (H : Heap) (locs : List Loc) (ls : Array Slot), Wo D A s.heap H locs (WX0 h E t_cells t_points t_fouls t_evening t_sights t_seenStep t_seenCell t_isKept t_touches t_cushions t_p_row t_p_column t_p_down t_p_right t_p_cushions n_cells n_points n_fouls n_evening n_sights n_seenStep n_seenCell n_isKept n_touches n_cushions n_p_row n_p_column n_p_down n_p_right n_p_cushions i_cells i_points i_fouls i_evening i_sights i_seenStep i_seenCell i_isKept i_touches i_cushions i_p_row i_p_column i_p_down i_p_right i_p_cushions j_cells j_points j_fouls j_evening j_sights j_seenStep j_seenCell j_isKept j_touches j_cushions j_p_row j_p_column j_p_down j_p_right j_p_cushions x_signs x_sign x_reason x_acts x_candourAt p_row p_column p_down p_right p_cushions x_met x_reached x_firstWay x_queue x_queued x_fitting x_byCell x_wins x_ways) → lv_has ls 6 [(0, .ref (h 0)), (1, .int v1), (2, .int v2), (3, .int v3), (4, .int v4)] → k9c v3 v4 = some res → W p l e (rmN 1) s m args below meth c H locs 0 0 Q (F0 m 9 ls [])) (v3 : Int32) (v4 : Int32) (k0 : Int32) (H : Heap) (locs : List Loc) (ls : Array Slot), Wo D A s.heap H locs (WX0 h E t_cells t_points t_fouls t_evening t_sights t_seenStep t_seenCell t_isKept t_touches t_cushions t_p_row t_p_column t_p_down t_p_right t_p_cushions n_cells n_points n_fouls n_evening n_sights n_seenStep n_seenCell n_isKept n_touches n_cushions n_p_row n_p_column n_p_down n_p_right n_p_cushions i_cells i_points i_fouls i_evening i_sights i_seenStep i_seenCell i_isKept i_touches i_cushions i_p_row i_p_column i_p_down i_p_right i_p_cushions j_cells j_points j_fouls j_evening j_sights j_seenStep j_seenCell j_isKept j_touches j_cushions j_p_row j_p_column j_p_down j_p_right j_p_cushions x_signs x_sign x_reason x_acts x_candourAt p_row p_column p_down p_right p_cushions x_met x_reached x_firstWay x_queue x_queued x_fitting x_byCell x_wins x_ways) → lv_has ls 6 [(0, .ref (h 0)), (1, .int v1), (2, .int v2), (3, .int v3), (4, .int v4)] → fX0_firstOf_L43 v1 v2 x_wins k9c v3 v4 k0 = some res → W p l e (rmN 1) s m args below meth c H locs 0 0 Q (F0 m 43 ls [.int k0]) := by
    intro k9c hk9 v3 v4 k0 H locs ls hw hl hf
    refine lv_istore (lv' := [(5, .int k0), (0, .ref (h 0)), (1, .int v1), (2, .int v2), (3, .int v3), (4, .int v4)]) hx hb dX0_firstOf_43 hl (by decide) rfl (fun ls hl => ?_)
    refine lv_iload hx hb dX0_firstOf_45 (lv_at hl 0 rfl) ?_
    refine lv_if_lt (tgt := 65) hx hb dX0_firstOf_47 rfl (fun c8 => ?_) (fun c8 => ?_)
    · have hf := dk_t c8 hf
      refine lv_iinc (v := (v4 + 1)) (lv' := [(4, .int (v4 + 1)), (5, .int k0), (0, .ref (h 0)), (1, .int v1), (2, .int v2), (3, .int v3)]) hx hb dX0_firstOf_65 hl (k := 5) rfl rfl (by decide) rfl (fun ls hl => ?_)
      refine lv_goto (tgt := 9) hx hb dX0_firstOf_68 rfl ?_
      exact hk9 v3 (v4 + 1) _ _ _ hw (lv_sub hl [2, 3, 4, 5, 0] rfl) hf
    · have hf := dk_f c8 hf
      refine lv_aload_n hx hb dX0_firstOf_50 rfl (lv_at hl 1 rfl) ?_
      refine gX0_this_wins hC hw dX0_firstOf_51 ?_
      refine lv_iload_n hx hb dX0_firstOf_54 rfl (lv_at hl 4 rfl) ?_
      refine lv_iload hx hb dX0_firstOf_55 (lv_at hl 0 rfl) ?_
      refine lv_iadd hx hb dX0_firstOf_57 ?_
      obtain ⟨b6, hf⟩ := dk_c hf
      refine aX0_x_wins hC hw b6 dX0_firstOf_58 ?_
      refine lv_if_ne (tgt := 65) hx hb dX0_firstOf_59 rfl (fun c7 => ?_) (fun c7 => ?_)
      · have hf := dk_f c7 hf
        refine lv_iinc (v := (v4 + 1)) (lv' := [(4, .int (v4 + 1)), (5, .int k0), (0, .ref (h 0)), (1, .int v1), (2, .int v2), (3, .int v3)]) hx hb dX0_firstOf_65 hl (k := 5) rfl rfl (by decide) rfl (fun ls hl => ?_)
        refine lv_goto (tgt := 9) hx hb dX0_firstOf_68 rfl ?_
        exact hk9 v3 (v4 + 1) _ _ _ hw (lv_sub hl [2, 3, 4, 5, 0] rfl) hf
      · have hf := dk_t c7 hf
        refine lv_iload hx hb dX0_firstOf_62 (lv_at hl 5 rfl) ?_
        exact ret _ _ _ _ _ dX0_firstOf_64 rfl (Option.some.inj hf) hw
  have L9 : ∀ (n : Nat), ∀ (v3 : Int32) (v4 : Int32) (H : Heap) (locs : List Loc) (ls : Array Slot), Wo D A s.heap H locs (WX0 h E t_cells t_points t_fouls t_evening t_sights t_seenStep t_seenCell t_isKept t_touches t_cushions t_p_row t_p_column t_p_down t_p_right t_p_cushions n_cells n_points n_fouls n_evening n_sights n_seenStep n_seenCell n_isKept n_touches n_cushions n_p_row n_p_column n_p_down n_p_right n_p_cushions i_cells i_points i_fouls i_evening i_sights i_seenStep i_seenCell i_isKept i_touches i_cushions i_p_row i_p_column i_p_down i_p_right i_p_cushions j_cells j_points j_fouls j_evening j_sights j_seenStep j_seenCell j_isKept j_touches j_cushions j_p_row j_p_column j_p_down j_p_right j_p_cushions x_signs x_sign x_reason x_acts x_candourAt p_row p_column p_down p_right p_cushions x_met x_reached x_firstWay x_queue x_queued x_fitting x_byCell x_wins x_ways) → lv_has ls 6 [(0, .ref (h 0)), (1, .int v1), (2, .int v2), (3, .int v3), (4, .int v4)] → fX0_firstOf_L9 v1 v2 x_wins  n v3 v4 = some res → W p l e (rmN 1) s m args below meth c H locs 0 0 Q (F0 m 9 ls []) := by
    intro  n
    induction n with
    | zero =>
      intro v3 v4 H locs ls hw hl hf
      exact dk_n hf
    | succ n ih =>
      intro v3 v4 H locs ls hw hl hf
      refine lv_iload hx hb dX0_firstOf_9 (lv_at hl 4 rfl) ?_
      refine lv_bipush (v := 30) hx hb dX0_firstOf_11 rfl ?_
      refine lv_icmp_ge (tgt := 71) hx hb dX0_firstOf_13 rfl (fun c10 => ?_) (fun c10 => ?_)
      · have hf := dk_t c10 hf
        refine lv_iload_n hx hb dX0_firstOf_71 rfl (lv_at hl 2 rfl) ?_
        refine lv_iconst (v := 1) hx hb dX0_firstOf_72 rfl ?_
        refine lv_icmp_ne (tgt := 94) hx hb dX0_firstOf_73 rfl (fun c4 => ?_) (fun c4 => ?_)
        · have hf := dk_f c4 hf
          refine lv_bipush (v := (-6)) hx hb dX0_firstOf_94 rfl ?_
          exact ret _ _ _ _ _ dX0_firstOf_96 rfl (Option.some.inj hf) hw
        · have hf := dk_t c4 hf
          refine lv_iload_n hx hb dX0_firstOf_76 rfl (lv_at hl 1 rfl) ?_
          refine lv_if_le (tgt := 94) hx hb dX0_firstOf_77 rfl (fun c3 => ?_) (fun c3 => ?_)
          · have hf := dk_t c3 hf
            refine lv_bipush (v := (-6)) hx hb dX0_firstOf_94 rfl ?_
            exact ret _ _ _ _ _ dX0_firstOf_96 rfl (Option.some.inj hf) hw
          · have hf := dk_f c3 hf
            refine lv_aload_n hx hb dX0_firstOf_80 rfl (lv_at hl 0 rfl) ?_
            refine gX0_this_wins hC hw dX0_firstOf_81 ?_
            refine lv_iload_n hx hb dX0_firstOf_84 rfl (lv_at hl 1 rfl) ?_
            obtain ⟨b1, hf⟩ := dk_c hf
            refine aX0_x_wins hC hw b1 dX0_firstOf_85 ?_
            refine lv_if_ne (tgt := 94) hx hb dX0_firstOf_86 rfl (fun c2 => ?_) (fun c2 => ?_)
            · have hf := dk_f c2 hf
              refine lv_bipush (v := (-6)) hx hb dX0_firstOf_94 rfl ?_
              exact ret _ _ _ _ _ dX0_firstOf_96 rfl (Option.some.inj hf) hw
            · have hf := dk_t c2 hf
              refine lv_bipush (v := 99) hx hb dX0_firstOf_89 rfl ?_
              refine lv_goto (tgt := 96) hx hb dX0_firstOf_91 rfl ?_
              exact ret _ _ _ _ _ dX0_firstOf_96 rfl (Option.some.inj hf) hw
      · have hf := dk_f c10 hf
        refine lv_iload hx hb dX0_firstOf_16 (lv_at hl 4 rfl) ?_
        refine lv_bipush (v := 10) hx hb dX0_firstOf_18 rfl ?_
        refine lv_irem hx hb dX0_firstOf_20 (by decide) ?_
        refine lv_if_ne (tgt := 29) hx hb dX0_firstOf_21 rfl (fun c9 => ?_) (fun c9 => ?_)
        · have hf := dk_f c9 hf
          refine lv_iload_n hx hb dX0_firstOf_29 rfl (lv_at hl 1 rfl) ?_
          refine lv_iload hx hb dX0_firstOf_30 (lv_at hl 4 rfl) ?_
          refine lv_bipush (v := 10) hx hb dX0_firstOf_32 rfl ?_
          refine lv_idiv hx hb dX0_firstOf_34 (by decide) ?_
          refine lv_iload hx hb dX0_firstOf_35 (lv_at hl 4 rfl) ?_
          refine lv_bipush (v := 10) hx hb dX0_firstOf_37 rfl ?_
          refine lv_irem hx hb dX0_firstOf_39 (by decide) ?_
          obtain ⟨z5, hz5, hf⟩ := dk_b hf
          refine callSI (rest := []) 0 0 hC hw (st1 _) (metX0_taken hz5) mi_X0_taken q406 (rm_ok (by decide) (by decide)) rfl hl.1 rfl (Nat.le_of_ble_eq_true rfl) dX0_firstOf_40 ⟨Nat.zero_le _, Nat.zero_le _⟩ (st2 _) (fun H locs hw => ?_)
          exact L43 (fun y0 y1 => fX0_firstOf_L9 v1 v2 x_wins n y0 y1) ih v3 v4 z5 _ _ _ hw (lv_sub hl [0, 1, 2, 3, 4] rfl) hf
        · have hf := dk_t c9 hf
          refine lv_bipush (v := (-6)) hx hb dX0_firstOf_24 rfl ?_
          refine lv_goto (tgt := 43) hx hb dX0_firstOf_26 rfl ?_
          exact L43 (fun y0 y1 => fX0_firstOf_L9 v1 v2 x_wins n y0 y1) ih v3 v4 (-6) _ _ _ hw (lv_sub hl [0, 1, 2, 3, 4] rfl) hf
  refine lv_iload_n hx hb dX0_firstOf_0 rfl (lv_at hl 2 rfl) ?_
  refine lv_sipush (v := 1000) hx hb dX0_firstOf_1 rfl ?_
  refine lv_imul hx hb dX0_firstOf_4 ?_
  refine lv_istore_n (lv' := [(3, .int (v2 * 1000)), (0, .ref (h 0)), (1, .int v1), (2, .int v2)]) hx hb dX0_firstOf_5 rfl hl (by decide) rfl (fun ls hl => ?_)
  refine lv_iconst (v := 1) hx hb dX0_firstOf_6 rfl ?_
  refine lv_istore (lv' := [(4, .int 1), (3, .int (v2 * 1000)), (0, .ref (h 0)), (1, .int v1), (2, .int v2)]) hx hb dX0_firstOf_7 hl (by decide) rfl (fun ls hl => ?_)
  exact L9 FU (v2 * 1000) 1 _ _ _ hw (lv_sub hl [2, 3, 4, 1, 0] rfl) hf
set_option maxHeartbeats 4000000 in
set_option maxRecDepth 100000 in
theorem metX0_chalk {v1 : Int32} {v2 : Int32} {v3 : Int32} {res : Int32 × (Nat → Int32)} (hf : fX0_chalk v1 v2 v3 x_wins = some res) : CtI l yX0_chalk cX0_chalk 6 .int 2 D E sz [.ref (h 0), .int v1, .int v2, .int v3] (WX0 h E t_cells t_points t_fouls t_evening t_sights t_seenStep t_seenCell t_isKept t_touches t_cushions t_p_row t_p_column t_p_down t_p_right t_p_cushions n_cells n_points n_fouls n_evening n_sights n_seenStep n_seenCell n_isKept n_touches n_cushions n_p_row n_p_column n_p_down n_p_right n_p_cushions i_cells i_points i_fouls i_evening i_sights i_seenStep i_seenCell i_isKept i_touches i_cushions i_p_row i_p_column i_p_down i_p_right i_p_cushions j_cells j_points j_fouls j_evening j_sights j_seenStep j_seenCell j_isKept j_touches j_cushions j_p_row j_p_column j_p_down j_p_right j_p_cushions x_signs x_sign x_reason x_acts x_candourAt p_row p_column p_down p_right p_cushions x_met x_reached x_firstWay x_queue x_queued x_fitting x_byCell x_wins x_ways) (WX0 h E t_cells t_points t_fouls t_evening t_sights t_seenStep t_seenCell t_isKept t_touches t_cushions t_p_row t_p_column t_p_down t_p_right t_p_cushions n_cells n_points n_fouls n_evening n_sights n_seenStep n_seenCell n_isKept n_touches n_cushions n_p_row n_p_column n_p_down n_p_right n_p_cushions i_cells i_points i_fouls i_evening i_sights i_seenStep i_seenCell i_isKept i_touches i_cushions i_p_row i_p_column i_p_down i_p_right i_p_cushions j_cells j_points j_fouls j_evening j_sights j_seenStep j_seenCell j_isKept j_touches j_cushions j_p_row j_p_column j_p_down j_p_right j_p_cushions x_signs x_sign x_reason x_acts x_candourAt p_row p_column p_down p_right p_cushions x_met x_reached x_firstWay x_queue x_queued x_fitting x_byCell res.2 x_ways) res.1 := by
  refine startI (own := RX0) (by decide) rfl (Nat.le_of_ble_eq_true rfl) ?_
  intro p e s m args below meth c A Q ls hC ret hl hw
  have hx := hC.1.1
  have hb := hC.1.2.1
  have hown := hC.1.2.2.2.1
  have hts := hC.1.2.2.2.2
  have hl : lv_has ls 6 [(0, .ref (h 0)), (1, .int v1), (2, .int v2), (3, .int v3)] := hl
  have L44 : ∀ (k35c : Int32 → (Nat → Int32) → Option (Int32 × (Nat → Int32))) (hk35 : ∀ (v4 : Int32) (x_wins : Nat → Int32) (H : Heap) (locs : List Loc) (ls : Array Slot), Wo D A s.heap H locs (WX0 h E t_cells t_points t_fouls t_evening t_sights t_seenStep t_seenCell t_isKept t_touches t_cushions t_p_row t_p_column t_p_down t_p_right t_p_cushions n_cells n_points n_fouls n_evening n_sights n_seenStep n_seenCell n_isKept n_touches n_cushions n_p_row n_p_column n_p_down n_p_right n_p_cushions i_cells i_points i_fouls i_evening i_sights i_seenStep i_seenCell i_isKept i_touches i_cushions i_p_row i_p_column i_p_down i_p_right i_p_cushions j_cells j_points j_fouls j_evening j_sights j_seenStep j_seenCell j_isKept j_touches j_cushions j_p_row j_p_column j_p_down j_p_right j_p_cushions x_signs x_sign x_reason x_acts x_candourAt p_row p_column p_down p_right p_cushions x_met x_reached x_firstWay x_queue x_queued x_fitting x_byCell x_wins x_ways) → lv_has ls 6 [(0, .ref (h 0)), (1, .int v1), (2, .int v2), (3, .int v3), (4, .int v4)] → k35c v4 x_wins = some res → W p l e (rmN 2) s m args below meth c H locs 0 0 Q (F0 m 35 ls [])) (n : Nat), ∀ (v4 : Int32) (v5 : Int32) (x_wins : Nat → Int32) (H : Heap) (locs : List Loc) (ls : Array Slot), Wo D A s.heap H locs (WX0 h E t_cells t_points t_fouls t_evening t_sights t_seenStep t_seenCell t_isKept t_touches t_cushions t_p_row t_p_column t_p_down t_p_right t_p_cushions n_cells n_points n_fouls n_evening n_sights n_seenStep n_seenCell n_isKept n_touches n_cushions n_p_row n_p_column n_p_down n_p_right n_p_cushions i_cells i_points i_fouls i_evening i_sights i_seenStep i_seenCell i_isKept i_touches i_cushions i_p_row i_p_column i_p_down i_p_right i_p_cushions j_cells j_points j_fouls j_evening j_sights j_seenStep j_seenCell j_isKept j_touches j_cushions j_p_row j_p_column j_p_down j_p_right j_p_cushions x_signs x_sign x_reason x_acts x_candourAt p_row p_column p_down p_right p_cushions x_met x_reached x_firstWay x_queue x_queued x_fitting x_byCell x_wins x_ways) → lv_has ls 6 [(0, .ref (h 0)), (1, .int v1), (2, .int v2), (3, .int v3), (4, .int v4), (5, .int v5)] → fX0_chalk_L44 v1 v2 v3 k35c n v4 v5 x_wins = some res → W p l e (rmN 2) s m args below meth c H locs 0 0 Q (F0 m 44 ls []) := by
    intro k35c hk35 n
    induction n with
    | zero =>
      intro v4 v5 x_wins H locs ls hw hl hf
      exact dk_n hf
    | succ n ih =>
      intro v4 v5 x_wins H locs ls hw hl hf
      refine lv_iload hx hb dX0_chalk_44 (lv_at hl 5 rfl) ?_
      refine lv_iload_n hx hb dX0_chalk_46 rfl (lv_at hl 1 rfl) ?_
      refine lv_icmp_gt (tgt := 86) hx hb dX0_chalk_47 rfl (fun c8 => ?_) (fun c8 => ?_)
      · have hf := dk_t c8 hf
        refine lv_iinc (v := (v4 + 1)) (lv' := [(4, .int (v4 + 1)), (0, .ref (h 0)), (1, .int v1), (2, .int v2), (3, .int v3), (5, .int v5)]) hx hb dX0_chalk_86 hl (k := 4) rfl rfl (by decide) rfl (fun ls hl => ?_)
        refine lv_goto (tgt := 35) hx hb dX0_chalk_89 rfl ?_
        exact hk35 (v4 + 1) x_wins _ _ _ hw (lv_sub hl [1, 2, 3, 4, 0] rfl) hf
      · have hf := dk_f c8 hf
        refine lv_aload_n hx hb dX0_chalk_50 rfl (lv_at hl 0 rfl) ?_
        refine gX0_this_wins hC hw dX0_chalk_51 ?_
        refine lv_iload hx hb dX0_chalk_54 (lv_at hl 4 rfl) ?_
        refine lv_sipush (v := 1000) hx hb dX0_chalk_56 rfl ?_
        refine lv_imul hx hb dX0_chalk_59 ?_
        refine lv_iload hx hb dX0_chalk_60 (lv_at hl 5 rfl) ?_
        refine lv_iadd hx hb dX0_chalk_62 ?_
        refine lv_aload_n hx hb dX0_chalk_63 rfl (lv_at hl 0 rfl) ?_
        refine lv_iload hx hb dX0_chalk_64 (lv_at hl 5 rfl) ?_
        refine lv_iload hx hb dX0_chalk_66 (lv_at hl 4 rfl) ?_
        obtain ⟨z4, hz4, hf⟩ := dk_b hf
        refine callVI (rest := [.int ((v4 * 1000) + v5), .ref (h 30)]) 0 _ 0 hC hw (sm1 _) (metX0_firstOf hz4) mi_X0_firstOf q402 (rm_ok (by decide) (by decide)) rfl rfl rfl hl.1 rfl (Nat.le_of_ble_eq_true rfl) dX0_chalk_68 ⟨Nat.zero_le _, Nat.zero_le _⟩ (sm2 _ _) (fun H locs hw => ?_)
        refine lv_if_lt (tgt := 78) hx hb dX0_chalk_71 rfl (fun c7 => ?_) (fun c7 => ?_)
        · have hf := dk_t c7 hf
          refine lv_iconst (v := 0) hx hb dX0_chalk_78 rfl ?_
          obtain ⟨b5, hf⟩ := dk_c hf
          refine sX0_x_wins hC hw b5 dX0_chalk_79 (fun H locs hw => ?_)
          refine lv_iinc (v := (v5 + 1)) (lv' := [(5, .int (v5 + 1)), (0, .ref (h 0)), (1, .int v1), (2, .int v2), (3, .int v3), (4, .int v4)]) hx hb dX0_chalk_80 hl (k := 5) rfl rfl (by decide) rfl (fun ls hl => ?_)
          refine lv_goto (tgt := 44) hx hb dX0_chalk_83 rfl ?_
          exact ih v4 (v5 + 1) (upd x_wins ((v4 * 1000) + v5).toNatClampNeg (vp_nar .boolean 0)) _ _ _ hw (lv_sub hl [1, 2, 3, 4, 5, 0] rfl) hf
        · have hf := dk_f c7 hf
          refine lv_iconst (v := 1) hx hb dX0_chalk_74 rfl ?_
          refine lv_goto (tgt := 79) hx hb dX0_chalk_75 rfl ?_
          obtain ⟨b6, hf⟩ := dk_c hf
          refine sX0_x_wins hC hw b6 dX0_chalk_79 (fun H locs hw => ?_)
          refine lv_iinc (v := (v5 + 1)) (lv' := [(5, .int (v5 + 1)), (0, .ref (h 0)), (1, .int v1), (2, .int v2), (3, .int v3), (4, .int v4)]) hx hb dX0_chalk_80 hl (k := 5) rfl rfl (by decide) rfl (fun ls hl => ?_)
          refine lv_goto (tgt := 44) hx hb dX0_chalk_83 rfl ?_
          exact ih v4 (v5 + 1) (upd x_wins ((v4 * 1000) + v5).toNatClampNeg (vp_nar .boolean 1)) _ _ _ hw (lv_sub hl [1, 2, 3, 4, 5, 0] rfl) hf
  have L35 : ∀ (n : Nat), ∀ (v4 : Int32) (x_wins : Nat → Int32) (H : Heap) (locs : List Loc) (ls : Array Slot), Wo D A s.heap H locs (WX0 h E t_cells t_points t_fouls t_evening t_sights t_seenStep t_seenCell t_isKept t_touches t_cushions t_p_row t_p_column t_p_down t_p_right t_p_cushions n_cells n_points n_fouls n_evening n_sights n_seenStep n_seenCell n_isKept n_touches n_cushions n_p_row n_p_column n_p_down n_p_right n_p_cushions i_cells i_points i_fouls i_evening i_sights i_seenStep i_seenCell i_isKept i_touches i_cushions i_p_row i_p_column i_p_down i_p_right i_p_cushions j_cells j_points j_fouls j_evening j_sights j_seenStep j_seenCell j_isKept j_touches j_cushions j_p_row j_p_column j_p_down j_p_right j_p_cushions x_signs x_sign x_reason x_acts x_candourAt p_row p_column p_down p_right p_cushions x_met x_reached x_firstWay x_queue x_queued x_fitting x_byCell x_wins x_ways) → lv_has ls 6 [(0, .ref (h 0)), (1, .int v1), (2, .int v2), (3, .int v3), (4, .int v4)] → fX0_chalk_L35 v1 v2 v3  n v4 x_wins = some res → W p l e (rmN 2) s m args below meth c H locs 0 0 Q (F0 m 35 ls []) := by
    intro  n
    induction n with
    | zero =>
      intro v4 x_wins H locs ls hw hl hf
      exact dk_n hf
    | succ n ih =>
      intro v4 x_wins H locs ls hw hl hf
      refine lv_iload hx hb dX0_chalk_35 (lv_at hl 4 rfl) ?_
      refine lv_iload_n hx hb dX0_chalk_37 rfl (lv_at hl 2 rfl) ?_
      refine lv_icmp_gt (tgt := 92) hx hb dX0_chalk_38 rfl (fun c9 => ?_) (fun c9 => ?_)
      · have hf := dk_t c9 hf
        refine lv_aload_n hx hb dX0_chalk_92 rfl (lv_at hl 0 rfl) ?_
        refine lv_iload_n hx hb dX0_chalk_93 rfl (lv_at hl 1 rfl) ?_
        refine lv_iload_n hx hb dX0_chalk_94 rfl (lv_at hl 2 rfl) ?_
        obtain ⟨z1, hz1, hf⟩ := dk_b hf
        refine callVI (rest := []) 0 _ 0 hC hw (sm1 _) (metX0_firstOf hz1) mi_X0_firstOf q402 (rm_ok (by decide) (by decide)) rfl rfl rfl hl.1 rfl (Nat.le_of_ble_eq_true rfl) dX0_chalk_95 ⟨Nat.zero_le _, Nat.zero_le _⟩ (sm2 _ _) (fun H locs hw => ?_)
        refine lv_istore (lv' := [(4, .int z1), (0, .ref (h 0)), (1, .int v1), (2, .int v2), (3, .int v3)]) hx hb dX0_chalk_98 hl (by decide) rfl (fun ls hl => ?_)
        refine lv_iload_n hx hb dX0_chalk_100 rfl (lv_at hl 4 rfl) ?_
        refine lv_if_ne (tgt := 120) hx hb dX0_chalk_101 rfl (fun c3 => ?_) (fun c3 => ?_)
        · have hf := dk_f c3 hf
          refine lv_iload hx hb dX0_chalk_120 (lv_at hl 0 rfl) ?_
          obtain rfl := Option.some.inj hf
          exact ret _ _ _ _ _ dX0_chalk_122 rfl rfl hw
        · have hf := dk_t c3 hf
          refine lv_iload hx hb dX0_chalk_104 (lv_at hl 0 rfl) ?_
          refine lv_if_lt (tgt := 113) hx hb dX0_chalk_106 rfl (fun c2 => ?_) (fun c2 => ?_)
          · have hf := dk_t c2 hf
            refine lv_iconst (v := 0) hx hb dX0_chalk_113 rfl ?_
            refine callSI (rest := []) 0 0 hC hw (st1 _) (metX0_asNumber rfl) mi_X0_asNumber q355 (rm_ok (by decide) (by decide)) rfl hl.1 rfl (Nat.le_of_ble_eq_true rfl) dX0_chalk_114 ⟨Nat.zero_le _, Nat.zero_le _⟩ (st2 _) (fun H locs hw => ?_)
            refine lv_goto (tgt := 122) hx hb dX0_chalk_117 rfl ?_
            obtain rfl := Option.some.inj hf
            exact ret _ _ _ _ _ dX0_chalk_122 rfl rfl hw
          · have hf := dk_f c2 hf
            refine lv_iconst (v := 1) hx hb dX0_chalk_109 rfl ?_
            refine lv_goto (tgt := 114) hx hb dX0_chalk_110 rfl ?_
            refine callSI (rest := []) 0 0 hC hw (st1 _) (metX0_asNumber rfl) mi_X0_asNumber q355 (rm_ok (by decide) (by decide)) rfl hl.1 rfl (Nat.le_of_ble_eq_true rfl) dX0_chalk_114 ⟨Nat.zero_le _, Nat.zero_le _⟩ (st2 _) (fun H locs hw => ?_)
            refine lv_goto (tgt := 122) hx hb dX0_chalk_117 rfl ?_
            obtain rfl := Option.some.inj hf
            exact ret _ _ _ _ _ dX0_chalk_122 rfl rfl hw
      · have hf := dk_f c9 hf
        refine lv_iconst (v := 0) hx hb dX0_chalk_41 rfl ?_
        refine lv_istore (lv' := [(5, .int 0), (0, .ref (h 0)), (1, .int v1), (2, .int v2), (3, .int v3), (4, .int v4)]) hx hb dX0_chalk_42 hl (by decide) rfl (fun ls hl => ?_)
        exact L44 (fun y0 y1 => fX0_chalk_L35 v1 v2 v3 n y0 y1) ih FU v4 0 x_wins _ _ _ hw (lv_sub hl [1, 2, 3, 4, 5, 0] rfl) hf
  refine lv_iload_n hx hb dX0_chalk_0 rfl (lv_at hl 1 rfl) ?_
  refine lv_iconst (v := 0) hx hb dX0_chalk_1 rfl ?_
  refine lv_sipush (v := 999) hx hb dX0_chalk_2 rfl ?_
  refine callSI (rest := []) 0 0 hC hw (st1 _) (metX0_isIn rfl) mi_X0_isIn q203 (rm_ok (by decide) (by decide)) rfl hl.1 rfl (Nat.le_of_ble_eq_true rfl) dX0_chalk_5 ⟨Nat.zero_le _, Nat.zero_le _⟩ (st2 _) (fun H locs hw => ?_)
  refine lv_if_eq (tgt := 29) hx hb dX0_chalk_8 rfl (fun c12 => ?_) (fun c12 => ?_)
  · have hf := dk_t c12 hf
    refine lv_bipush (v := (-2)) hx hb dX0_chalk_29 rfl ?_
    obtain rfl := Option.some.inj hf
    exact ret _ _ _ _ _ dX0_chalk_31 rfl rfl hw
  · have hf := dk_f c12 hf
    refine lv_iload_n hx hb dX0_chalk_11 rfl (lv_at hl 2 rfl) ?_
    refine lv_iconst (v := 0) hx hb dX0_chalk_12 rfl ?_
    refine lv_iconst (v := 1) hx hb dX0_chalk_13 rfl ?_
    refine callSI (rest := []) 0 0 hC hw (st1 _) (metX0_isIn rfl) mi_X0_isIn q203 (rm_ok (by decide) (by decide)) rfl hl.1 rfl (Nat.le_of_ble_eq_true rfl) dX0_chalk_14 ⟨Nat.zero_le _, Nat.zero_le _⟩ (st2 _) (fun H locs hw => ?_)
    refine lv_if_eq (tgt := 29) hx hb dX0_chalk_17 rfl (fun c11 => ?_) (fun c11 => ?_)
    · have hf := dk_t c11 hf
      refine lv_bipush (v := (-2)) hx hb dX0_chalk_29 rfl ?_
      obtain rfl := Option.some.inj hf
      exact ret _ _ _ _ _ dX0_chalk_31 rfl rfl hw
    · have hf := dk_f c11 hf
      refine lv_iload_n hx hb dX0_chalk_20 rfl (lv_at hl 3 rfl) ?_
      refine lv_iconst (v := 0) hx hb dX0_chalk_21 rfl ?_
      refine lv_iconst (v := 1) hx hb dX0_chalk_22 rfl ?_
      refine callSI (rest := []) 0 0 hC hw (st1 _) (metX0_isIn rfl) mi_X0_isIn q203 (rm_ok (by decide) (by decide)) rfl hl.1 rfl (Nat.le_of_ble_eq_true rfl) dX0_chalk_23 ⟨Nat.zero_le _, Nat.zero_le _⟩ (st2 _) (fun H locs hw => ?_)
      refine lv_if_ne (tgt := 32) hx hb dX0_chalk_26 rfl (fun c10 => ?_) (fun c10 => ?_)
      · have hf := dk_f c10 hf
        refine lv_iconst (v := 0) hx hb dX0_chalk_32 rfl ?_
        refine lv_istore (lv' := [(4, .int 0), (0, .ref (h 0)), (1, .int v1), (2, .int v2), (3, .int v3)]) hx hb dX0_chalk_33 hl (by decide) rfl (fun ls hl => ?_)
        exact L35 FU 0 x_wins _ _ _ hw (lv_sub hl [1, 2, 3, 4, 0] rfl) hf
      · have hf := dk_t c10 hf
        refine lv_bipush (v := (-2)) hx hb dX0_chalk_29 rfl ?_
        obtain rfl := Option.some.inj hf
        exact ret _ _ _ _ _ dX0_chalk_31 rfl rfl hw
set_option maxHeartbeats 4000000 in
set_option maxRecDepth 100000 in
theorem metX0_match {v1 : Int32} {v2 : Int32} {v3 : Int32} {v4 : Int32} {v5 : Int32} {v6 : Int32} {res : Int64 × (Nat → Int64)} (hf : fX0_match v1 v2 v3 v4 v5 v6 x_ways = some res) : CtL l yX0_match cX0_match 16 121 D E sz [.ref (h 0), .int v1, .int v2, .int v3, .int v4, .int v5, .int v6] (WX0 h E t_cells t_points t_fouls t_evening t_sights t_seenStep t_seenCell t_isKept t_touches t_cushions t_p_row t_p_column t_p_down t_p_right t_p_cushions n_cells n_points n_fouls n_evening n_sights n_seenStep n_seenCell n_isKept n_touches n_cushions n_p_row n_p_column n_p_down n_p_right n_p_cushions i_cells i_points i_fouls i_evening i_sights i_seenStep i_seenCell i_isKept i_touches i_cushions i_p_row i_p_column i_p_down i_p_right i_p_cushions j_cells j_points j_fouls j_evening j_sights j_seenStep j_seenCell j_isKept j_touches j_cushions j_p_row j_p_column j_p_down j_p_right j_p_cushions x_signs x_sign x_reason x_acts x_candourAt p_row p_column p_down p_right p_cushions x_met x_reached x_firstWay x_queue x_queued x_fitting x_byCell x_wins x_ways) (WX0 h E t_cells t_points t_fouls t_evening t_sights t_seenStep t_seenCell t_isKept t_touches t_cushions t_p_row t_p_column t_p_down t_p_right t_p_cushions n_cells n_points n_fouls n_evening n_sights n_seenStep n_seenCell n_isKept n_touches n_cushions n_p_row n_p_column n_p_down n_p_right n_p_cushions i_cells i_points i_fouls i_evening i_sights i_seenStep i_seenCell i_isKept i_touches i_cushions i_p_row i_p_column i_p_down i_p_right i_p_cushions j_cells j_points j_fouls j_evening j_sights j_seenStep j_seenCell j_isKept j_touches j_cushions j_p_row j_p_column j_p_down j_p_right j_p_cushions x_signs x_sign x_reason x_acts x_candourAt p_row p_column p_down p_right p_cushions x_met x_reached x_firstWay x_queue x_queued x_fitting x_byCell x_wins res.2) res.1 := by
  refine startL (own := RX0) (by decide) rfl (Nat.le_of_ble_eq_true rfl) ?_
  intro p e s m args below meth c A Q ls hC ret hl hw
  have hx := hC.1.1
  have hb := hC.1.2.1
  have hown := hC.1.2.2.2.1
  have hts := hC.1.2.2.2.2
  have hl : lv_has ls 16 [(0, .ref (h 0)), (1, .int v1), (2, .int v2), (3, .int v3), (4, .int v4), (5, .int v5), (6, .int v6)] := hl
  have L226 : ∀ (k106c : Int32 → Int64 → Int32 → (Nat → Int64) → Option (Int64 × (Nat → Int64))) (hk106 : ∀ (v7 : Int32) (v8 : Int64) (v10 : Int32) (x_ways : Nat → Int64) (H : Heap) (locs : List Loc) (ls : Array Slot), Wo D A s.heap H locs (WX0 h E t_cells t_points t_fouls t_evening t_sights t_seenStep t_seenCell t_isKept t_touches t_cushions t_p_row t_p_column t_p_down t_p_right t_p_cushions n_cells n_points n_fouls n_evening n_sights n_seenStep n_seenCell n_isKept n_touches n_cushions n_p_row n_p_column n_p_down n_p_right n_p_cushions i_cells i_points i_fouls i_evening i_sights i_seenStep i_seenCell i_isKept i_touches i_cushions i_p_row i_p_column i_p_down i_p_right i_p_cushions j_cells j_points j_fouls j_evening j_sights j_seenStep j_seenCell j_isKept j_touches j_cushions j_p_row j_p_column j_p_down j_p_right j_p_cushions x_signs x_sign x_reason x_acts x_candourAt p_row p_column p_down p_right p_cushions x_met x_reached x_firstWay x_queue x_queued x_fitting x_byCell x_wins x_ways) → lv_has ls 16 [(0, .ref (h 0)), (1, .int v1), (2, .int v2), (3, .int v3), (4, .int v4), (5, .int v5), (6, .int v6), (7, .int v7), (8, .long v8), (10, .int v10)] → k106c v7 v8 v10 x_ways = some res → W p l e (rmN 121) s m args below meth c H locs 0 0 Q (F0 m 106 ls [])) (k116c : Int32 → Int64 → Int32 → Int32 → (Nat → Int64) → Option (Int64 × (Nat → Int64))) (hk116 : ∀ (v7 : Int32) (v8 : Int64) (v10 : Int32) (v11 : Int32) (x_ways : Nat → Int64) (H : Heap) (locs : List Loc) (ls : Array Slot), Wo D A s.heap H locs (WX0 h E t_cells t_points t_fouls t_evening t_sights t_seenStep t_seenCell t_isKept t_touches t_cushions t_p_row t_p_column t_p_down t_p_right t_p_cushions n_cells n_points n_fouls n_evening n_sights n_seenStep n_seenCell n_isKept n_touches n_cushions n_p_row n_p_column n_p_down n_p_right n_p_cushions i_cells i_points i_fouls i_evening i_sights i_seenStep i_seenCell i_isKept i_touches i_cushions i_p_row i_p_column i_p_down i_p_right i_p_cushions j_cells j_points j_fouls j_evening j_sights j_seenStep j_seenCell j_isKept j_touches j_cushions j_p_row j_p_column j_p_down j_p_right j_p_cushions x_signs x_sign x_reason x_acts x_candourAt p_row p_column p_down p_right p_cushions x_met x_reached x_firstWay x_queue x_queued x_fitting x_byCell x_wins x_ways) → lv_has ls 16 [(0, .ref (h 0)), (1, .int v1), (2, .int v2), (3, .int v3), (4, .int v4), (5, .int v5), (6, .int v6), (7, .int v7), (8, .long v8), (10, .int v10), (11, .int v11)] → k116c v7 v8 v10 v11 x_ways = some res → W p l e (rmN 121) s m args below meth c H locs 0 0 Q (F0 m 116 ls [])) (v7 : Int32) (v8 : Int64) (v10 : Int32) (v11 : Int32) (v12 : Int64) (x_ways : Nat → Int64) (H : Heap) (locs : List Loc) (ls : Array Slot), Wo D A s.heap H locs (WX0 h E t_cells t_points t_fouls t_evening t_sights t_seenStep t_seenCell t_isKept t_touches t_cushions t_p_row t_p_column t_p_down t_p_right t_p_cushions n_cells n_points n_fouls n_evening n_sights n_seenStep n_seenCell n_isKept n_touches n_cushions n_p_row n_p_column n_p_down n_p_right n_p_cushions i_cells i_points i_fouls i_evening i_sights i_seenStep i_seenCell i_isKept i_touches i_cushions i_p_row i_p_column i_p_down i_p_right i_p_cushions j_cells j_points j_fouls j_evening j_sights j_seenStep j_seenCell j_isKept j_touches j_cushions j_p_row j_p_column j_p_down j_p_right j_p_cushions x_signs x_sign x_reason x_acts x_candourAt p_row p_column p_down p_right p_cushions x_met x_reached x_firstWay x_queue x_queued x_fitting x_byCell x_wins x_ways) → lv_has ls 16 [(0, .ref (h 0)), (1, .int v1), (2, .int v2), (3, .int v3), (4, .int v4), (5, .int v5), (6, .int v6), (7, .int v7), (8, .long v8), (10, .int v10), (11, .int v11), (12, .long v12)] → fX0_match_L226 v1 v2 v3 v4 v5 v6 k106c k116c v7 v8 v10 v11 v12 x_ways = some res → W p l e (rmN 121) s m args below meth c H locs 0 0 Q (F0 m 226 ls []) := by
    intro k106c hk106 k116c hk116 v7 v8 v10 v11 v12 x_ways H locs ls hw hl hf
    refine lv_lload hx hb dX0_match_226 (lv_at hl 11 rfl) ?_
    refine lv_lconst (v := 0) hx hb dX0_match_228 rfl ?_
    refine W.lcmp hx hb dX0_match_229 ?_
    refine lv_if_le (tgt := 282) hx hb dX0_match_230 rfl (fun c13 => ?_) (fun c13 => ?_)
    · have hf := dk_t c13 hf
      refine lv_iinc (v := (v11 + 1)) (lv' := [(11, .int (v11 + 1)), (0, .ref (h 0)), (1, .int v1), (2, .int v2), (3, .int v3), (4, .int v4), (5, .int v5), (6, .int v6), (7, .int v7), (8, .long v8), (10, .int v10), (12, .long v12)]) hx hb dX0_match_282 hl (k := 10) rfl rfl (by decide) rfl (fun ls hl => ?_)
      refine lv_goto (tgt := 116) hx hb dX0_match_285 rfl ?_
      exact hk116 v7 v8 v10 (v11 + 1) x_ways _ _ _ hw (lv_sub hl [1, 2, 3, 4, 5, 6, 7, 8, 9, 10, 0] rfl) hf
    · have hf := dk_f c13 hf
      refine lv_aload_n hx hb dX0_match_233 rfl (lv_at hl 0 rfl) ?_
      refine gX0_this_ways hC hw dX0_match_234 ?_
      refine lv_bipush (v := 9) hx hb dX0_match_237 rfl ?_
      refine lv_iload hx hb dX0_match_239 (lv_at hl 9 rfl) ?_
      refine lv_iconst (v := 1) hx hb dX0_match_241 rfl ?_
      refine lv_iadd hx hb dX0_match_242 ?_
      refine lv_imul hx hb dX0_match_243 ?_
      refine lv_iload hx hb dX0_match_244 (lv_at hl 10 rfl) ?_
      refine lv_iadd hx hb dX0_match_246 ?_
      refine lv_dup2_11 hx hb dX0_match_247 rfl rfl ?_
      obtain ⟨b9, hf⟩ := dk_c hf
      refine aX0_x_ways hC hw b9 dX0_match_248 ?_
      refine lv_lload hx hb dX0_match_249 (lv_at hl 11 rfl) ?_
      refine lv_iload_n hx hb dX0_match_251 rfl (lv_at hl 2 rfl) ?_
      refine lv_i2l (v := (v2.toInt64)) hx hb dX0_match_252 rfl ?_
      refine lv_lmul hx hb dX0_match_253 ?_
      refine lv_ladd hx hb dX0_match_254 ?_
      obtain ⟨b10, hf⟩ := dk_c hf
      refine sX0_x_ways hC hw b10 dX0_match_255 (fun H locs hw => ?_)
      refine lv_aload_n hx hb dX0_match_256 rfl (lv_at hl 0 rfl) ?_
      refine gX0_this_ways hC hw dX0_match_257 ?_
      refine lv_bipush (v := 9) hx hb dX0_match_260 rfl ?_
      refine lv_iload hx hb dX0_match_262 (lv_at hl 9 rfl) ?_
      refine lv_imul hx hb dX0_match_264 ?_
      refine lv_iload hx hb dX0_match_265 (lv_at hl 10 rfl) ?_
      refine lv_iadd hx hb dX0_match_267 ?_
      refine lv_iconst (v := 1) hx hb dX0_match_268 rfl ?_
      refine lv_iadd hx hb dX0_match_269 ?_
      refine lv_dup2_11 hx hb dX0_match_270 rfl rfl ?_
      obtain ⟨b11, hf⟩ := dk_c hf
      refine aX0_x_ways hC hw b11 dX0_match_271 ?_
      refine lv_lload hx hb dX0_match_272 (lv_at hl 11 rfl) ?_
      refine lv_bipush (v := 10) hx hb dX0_match_274 rfl ?_
      refine lv_iload_n hx hb dX0_match_276 rfl (lv_at hl 2 rfl) ?_
      refine lv_isub hx hb dX0_match_277 ?_
      refine lv_i2l (v := (((10 : Int32) - v2).toInt64)) hx hb dX0_match_278 rfl ?_
      refine lv_lmul hx hb dX0_match_279 ?_
      refine lv_ladd hx hb dX0_match_280 ?_
      obtain ⟨b12, hf⟩ := dk_c hf
      refine sX0_x_ways hC hw b12 dX0_match_281 (fun H locs hw => ?_)
      refine lv_iinc (v := (v11 + 1)) (lv' := [(11, .int (v11 + 1)), (0, .ref (h 0)), (1, .int v1), (2, .int v2), (3, .int v3), (4, .int v4), (5, .int v5), (6, .int v6), (7, .int v7), (8, .long v8), (10, .int v10), (12, .long v12)]) hx hb dX0_match_282 hl (k := 10) rfl rfl (by decide) rfl (fun ls hl => ?_)
      refine lv_goto (tgt := 116) hx hb dX0_match_285 rfl ?_
      exact hk116 v7 v8 v10 (v11 + 1) (vp_updL (vp_updL x_ways (((9 : Int32) * (v10 + 1)) + v11).toNatClampNeg ((x_ways (((9 : Int32) * (v10 + 1)) + v11).toNatClampNeg) + (v12 * (v2.toInt64)))) ((((9 : Int32) * v10) + v11) + 1).toNatClampNeg (((vp_updL x_ways (((9 : Int32) * (v10 + 1)) + v11).toNatClampNeg ((x_ways (((9 : Int32) * (v10 + 1)) + v11).toNatClampNeg) + (v12 * (v2.toInt64)))) ((((9 : Int32) * v10) + v11) + 1).toNatClampNeg) + (v12 * (((10 : Int32) - v2).toInt64)))) _ _ _ hw (lv_sub hl [1, 2, 3, 4, 5, 6, 7, 8, 9, 10, 0] rfl) hf
  have L207 : ∀ (k106c : Int32 → Int64 → Int32 → (Nat → Int64) → Option (Int64 × (Nat → Int64))) (hk106 : ∀ (v7 : Int32) (v8 : Int64) (v10 : Int32) (x_ways : Nat → Int64) (H : Heap) (locs : List Loc) (ls : Array Slot), Wo D A s.heap H locs (WX0 h E t_cells t_points t_fouls t_evening t_sights t_seenStep t_seenCell t_isKept t_touches t_cushions t_p_row t_p_column t_p_down t_p_right t_p_cushions n_cells n_points n_fouls n_evening n_sights n_seenStep n_seenCell n_isKept n_touches n_cushions n_p_row n_p_column n_p_down n_p_right n_p_cushions i_cells i_points i_fouls i_evening i_sights i_seenStep i_seenCell i_isKept i_touches i_cushions i_p_row i_p_column i_p_down i_p_right i_p_cushions j_cells j_points j_fouls j_evening j_sights j_seenStep j_seenCell j_isKept j_touches j_cushions j_p_row j_p_column j_p_down j_p_right j_p_cushions x_signs x_sign x_reason x_acts x_candourAt p_row p_column p_down p_right p_cushions x_met x_reached x_firstWay x_queue x_queued x_fitting x_byCell x_wins x_ways) → lv_has ls 16 [(0, .ref (h 0)), (1, .int v1), (2, .int v2), (3, .int v3), (4, .int v4), (5, .int v5), (6, .int v6), (7, .int v7), (8, .long v8), (10, .int v10)] → k106c v7 v8 v10 x_ways = some res → W p l e (rmN 121) s m args below meth c H locs 0 0 Q (F0 m 106 ls [])) (k116c : Int32 → Int64 → Int32 → Int32 → (Nat → Int64) → Option (Int64 × (Nat → Int64))) (hk116 : ∀ (v7 : Int32) (v8 : Int64) (v10 : Int32) (v11 : Int32) (x_ways : Nat → Int64) (H : Heap) (locs : List Loc) (ls : Array Slot), Wo D A s.heap H locs (WX0 h E t_cells t_points t_fouls t_evening t_sights t_seenStep t_seenCell t_isKept t_touches t_cushions t_p_row t_p_column t_p_down t_p_right t_p_cushions n_cells n_points n_fouls n_evening n_sights n_seenStep n_seenCell n_isKept n_touches n_cushions n_p_row n_p_column n_p_down n_p_right n_p_cushions i_cells i_points i_fouls i_evening i_sights i_seenStep i_seenCell i_isKept i_touches i_cushions i_p_row i_p_column i_p_down i_p_right i_p_cushions j_cells j_points j_fouls j_evening j_sights j_seenStep j_seenCell j_isKept j_touches j_cushions j_p_row j_p_column j_p_down j_p_right j_p_cushions x_signs x_sign x_reason x_acts x_candourAt p_row p_column p_down p_right p_cushions x_met x_reached x_firstWay x_queue x_queued x_fitting x_byCell x_wins x_ways) → lv_has ls 16 [(0, .ref (h 0)), (1, .int v1), (2, .int v2), (3, .int v3), (4, .int v4), (5, .int v5), (6, .int v6), (7, .int v7), (8, .long v8), (10, .int v10), (11, .int v11)] → k116c v7 v8 v10 v11 x_ways = some res → W p l e (rmN 121) s m args below meth c H locs 0 0 Q (F0 m 116 ls [])) (v7 : Int32) (v10 : Int32) (v11 : Int32) (v12 : Int64) (v14 : Int32) (k0 : Int64) (k1 : Int32) (x_ways : Nat → Int64) (H : Heap) (locs : List Loc) (ls : Array Slot), Wo D A s.heap H locs (WX0 h E t_cells t_points t_fouls t_evening t_sights t_seenStep t_seenCell t_isKept t_touches t_cushions t_p_row t_p_column t_p_down t_p_right t_p_cushions n_cells n_points n_fouls n_evening n_sights n_seenStep n_seenCell n_isKept n_touches n_cushions n_p_row n_p_column n_p_down n_p_right n_p_cushions i_cells i_points i_fouls i_evening i_sights i_seenStep i_seenCell i_isKept i_touches i_cushions i_p_row i_p_column i_p_down i_p_right i_p_cushions j_cells j_points j_fouls j_evening j_sights j_seenStep j_seenCell j_isKept j_touches j_cushions j_p_row j_p_column j_p_down j_p_right j_p_cushions x_signs x_sign x_reason x_acts x_candourAt p_row p_column p_down p_right p_cushions x_met x_reached x_firstWay x_queue x_queued x_fitting x_byCell x_wins x_ways) → lv_has ls 16 [(0, .ref (h 0)), (1, .int v1), (2, .int v2), (3, .int v3), (4, .int v4), (5, .int v5), (6, .int v6), (7, .int v7), (10, .int v10), (11, .int v11), (12, .long v12), (14, .int v14)] → fX0_match_L207 v1 v2 v3 v4 v5 v6 k106c k116c v7 v10 v11 v12 v14 k0 k1 x_ways = some res → W p l e (rmN 121) s m args below meth c H locs 0 0 Q (F0 m 207 ls [.int k1, .long k0]) := by
    intro k106c hk106 k116c hk116 v7 v10 v11 v12 v14 k0 k1 x_ways H locs ls hw hl hf
    refine lv_i2l (v := (k1.toInt64)) hx hb dX0_match_207 rfl ?_
    refine lv_lload hx hb dX0_match_208 (lv_at hl 10 rfl) ?_
    refine lv_lmul hx hb dX0_match_210 ?_
    refine lv_iload hx hb dX0_match_211 (lv_at hl 7 rfl) ?_
    refine lv_iload hx hb dX0_match_213 (lv_at hl 11 rfl) ?_
    refine lv_isub hx hb dX0_match_215 ?_
    obtain ⟨z14, hz14, hf⟩ := dk_b hf
    refine callSL (rest := [.long ((k1.toInt64) * v12), .long k0]) 0 0 hC hw (st1 _) (metX0_power hz14) mi_X0_power q417 (rm_ok (by decide) (by decide)) rfl hl.1 rfl (Nat.le_of_ble_eq_true rfl) dX0_match_216 ⟨Nat.zero_le _, Nat.zero_le _⟩ (st2 _) (fun H locs hw => ?_)
    refine lv_lmul hx hb dX0_match_219 ?_
    refine lv_ladd hx hb dX0_match_220 ?_
    refine lv_lstore (lv' := [(8, .long (k0 + (((k1.toInt64) * v12) * z14))), (0, .ref (h 0)), (1, .int v1), (2, .int v2), (3, .int v3), (4, .int v4), (5, .int v5), (6, .int v6), (7, .int v7), (10, .int v10), (11, .int v11), (12, .long v12), (14, .int v14)]) hx hb dX0_match_221 hl (by decide) rfl (fun ls hl => ?_)
    refine lv_goto (tgt := 282) hx hb dX0_match_223 rfl ?_
    refine lv_iinc (v := (v11 + 1)) (lv' := [(11, .int (v11 + 1)), (8, .long (k0 + (((k1.toInt64) * v12) * z14))), (0, .ref (h 0)), (1, .int v1), (2, .int v2), (3, .int v3), (4, .int v4), (5, .int v5), (6, .int v6), (7, .int v7), (10, .int v10), (12, .long v12), (14, .int v14)]) hx hb dX0_match_282 hl (k := 10) rfl rfl (by decide) rfl (fun ls hl => ?_)
    refine lv_goto (tgt := 116) hx hb dX0_match_285 rfl ?_
    exact hk116 v7 (k0 + (((k1.toInt64) * v12) * z14)) v10 (v11 + 1) x_ways _ _ _ hw (lv_sub hl [2, 3, 4, 5, 6, 7, 8, 9, 1, 10, 0] rfl) hf
  have L166 : ∀ (k106c : Int32 → Int64 → Int32 → (Nat → Int64) → Option (Int64 × (Nat → Int64))) (hk106 : ∀ (v7 : Int32) (v8 : Int64) (v10 : Int32) (x_ways : Nat → Int64) (H : Heap) (locs : List Loc) (ls : Array Slot), Wo D A s.heap H locs (WX0 h E t_cells t_points t_fouls t_evening t_sights t_seenStep t_seenCell t_isKept t_touches t_cushions t_p_row t_p_column t_p_down t_p_right t_p_cushions n_cells n_points n_fouls n_evening n_sights n_seenStep n_seenCell n_isKept n_touches n_cushions n_p_row n_p_column n_p_down n_p_right n_p_cushions i_cells i_points i_fouls i_evening i_sights i_seenStep i_seenCell i_isKept i_touches i_cushions i_p_row i_p_column i_p_down i_p_right i_p_cushions j_cells j_points j_fouls j_evening j_sights j_seenStep j_seenCell j_isKept j_touches j_cushions j_p_row j_p_column j_p_down j_p_right j_p_cushions x_signs x_sign x_reason x_acts x_candourAt p_row p_column p_down p_right p_cushions x_met x_reached x_firstWay x_queue x_queued x_fitting x_byCell x_wins x_ways) → lv_has ls 16 [(0, .ref (h 0)), (1, .int v1), (2, .int v2), (3, .int v3), (4, .int v4), (5, .int v5), (6, .int v6), (7, .int v7), (8, .long v8), (10, .int v10)] → k106c v7 v8 v10 x_ways = some res → W p l e (rmN 121) s m args below meth c H locs 0 0 Q (F0 m 106 ls [])) (k116c : Int32 → Int64 → Int32 → Int32 → (Nat → Int64) → Option (Int64 × (Nat → Int64))) (hk116 : ∀ (v7 : Int32) (v8 : Int64) (v10 : Int32) (v11 : Int32) (x_ways : Nat → Int64) (H : Heap) (locs : List Loc) (ls : Array Slot), Wo D A s.heap H locs (WX0 h E t_cells t_points t_fouls t_evening t_sights t_seenStep t_seenCell t_isKept t_touches t_cushions t_p_row t_p_column t_p_down t_p_right t_p_cushions n_cells n_points n_fouls n_evening n_sights n_seenStep n_seenCell n_isKept n_touches n_cushions n_p_row n_p_column n_p_down n_p_right n_p_cushions i_cells i_points i_fouls i_evening i_sights i_seenStep i_seenCell i_isKept i_touches i_cushions i_p_row i_p_column i_p_down i_p_right i_p_cushions j_cells j_points j_fouls j_evening j_sights j_seenStep j_seenCell j_isKept j_touches j_cushions j_p_row j_p_column j_p_down j_p_right j_p_cushions x_signs x_sign x_reason x_acts x_candourAt p_row p_column p_down p_right p_cushions x_met x_reached x_firstWay x_queue x_queued x_fitting x_byCell x_wins x_ways) → lv_has ls 16 [(0, .ref (h 0)), (1, .int v1), (2, .int v2), (3, .int v3), (4, .int v4), (5, .int v5), (6, .int v6), (7, .int v7), (8, .long v8), (10, .int v10), (11, .int v11)] → k116c v7 v8 v10 v11 x_ways = some res → W p l e (rmN 121) s m args below meth c H locs 0 0 Q (F0 m 116 ls [])) (v7 : Int32) (v8 : Int64) (v10 : Int32) (v11 : Int32) (v12 : Int64) (v14 : Int32) (k0 : Int32) (x_ways : Nat → Int64) (H : Heap) (locs : List Loc) (ls : Array Slot), Wo D A s.heap H locs (WX0 h E t_cells t_points t_fouls t_evening t_sights t_seenStep t_seenCell t_isKept t_touches t_cushions t_p_row t_p_column t_p_down t_p_right t_p_cushions n_cells n_points n_fouls n_evening n_sights n_seenStep n_seenCell n_isKept n_touches n_cushions n_p_row n_p_column n_p_down n_p_right n_p_cushions i_cells i_points i_fouls i_evening i_sights i_seenStep i_seenCell i_isKept i_touches i_cushions i_p_row i_p_column i_p_down i_p_right i_p_cushions j_cells j_points j_fouls j_evening j_sights j_seenStep j_seenCell j_isKept j_touches j_cushions j_p_row j_p_column j_p_down j_p_right j_p_cushions x_signs x_sign x_reason x_acts x_candourAt p_row p_column p_down p_right p_cushions x_met x_reached x_firstWay x_queue x_queued x_fitting x_byCell x_wins x_ways) → lv_has ls 16 [(0, .ref (h 0)), (1, .int v1), (2, .int v2), (3, .int v3), (4, .int v4), (5, .int v5), (6, .int v6), (7, .int v7), (8, .long v8), (10, .int v10), (11, .int v11), (12, .long v12), (14, .int v14)] → fX0_match_L166 v1 v2 v3 v4 v5 v6 k106c k116c v7 v8 v10 v11 v12 v14 k0 x_ways = some res → W p l e (rmN 121) s m args below meth c H locs 0 0 Q (F0 m 166 ls [.int k0]) := by
    intro k106c hk106 k116c hk116 v7 v8 v10 v11 v12 v14 k0 x_ways H locs ls hw hl hf
    refine lv_istore (lv' := [(15, .int k0), (0, .ref (h 0)), (1, .int v1), (2, .int v2), (3, .int v3), (4, .int v4), (5, .int v5), (6, .int v6), (7, .int v7), (8, .long v8), (10, .int v10), (11, .int v11), (12, .long v12), (14, .int v14)]) hx hb dX0_match_166 hl (by decide) rfl (fun ls hl => ?_)
    refine lv_iload hx hb dX0_match_168 (lv_at hl 0 rfl) ?_
    refine lv_if_eq (tgt := 226) hx hb dX0_match_170 rfl (fun c18 => ?_) (fun c18 => ?_)
    · have hf := dk_t c18 hf
      exact L226 k106c hk106 k116c hk116 v7 v8 v10 v11 v12 x_ways _ _ _ hw (lv_sub hl [1, 2, 3, 4, 5, 6, 7, 8, 9, 10, 11, 12] rfl) hf
    · have hf := dk_f c18 hf
      refine lv_lload hx hb dX0_match_173 (lv_at hl 12 rfl) ?_
      refine lv_lconst (v := 0) hx hb dX0_match_175 rfl ?_
      refine W.lcmp hx hb dX0_match_176 ?_
      refine lv_if_le (tgt := 226) hx hb dX0_match_177 rfl (fun c17 => ?_) (fun c17 => ?_)
      · have hf := dk_t c17 hf
        exact L226 k106c hk106 k116c hk116 v7 v8 v10 v11 v12 x_ways _ _ _ hw (lv_sub hl [1, 2, 3, 4, 5, 6, 7, 8, 9, 10, 11, 12] rfl) hf
      · have hf := dk_f c17 hf
        refine lv_lload hx hb dX0_match_180 (lv_at hl 9 rfl) ?_
        refine lv_iload hx hb dX0_match_182 (lv_at hl 6 rfl) ?_
        refine lv_iconst (v := 1) hx hb dX0_match_184 rfl ?_
        refine lv_icmp_ne (tgt := 193) hx hb dX0_match_185 rfl (fun c16 => ?_) (fun c16 => ?_)
        · have hf := dk_f c16 hf
          refine lv_iload hx hb dX0_match_193 (lv_at hl 10 rfl) ?_
          refine lv_iload_n hx hb dX0_match_195 rfl (lv_at hl 2 rfl) ?_
          refine lv_icmp_ne (tgt := 203) hx hb dX0_match_196 rfl (fun c15 => ?_) (fun c15 => ?_)
          · have hf := dk_f c15 hf
            refine lv_iconst (v := 0) hx hb dX0_match_203 rfl ?_
            refine callSI (rest := [.long v8]) 0 0 hC hw (st1 _) (metX0_asNumber rfl) mi_X0_asNumber q355 (rm_ok (by decide) (by decide)) rfl hl.1 rfl (Nat.le_of_ble_eq_true rfl) dX0_match_204 ⟨Nat.zero_le _, Nat.zero_le _⟩ (st2 _) (fun H locs hw => ?_)
            exact L207 k106c hk106 k116c hk116 v7 v10 v11 v12 v14 v8 (fX0_asNumber 0) x_ways _ _ _ hw (lv_sub hl [1, 2, 3, 4, 5, 6, 7, 8, 10, 11, 12, 13] rfl) hf
          · have hf := dk_t c15 hf
            refine lv_iconst (v := 1) hx hb dX0_match_199 rfl ?_
            refine lv_goto (tgt := 204) hx hb dX0_match_200 rfl ?_
            refine callSI (rest := [.long v8]) 0 0 hC hw (st1 _) (metX0_asNumber rfl) mi_X0_asNumber q355 (rm_ok (by decide) (by decide)) rfl hl.1 rfl (Nat.le_of_ble_eq_true rfl) dX0_match_204 ⟨Nat.zero_le _, Nat.zero_le _⟩ (st2 _) (fun H locs hw => ?_)
            exact L207 k106c hk106 k116c hk116 v7 v10 v11 v12 v14 v8 (fX0_asNumber 1) x_ways _ _ _ hw (lv_sub hl [1, 2, 3, 4, 5, 6, 7, 8, 10, 11, 12, 13] rfl) hf
        · have hf := dk_t c16 hf
          refine lv_iload hx hb dX0_match_188 (lv_at hl 13 rfl) ?_
          refine lv_goto (tgt := 207) hx hb dX0_match_190 rfl ?_
          exact L207 k106c hk106 k116c hk116 v7 v10 v11 v12 v14 v8 v14 x_ways _ _ _ hw (lv_sub hl [1, 2, 3, 4, 5, 6, 7, 8, 10, 11, 12, 13] rfl) hf
  have L116 : ∀ (k106c : Int32 → Int64 → Int32 → (Nat → Int64) → Option (Int64 × (Nat → Int64))) (hk106 : ∀ (v7 : Int32) (v8 : Int64) (v10 : Int32) (x_ways : Nat → Int64) (H : Heap) (locs : List Loc) (ls : Array Slot), Wo D A s.heap H locs (WX0 h E t_cells t_points t_fouls t_evening t_sights t_seenStep t_seenCell t_isKept t_touches t_cushions t_p_row t_p_column t_p_down t_p_right t_p_cushions n_cells n_points n_fouls n_evening n_sights n_seenStep n_seenCell n_isKept n_touches n_cushions n_p_row n_p_column n_p_down n_p_right n_p_cushions i_cells i_points i_fouls i_evening i_sights i_seenStep i_seenCell i_isKept i_touches i_cushions i_p_row i_p_column i_p_down i_p_right i_p_cushions j_cells j_points j_fouls j_evening j_sights j_seenStep j_seenCell j_isKept j_touches j_cushions j_p_row j_p_column j_p_down j_p_right j_p_cushions x_signs x_sign x_reason x_acts x_candourAt p_row p_column p_down p_right p_cushions x_met x_reached x_firstWay x_queue x_queued x_fitting x_byCell x_wins x_ways) → lv_has ls 16 [(0, .ref (h 0)), (1, .int v1), (2, .int v2), (3, .int v3), (4, .int v4), (5, .int v5), (6, .int v6), (7, .int v7), (8, .long v8), (10, .int v10)] → k106c v7 v8 v10 x_ways = some res → W p l e (rmN 121) s m args below meth c H locs 0 0 Q (F0 m 106 ls [])) (n : Nat), ∀ (v7 : Int32) (v8 : Int64) (v10 : Int32) (v11 : Int32) (x_ways : Nat → Int64) (H : Heap) (locs : List Loc) (ls : Array Slot), Wo D A s.heap H locs (WX0 h E t_cells t_points t_fouls t_evening t_sights t_seenStep t_seenCell t_isKept t_touches t_cushions t_p_row t_p_column t_p_down t_p_right t_p_cushions n_cells n_points n_fouls n_evening n_sights n_seenStep n_seenCell n_isKept n_touches n_cushions n_p_row n_p_column n_p_down n_p_right n_p_cushions i_cells i_points i_fouls i_evening i_sights i_seenStep i_seenCell i_isKept i_touches i_cushions i_p_row i_p_column i_p_down i_p_right i_p_cushions j_cells j_points j_fouls j_evening j_sights j_seenStep j_seenCell j_isKept j_touches j_cushions j_p_row j_p_column j_p_down j_p_right j_p_cushions x_signs x_sign x_reason x_acts x_candourAt p_row p_column p_down p_right p_cushions x_met x_reached x_firstWay x_queue x_queued x_fitting x_byCell x_wins x_ways) → lv_has ls 16 [(0, .ref (h 0)), (1, .int v1), (2, .int v2), (3, .int v3), (4, .int v4), (5, .int v5), (6, .int v6), (7, .int v7), (8, .long v8), (10, .int v10), (11, .int v11)] → fX0_match_L116 v1 v2 v3 v4 v5 v6 k106c n v7 v8 v10 v11 x_ways = some res → W p l e (rmN 121) s m args below meth c H locs 0 0 Q (F0 m 116 ls []) := by
    intro k106c hk106 n
    induction n with
    | zero =>
      intro v7 v8 v10 v11 x_ways H locs ls hw hl hf
      exact dk_n hf
    | succ n ih =>
      intro v7 v8 v10 v11 x_ways H locs ls hw hl hf
      refine lv_iload hx hb dX0_match_116 (lv_at hl 10 rfl) ?_
      refine lv_iload_n hx hb dX0_match_118 rfl (lv_at hl 1 rfl) ?_
      refine lv_icmp_gt (tgt := 288) hx hb dX0_match_119 rfl (fun c21 => ?_) (fun c21 => ?_)
      · have hf := dk_t c21 hf
        refine lv_iinc (v := (v10 + 1)) (lv' := [(10, .int (v10 + 1)), (0, .ref (h 0)), (1, .int v1), (2, .int v2), (3, .int v3), (4, .int v4), (5, .int v5), (6, .int v6), (7, .int v7), (8, .long v8), (11, .int v11)]) hx hb dX0_match_288 hl (k := 9) rfl rfl (by decide) rfl (fun ls hl => ?_)
        refine lv_goto (tgt := 106) hx hb dX0_match_291 rfl ?_
        exact hk106 v7 v8 (v10 + 1) x_ways _ _ _ hw (lv_sub hl [1, 2, 3, 4, 5, 6, 7, 8, 9, 0] rfl) hf
      · have hf := dk_f c21 hf
        refine lv_aload_n hx hb dX0_match_122 rfl (lv_at hl 0 rfl) ?_
        refine gX0_this_ways hC hw dX0_match_123 ?_
        refine lv_bipush (v := 9) hx hb dX0_match_126 rfl ?_
        refine lv_iload hx hb dX0_match_128 (lv_at hl 9 rfl) ?_
        refine lv_imul hx hb dX0_match_130 ?_
        refine lv_iload hx hb dX0_match_131 (lv_at hl 10 rfl) ?_
        refine lv_iadd hx hb dX0_match_133 ?_
        obtain ⟨b8, hf⟩ := dk_c hf
        refine aX0_x_ways hC hw b8 dX0_match_134 ?_
        refine lv_lstore (lv' := [(12, .long (x_ways (((9 : Int32) * v10) + v11).toNatClampNeg)), (0, .ref (h 0)), (1, .int v1), (2, .int v2), (3, .int v3), (4, .int v4), (5, .int v5), (6, .int v6), (7, .int v7), (8, .long v8), (10, .int v10), (11, .int v11)]) hx hb dX0_match_135 hl (by decide) rfl (fun ls hl => ?_)
        refine lv_iload hx hb dX0_match_137 (lv_at hl 10 rfl) ?_
        refine lv_iload hx hb dX0_match_139 (lv_at hl 11 rfl) ?_
        refine lv_iadd hx hb dX0_match_141 ?_
        refine lv_iload_n hx hb dX0_match_142 rfl (lv_at hl 4 rfl) ?_
        refine lv_isub hx hb dX0_match_143 ?_
        refine lv_iload hx hb dX0_match_144 (lv_at hl 5 rfl) ?_
        refine lv_isub hx hb dX0_match_146 ?_
        refine lv_istore (lv' := [(14, .int (((v10 + v11) - v3) - v4)), (12, .long (x_ways (((9 : Int32) * v10) + v11).toNatClampNeg)), (0, .ref (h 0)), (1, .int v1), (2, .int v2), (3, .int v3), (4, .int v4), (5, .int v5), (6, .int v6), (7, .int v7), (8, .long v8), (10, .int v10), (11, .int v11)]) hx hb dX0_match_147 hl (by decide) rfl (fun ls hl => ?_)
        refine lv_iload hx hb dX0_match_149 (lv_at hl 11 rfl) ?_
        refine lv_iload_n hx hb dX0_match_151 rfl (lv_at hl 3 rfl) ?_
        refine lv_icmp_eq (tgt := 161) hx hb dX0_match_152 rfl (fun c20 => ?_) (fun c20 => ?_)
        · have hf := dk_t c20 hf
          refine lv_iconst (v := 1) hx hb dX0_match_161 rfl ?_
          refine lv_goto (tgt := 166) hx hb dX0_match_162 rfl ?_
          exact L166 k106c hk106 (fun y0 y1 y2 y3 y4 => fX0_match_L116 v1 v2 v3 v4 v5 v6 k106c n y0 y1 y2 y3 y4) ih v7 v8 v10 v11 (x_ways (((9 : Int32) * v10) + v11).toNatClampNeg) (((v10 + v11) - v3) - v4) 1 x_ways _ _ _ hw (lv_sub hl [2, 3, 4, 5, 6, 7, 8, 9, 10, 11, 12, 1, 0] rfl) hf
        · have hf := dk_f c20 hf
          refine lv_iload hx hb dX0_match_155 (lv_at hl 12 rfl) ?_
          refine lv_iload_n hx hb dX0_match_157 rfl (lv_at hl 3 rfl) ?_
          refine lv_icmp_ne (tgt := 165) hx hb dX0_match_158 rfl (fun c19 => ?_) (fun c19 => ?_)
          · have hf := dk_f c19 hf
            refine lv_iconst (v := 0) hx hb dX0_match_165 rfl ?_
            exact L166 k106c hk106 (fun y0 y1 y2 y3 y4 => fX0_match_L116 v1 v2 v3 v4 v5 v6 k106c n y0 y1 y2 y3 y4) ih v7 v8 v10 v11 (x_ways (((9 : Int32) * v10) + v11).toNatClampNeg) (((v10 + v11) - v3) - v4) 0 x_ways _ _ _ hw (lv_sub hl [2, 3, 4, 5, 6, 7, 8, 9, 10, 11, 12, 1, 0] rfl) hf
          · have hf := dk_t c19 hf
            refine lv_iconst (v := 1) hx hb dX0_match_161 rfl ?_
            refine lv_goto (tgt := 166) hx hb dX0_match_162 rfl ?_
            exact L166 k106c hk106 (fun y0 y1 y2 y3 y4 => fX0_match_L116 v1 v2 v3 v4 v5 v6 k106c n y0 y1 y2 y3 y4) ih v7 v8 v10 v11 (x_ways (((9 : Int32) * v10) + v11).toNatClampNeg) (((v10 + v11) - v3) - v4) 1 x_ways _ _ _ hw (lv_sub hl [2, 3, 4, 5, 6, 7, 8, 9, 10, 11, 12, 1, 0] rfl) hf
  have L106 : ∀ (n : Nat), ∀ (v7 : Int32) (v8 : Int64) (v10 : Int32) (x_ways : Nat → Int64) (H : Heap) (locs : List Loc) (ls : Array Slot), Wo D A s.heap H locs (WX0 h E t_cells t_points t_fouls t_evening t_sights t_seenStep t_seenCell t_isKept t_touches t_cushions t_p_row t_p_column t_p_down t_p_right t_p_cushions n_cells n_points n_fouls n_evening n_sights n_seenStep n_seenCell n_isKept n_touches n_cushions n_p_row n_p_column n_p_down n_p_right n_p_cushions i_cells i_points i_fouls i_evening i_sights i_seenStep i_seenCell i_isKept i_touches i_cushions i_p_row i_p_column i_p_down i_p_right i_p_cushions j_cells j_points j_fouls j_evening j_sights j_seenStep j_seenCell j_isKept j_touches j_cushions j_p_row j_p_column j_p_down j_p_right j_p_cushions x_signs x_sign x_reason x_acts x_candourAt p_row p_column p_down p_right p_cushions x_met x_reached x_firstWay x_queue x_queued x_fitting x_byCell x_wins x_ways) → lv_has ls 16 [(0, .ref (h 0)), (1, .int v1), (2, .int v2), (3, .int v3), (4, .int v4), (5, .int v5), (6, .int v6), (7, .int v7), (8, .long v8), (10, .int v10)] → fX0_match_L106 v1 v2 v3 v4 v5 v6  n v7 v8 v10 x_ways = some res → W p l e (rmN 121) s m args below meth c H locs 0 0 Q (F0 m 106 ls []) := by
    intro  n
    induction n with
    | zero =>
      intro v7 v8 v10 x_ways H locs ls hw hl hf
      exact dk_n hf
    | succ n ih =>
      intro v7 v8 v10 x_ways H locs ls hw hl hf
      refine lv_iload hx hb dX0_match_106 (lv_at hl 9 rfl) ?_
      refine lv_iload_n hx hb dX0_match_108 rfl (lv_at hl 1 rfl) ?_
      refine lv_icmp_gt (tgt := 294) hx hb dX0_match_109 rfl (fun c22 => ?_) (fun c22 => ?_)
      · have hf := dk_t c22 hf
        refine lv_iload hx hb dX0_match_294 (lv_at hl 7 rfl) ?_
        obtain ⟨z3, hz3, hf⟩ := dk_b hf
        refine callSL (rest := []) 0 0 hC hw (st1 _) (metX0_power hz3) mi_X0_power q417 (rm_ok (by decide) (by decide)) rfl hl.1 rfl (Nat.le_of_ble_eq_true rfl) dX0_match_296 ⟨Nat.zero_le _, Nat.zero_le _⟩ (st2 _) (fun H locs hw => ?_)
        refine lv_lstore (lv' := [(10, .long z3), (0, .ref (h 0)), (1, .int v1), (2, .int v2), (3, .int v3), (4, .int v4), (5, .int v5), (6, .int v6), (7, .int v7), (8, .long v8)]) hx hb dX0_match_299 hl (by decide) rfl (fun ls hl => ?_)
        refine lv_lload hx hb dX0_match_301 (lv_at hl 9 rfl) ?_
        refine lv_lload hx hb dX0_match_303 (lv_at hl 0 rfl) ?_
        obtain ⟨z4, hz4, hf⟩ := dk_b hf
        refine callSL (rest := []) 0 0 hC hw (st1 _) (metX0_divisor hz4) mi_X0_divisor q421 (rm_ok (by decide) (by decide)) rfl hl.1 rfl (Nat.le_of_ble_eq_true rfl) dX0_match_305 ⟨Nat.zero_le _, Nat.zero_le _⟩ (st2 _) (fun H locs hw => ?_)
        refine lv_lstore (lv' := [(12, .long z4), (10, .long z3), (0, .ref (h 0)), (1, .int v1), (2, .int v2), (3, .int v3), (4, .int v4), (5, .int v5), (6, .int v6), (7, .int v7), (8, .long v8)]) hx hb dX0_match_308 hl (by decide) rfl (fun ls hl => ?_)
        refine lv_iload hx hb dX0_match_310 (lv_at hl 8 rfl) ?_
        refine lv_if_ne (tgt := 323) hx hb dX0_match_312 rfl (fun c7 => ?_) (fun c7 => ?_)
        · have hf := dk_f c7 hf
          refine lv_lload hx hb dX0_match_323 (lv_at hl 1 rfl) ?_
          refine lv_lload hx hb dX0_match_325 (lv_at hl 0 rfl) ?_
          obtain ⟨e5, hf⟩ := dk_c hf
          refine lv_ldiv hx hb dX0_match_327 e5 ?_
          obtain rfl := Option.some.inj hf
          exact ret _ _ _ _ _ dX0_match_328 rfl hw
        · have hf := dk_t c7 hf
          refine lv_lload hx hb dX0_match_315 (lv_at hl 10 rfl) ?_
          refine lv_lload hx hb dX0_match_317 (lv_at hl 0 rfl) ?_
          obtain ⟨e6, hf⟩ := dk_c hf
          refine lv_ldiv hx hb dX0_match_319 e6 ?_
          refine lv_goto (tgt := 328) hx hb dX0_match_320 rfl ?_
          obtain rfl := Option.some.inj hf
          exact ret _ _ _ _ _ dX0_match_328 rfl hw
      · have hf := dk_f c22 hf
        refine lv_iload hx hb dX0_match_112 (lv_at hl 4 rfl) ?_
        refine lv_istore (lv' := [(11, .int v4), (0, .ref (h 0)), (1, .int v1), (2, .int v2), (3, .int v3), (4, .int v4), (5, .int v5), (6, .int v6), (7, .int v7), (8, .long v8), (10, .int v10)]) hx hb dX0_match_114 hl (by decide) rfl (fun ls hl => ?_)
        exact L116 (fun y0 y1 y2 y3 => fX0_match_L106 v1 v2 v3 v4 v5 v6 n y0 y1 y2 y3) ih FU v7 v8 v10 v4 x_ways _ _ _ hw (lv_sub hl [1, 2, 3, 4, 5, 6, 7, 8, 9, 10, 0] rfl) hf
  refine lv_iload_n hx hb dX0_match_0 rfl (lv_at hl 1 rfl) ?_
  refine lv_iconst (v := 1) hx hb dX0_match_1 rfl ?_
  refine lv_bipush (v := 8) hx hb dX0_match_2 rfl ?_
  refine callSI (rest := []) 0 0 hC hw (st1 _) (metX0_isIn rfl) mi_X0_isIn q203 (rm_ok (by decide) (by decide)) rfl hl.1 rfl (Nat.le_of_ble_eq_true rfl) dX0_match_4 ⟨Nat.zero_le _, Nat.zero_le _⟩ (st2 _) (fun H locs hw => ?_)
  refine lv_if_eq (tgt := 63) hx hb dX0_match_7 rfl (fun c28 => ?_) (fun c28 => ?_)
  · have hf := dk_t c28 hf
    refine W.ldc2 (v := (-1000000000000000002)) hx hb hown (hts _ q413) rfl dX0_match_63 ?_
    obtain rfl := Option.some.inj hf
    exact ret _ _ _ _ _ dX0_match_66 rfl hw
  · have hf := dk_f c28 hf
    refine lv_iload_n hx hb dX0_match_10 rfl (lv_at hl 2 rfl) ?_
    refine lv_iconst (v := 0) hx hb dX0_match_11 rfl ?_
    refine lv_bipush (v := 10) hx hb dX0_match_12 rfl ?_
    refine callSI (rest := []) 0 0 hC hw (st1 _) (metX0_isIn rfl) mi_X0_isIn q203 (rm_ok (by decide) (by decide)) rfl hl.1 rfl (Nat.le_of_ble_eq_true rfl) dX0_match_14 ⟨Nat.zero_le _, Nat.zero_le _⟩ (st2 _) (fun H locs hw => ?_)
    refine lv_if_eq (tgt := 63) hx hb dX0_match_17 rfl (fun c27 => ?_) (fun c27 => ?_)
    · have hf := dk_t c27 hf
      refine W.ldc2 (v := (-1000000000000000002)) hx hb hown (hts _ q413) rfl dX0_match_63 ?_
      obtain rfl := Option.some.inj hf
      exact ret _ _ _ _ _ dX0_match_66 rfl hw
    · have hf := dk_f c27 hf
      refine lv_iload_n hx hb dX0_match_20 rfl (lv_at hl 3 rfl) ?_
      refine lv_iconst (v := 0) hx hb dX0_match_21 rfl ?_
      refine lv_iload_n hx hb dX0_match_22 rfl (lv_at hl 1 rfl) ?_
      refine lv_iconst (v := 1) hx hb dX0_match_23 rfl ?_
      refine lv_isub hx hb dX0_match_24 ?_
      refine callSI (rest := []) 0 0 hC hw (st1 _) (metX0_isIn rfl) mi_X0_isIn q203 (rm_ok (by decide) (by decide)) rfl hl.1 rfl (Nat.le_of_ble_eq_true rfl) dX0_match_25 ⟨Nat.zero_le _, Nat.zero_le _⟩ (st2 _) (fun H locs hw => ?_)
      refine lv_if_eq (tgt := 63) hx hb dX0_match_28 rfl (fun c26 => ?_) (fun c26 => ?_)
      · have hf := dk_t c26 hf
        refine W.ldc2 (v := (-1000000000000000002)) hx hb hown (hts _ q413) rfl dX0_match_63 ?_
        obtain rfl := Option.some.inj hf
        exact ret _ _ _ _ _ dX0_match_66 rfl hw
      · have hf := dk_f c26 hf
        refine lv_iload hx hb dX0_match_31 (lv_at hl 4 rfl) ?_
        refine lv_iconst (v := 0) hx hb dX0_match_33 rfl ?_
        refine lv_iload_n hx hb dX0_match_34 rfl (lv_at hl 1 rfl) ?_
        refine lv_iconst (v := 1) hx hb dX0_match_35 rfl ?_
        refine lv_isub hx hb dX0_match_36 ?_
        refine callSI (rest := []) 0 0 hC hw (st1 _) (metX0_isIn rfl) mi_X0_isIn q203 (rm_ok (by decide) (by decide)) rfl hl.1 rfl (Nat.le_of_ble_eq_true rfl) dX0_match_37 ⟨Nat.zero_le _, Nat.zero_le _⟩ (st2 _) (fun H locs hw => ?_)
        refine lv_if_eq (tgt := 63) hx hb dX0_match_40 rfl (fun c25 => ?_) (fun c25 => ?_)
        · have hf := dk_t c25 hf
          refine W.ldc2 (v := (-1000000000000000002)) hx hb hown (hts _ q413) rfl dX0_match_63 ?_
          obtain rfl := Option.some.inj hf
          exact ret _ _ _ _ _ dX0_match_66 rfl hw
        · have hf := dk_f c25 hf
          refine lv_iload hx hb dX0_match_43 (lv_at hl 5 rfl) ?_
          refine lv_iconst (v := 0) hx hb dX0_match_45 rfl ?_
          refine lv_iconst (v := 1) hx hb dX0_match_46 rfl ?_
          refine callSI (rest := []) 0 0 hC hw (st1 _) (metX0_isIn rfl) mi_X0_isIn q203 (rm_ok (by decide) (by decide)) rfl hl.1 rfl (Nat.le_of_ble_eq_true rfl) dX0_match_47 ⟨Nat.zero_le _, Nat.zero_le _⟩ (st2 _) (fun H locs hw => ?_)
          refine lv_if_eq (tgt := 63) hx hb dX0_match_50 rfl (fun c24 => ?_) (fun c24 => ?_)
          · have hf := dk_t c24 hf
            refine W.ldc2 (v := (-1000000000000000002)) hx hb hown (hts _ q413) rfl dX0_match_63 ?_
            obtain rfl := Option.some.inj hf
            exact ret _ _ _ _ _ dX0_match_66 rfl hw
          · have hf := dk_f c24 hf
            refine lv_iload hx hb dX0_match_53 (lv_at hl 6 rfl) ?_
            refine lv_iconst (v := 0) hx hb dX0_match_55 rfl ?_
            refine lv_iconst (v := 1) hx hb dX0_match_56 rfl ?_
            refine callSI (rest := []) 0 0 hC hw (st1 _) (metX0_isIn rfl) mi_X0_isIn q203 (rm_ok (by decide) (by decide)) rfl hl.1 rfl (Nat.le_of_ble_eq_true rfl) dX0_match_57 ⟨Nat.zero_le _, Nat.zero_le _⟩ (st2 _) (fun H locs hw => ?_)
            refine lv_if_ne (tgt := 67) hx hb dX0_match_60 rfl (fun c23 => ?_) (fun c23 => ?_)
            · have hf := dk_f c23 hf
              refine lv_iconst (v := 2) hx hb dX0_match_67 rfl ?_
              refine lv_iload_n hx hb dX0_match_68 rfl (lv_at hl 1 rfl) ?_
              refine lv_imul hx hb dX0_match_69 ?_
              refine lv_iload_n hx hb dX0_match_70 rfl (lv_at hl 3 rfl) ?_
              refine lv_isub hx hb dX0_match_71 ?_
              refine lv_iload hx hb dX0_match_72 (lv_at hl 4 rfl) ?_
              refine lv_isub hx hb dX0_match_74 ?_
              refine lv_iconst (v := 1) hx hb dX0_match_75 rfl ?_
              refine lv_isub hx hb dX0_match_76 ?_
              refine lv_istore (lv' := [(7, .int (((((2 : Int32) * v1) - v3) - v4) - 1)), (0, .ref (h 0)), (1, .int v1), (2, .int v2), (3, .int v3), (4, .int v4), (5, .int v5), (6, .int v6)]) hx hb dX0_match_77 hl (by decide) rfl (fun ls hl => ?_)
              refine lv_aload_n hx hb dX0_match_79 rfl (lv_at hl 1 rfl) ?_
              refine gX0_this_ways hC hw dX0_match_80 ?_
              refine lv_lconst (v := 0) hx hb dX0_match_83 rfl ?_
              obtain ⟨z1, hz1, hf⟩ := dk_b hf
              refine callSV (rest := []) 31 1 hC hw subX0_x_ways (metJ1_fill_3 hz1) mi_J1_fill_3 q414 (rm_ok (by decide) (by decide)) rfl hl.1 rfl (Nat.le_of_ble_eq_true rfl) dX0_match_84 ⟨Nat.zero_le _, Nat.zero_le _⟩ putX0_x_ways (fun H locs hw => ?_)
              refine lv_aload_n hx hb dX0_match_87 rfl (lv_at hl 1 rfl) ?_
              refine gX0_this_ways hC hw dX0_match_88 ?_
              refine lv_bipush (v := 9) hx hb dX0_match_91 rfl ?_
              refine lv_iload_n hx hb dX0_match_93 rfl (lv_at hl 4 rfl) ?_
              refine lv_imul hx hb dX0_match_94 ?_
              refine lv_iload hx hb dX0_match_95 (lv_at hl 5 rfl) ?_
              refine lv_iadd hx hb dX0_match_97 ?_
              refine lv_lconst (v := 1) hx hb dX0_match_98 rfl ?_
              obtain ⟨b2, hf⟩ := dk_c hf
              refine sX0_x_ways hC hw b2 dX0_match_99 (fun H locs hw => ?_)
              refine lv_lconst (v := 0) hx hb dX0_match_100 rfl ?_
              refine lv_lstore (lv' := [(8, .long 0), (7, .int (((((2 : Int32) * v1) - v3) - v4) - 1)), (0, .ref (h 0)), (1, .int v1), (2, .int v2), (3, .int v3), (4, .int v4), (5, .int v5), (6, .int v6)]) hx hb dX0_match_101 hl (by decide) rfl (fun ls hl => ?_)
              refine lv_iload_n hx hb dX0_match_103 rfl (lv_at hl 5 rfl) ?_
              refine lv_istore (lv' := [(10, .int v3), (8, .long 0), (7, .int (((((2 : Int32) * v1) - v3) - v4) - 1)), (0, .ref (h 0)), (1, .int v1), (2, .int v2), (3, .int v3), (4, .int v4), (5, .int v5), (6, .int v6)]) hx hb dX0_match_104 hl (by decide) rfl (fun ls hl => ?_)
              exact L106 FU (((((2 : Int32) * v1) - v3) - v4) - 1) 0 v3 (vp_updL z1 (((9 : Int32) * v3) + v4).toNatClampNeg 1) _ _ _ hw (lv_sub hl [3, 4, 5, 6, 7, 8, 9, 2, 1, 0] rfl) hf
            · have hf := dk_t c23 hf
              refine W.ldc2 (v := (-1000000000000000002)) hx hb hown (hts _ q413) rfl dX0_match_63 ?_
              obtain rfl := Option.some.inj hf
              exact ret _ _ _ _ _ dX0_match_66 rfl hw
set_option maxHeartbeats 4000000 in
set_option maxRecDepth 100000 in
theorem metX0_season {v1 : Int32} {v2 : Int32} {v3 : Int32} {res : Int32 × (Nat → Int32) × Int32 × Int32 × Int32 × Int32 × (Nat → Int32) × (Nat → Int32) × Int32 × Int32 × Int32 × Int32 × Int32 × Int32 × Int32 × Int32} (hf : fX0_season v1 v2 v3 t_cells t_points t_fouls t_evening t_sights t_seenStep t_seenCell n_cells n_points n_fouls n_evening n_sights n_seenStep n_seenCell n_touches n_cushions n_p_row n_p_column n_p_down n_p_right n_p_cushions x_reason = some res) : CtI l yX0_season cX0_season 9 .int 3 D E sz [.ref (h 0), .int v1, .int v2, .int v3] (WX0 h E t_cells t_points t_fouls t_evening t_sights t_seenStep t_seenCell t_isKept t_touches t_cushions t_p_row t_p_column t_p_down t_p_right t_p_cushions n_cells n_points n_fouls n_evening n_sights n_seenStep n_seenCell n_isKept n_touches n_cushions n_p_row n_p_column n_p_down n_p_right n_p_cushions i_cells i_points i_fouls i_evening i_sights i_seenStep i_seenCell i_isKept i_touches i_cushions i_p_row i_p_column i_p_down i_p_right i_p_cushions j_cells j_points j_fouls j_evening j_sights j_seenStep j_seenCell j_isKept j_touches j_cushions j_p_row j_p_column j_p_down j_p_right j_p_cushions x_signs x_sign x_reason x_acts x_candourAt p_row p_column p_down p_right p_cushions x_met x_reached x_firstWay x_queue x_queued x_fitting x_byCell x_wins x_ways) (WX0 h E t_cells t_points t_fouls t_evening t_sights t_seenStep t_seenCell t_isKept t_touches t_cushions t_p_row t_p_column t_p_down t_p_right t_p_cushions res.2.1 res.2.2.1 res.2.2.2.1 res.2.2.2.2.1 res.2.2.2.2.2.1 res.2.2.2.2.2.2.1 res.2.2.2.2.2.2.2.1 n_isKept res.2.2.2.2.2.2.2.2.1 res.2.2.2.2.2.2.2.2.2.1 res.2.2.2.2.2.2.2.2.2.2.1 res.2.2.2.2.2.2.2.2.2.2.2.1 res.2.2.2.2.2.2.2.2.2.2.2.2.1 res.2.2.2.2.2.2.2.2.2.2.2.2.2.1 res.2.2.2.2.2.2.2.2.2.2.2.2.2.2.1 i_cells i_points i_fouls i_evening i_sights i_seenStep i_seenCell i_isKept i_touches i_cushions i_p_row i_p_column i_p_down i_p_right i_p_cushions j_cells j_points j_fouls j_evening j_sights j_seenStep j_seenCell j_isKept j_touches j_cushions j_p_row j_p_column j_p_down j_p_right j_p_cushions x_signs x_sign res.2.2.2.2.2.2.2.2.2.2.2.2.2.2.2 x_acts x_candourAt p_row p_column p_down p_right p_cushions x_met x_reached x_firstWay x_queue x_queued x_fitting x_byCell x_wins x_ways) res.1 := by
  refine startI (own := RX0) (by decide) rfl (Nat.le_of_ble_eq_true rfl) ?_
  intro p e s m args below meth c A Q ls hC ret hl hw
  have hx := hC.1.1
  have hb := hC.1.2.1
  have hown := hC.1.2.2.2.1
  have hts := hC.1.2.2.2.2
  have hl : lv_has ls 9 [(0, .ref (h 0)), (1, .int v1), (2, .int v2), (3, .int v3)] := hl
  have L51 : ∀ (n : Nat), ∀ (v4 : Int64) (v6 : Int32) (n_cells : Nat → Int32) (n_points : Int32) (n_fouls : Int32) (n_evening : Int32) (n_sights : Int32) (n_seenStep : Nat → Int32) (n_seenCell : Nat → Int32) (n_touches : Int32) (n_cushions : Int32) (n_p_row : Int32) (n_p_column : Int32) (n_p_down : Int32) (n_p_right : Int32) (n_p_cushions : Int32) (x_reason : Int32) (H : Heap) (locs : List Loc) (ls : Array Slot), Wo D A s.heap H locs (WX0 h E t_cells t_points t_fouls t_evening t_sights t_seenStep t_seenCell t_isKept t_touches t_cushions t_p_row t_p_column t_p_down t_p_right t_p_cushions n_cells n_points n_fouls n_evening n_sights n_seenStep n_seenCell n_isKept n_touches n_cushions n_p_row n_p_column n_p_down n_p_right n_p_cushions i_cells i_points i_fouls i_evening i_sights i_seenStep i_seenCell i_isKept i_touches i_cushions i_p_row i_p_column i_p_down i_p_right i_p_cushions j_cells j_points j_fouls j_evening j_sights j_seenStep j_seenCell j_isKept j_touches j_cushions j_p_row j_p_column j_p_down j_p_right j_p_cushions x_signs x_sign x_reason x_acts x_candourAt p_row p_column p_down p_right p_cushions x_met x_reached x_firstWay x_queue x_queued x_fitting x_byCell x_wins x_ways) → lv_has ls 9 [(0, .ref (h 0)), (2, .int v2), (3, .int v3), (4, .long v4), (6, .int v6)] → fX0_season_L51 v1 v2 v3 t_cells t_points t_fouls t_evening t_sights t_seenStep t_seenCell  n v4 v6 n_cells n_points n_fouls n_evening n_sights n_seenStep n_seenCell n_touches n_cushions n_p_row n_p_column n_p_down n_p_right n_p_cushions x_reason = some res → W p l e (rmN 3) s m args below meth c H locs 0 0 Q (F0 m 51 ls []) := by
    intro  n
    induction n with
    | zero =>
      intro v4 v6 n_cells n_points n_fouls n_evening n_sights n_seenStep n_seenCell n_touches n_cushions n_p_row n_p_column n_p_down n_p_right n_p_cushions x_reason H locs ls hw hl hf
      exact dk_n hf
    | succ n ih =>
      intro v4 v6 n_cells n_points n_fouls n_evening n_sights n_seenStep n_seenCell n_touches n_cushions n_p_row n_p_column n_p_down n_p_right n_p_cushions x_reason H locs ls hw hl hf
      refine lv_iload hx hb dX0_season_51 (lv_at hl 4 rfl) ?_
      refine lv_iload_n hx hb dX0_season_53 rfl (lv_at hl 1 rfl) ?_
      refine lv_icmp_ge (tgt := 202) hx hb dX0_season_54 rfl (fun c12 => ?_) (fun c12 => ?_)
      · have hf := dk_t c12 hf
        refine lv_iload_n hx hb dX0_season_202 rfl (lv_at hl 2 rfl) ?_
        refine lv_if_ne (tgt := 216) hx hb dX0_season_203 rfl (fun c4 => ?_) (fun c4 => ?_)
        · have hf := dk_f c4 hf
          refine lv_iload_n hx hb dX0_season_216 rfl (lv_at hl 2 rfl) ?_
          refine lv_iconst (v := 1) hx hb dX0_season_217 rfl ?_
          refine lv_icmp_ne (tgt := 231) hx hb dX0_season_218 rfl (fun c3 => ?_) (fun c3 => ?_)
          · have hf := dk_f c3 hf
            refine lv_aload_n hx hb dX0_season_231 rfl (lv_at hl 0 rfl) ?_
            refine gX0_this_now hC hw dX0_season_232 ?_
            obtain ⟨z2, hz2, hf⟩ := dk_b hf
            refine callVI (rest := []) 6 5 1 hC hw subX0_n (metX1_countDown hz2) mi_X1_countDown q309 (rm_ok (by decide) (by decide)) rfl rfl rfl hl.1 rfl (Nat.le_of_ble_eq_true rfl) dX0_season_235 ⟨Nat.zero_le _, Nat.zero_le _⟩ putX0_n (fun H locs hw => ?_)
            obtain rfl := Option.some.inj hf
            exact ret _ _ _ _ _ dX0_season_238 rfl rfl hw
          · have hf := dk_t c3 hf
            refine lv_aload_n hx hb dX0_season_221 rfl (lv_at hl 0 rfl) ?_
            refine gX0_this_now hC hw dX0_season_222 ?_
            refine gX0_n_fouls hC hw dX0_season_225 ?_
            refine lv_goto (tgt := 238) hx hb dX0_season_228 rfl ?_
            obtain rfl := Option.some.inj hf
            exact ret _ _ _ _ _ dX0_season_238 rfl rfl hw
        · have hf := dk_t c4 hf
          refine lv_aload_n hx hb dX0_season_206 rfl (lv_at hl 0 rfl) ?_
          refine gX0_this_now hC hw dX0_season_207 ?_
          refine gX0_n_points hC hw dX0_season_210 ?_
          refine lv_goto (tgt := 238) hx hb dX0_season_213 rfl ?_
          obtain rfl := Option.some.inj hf
          exact ret _ _ _ _ _ dX0_season_238 rfl rfl hw
      · have hf := dk_f c12 hf
        refine W.ldc2 (v := 75) hx hb hown (hts _ q428) rfl dX0_season_57 ?_
        refine lv_lload hx hb dX0_season_60 (lv_at hl 3 rfl) ?_
        refine lv_lmul hx hb dX0_season_62 ?_
        refine W.ldc2 (v := 74) hx hb hown (hts _ q429) rfl dX0_season_63 ?_
        refine lv_ladd hx hb dX0_season_66 ?_
        refine W.ldc2 (v := 65537) hx hb hown (hts _ q430) rfl dX0_season_67 ?_
        refine lv_lrem hx hb dX0_season_70 (by decide) ?_
        refine lv_lstore (lv' := [(4, .long ((((75 : Int64) * v4) + 74) - (((75 : Int64) * v4) + 74) / 65537 * 65537)), (0, .ref (h 0)), (2, .int v2), (3, .int v3), (6, .int v6)]) hx hb dX0_season_71 hl (by decide) rfl (fun ls hl => ?_)
        refine lv_lload hx hb dX0_season_73 (lv_at hl 0 rfl) ?_
        refine W.ldc2 (v := 3) hx hb hown (hts _ q431) rfl dX0_season_75 ?_
        refine lv_lrem hx hb dX0_season_78 (by decide) ?_
        refine lv_l2i (v := ((((((75 : Int64) * v4) + 74) - (((75 : Int64) * v4) + 74) / 65537 * 65537) - ((((75 : Int64) * v4) + 74) - (((75 : Int64) * v4) + 74) / 65537 * 65537) / 3 * 3).toInt32)) hx hb dX0_season_79 rfl ?_
        refine lv_istore (lv' := [(7, .int ((((((75 : Int64) * v4) + 74) - (((75 : Int64) * v4) + 74) / 65537 * 65537) - ((((75 : Int64) * v4) + 74) - (((75 : Int64) * v4) + 74) / 65537 * 65537) / 3 * 3).toInt32)), (4, .long ((((75 : Int64) * v4) + 74) - (((75 : Int64) * v4) + 74) / 65537 * 65537)), (0, .ref (h 0)), (2, .int v2), (3, .int v3), (6, .int v6)]) hx hb dX0_season_80 hl (by decide) rfl (fun ls hl => ?_)
        refine lv_lload hx hb dX0_season_82 (lv_at hl 1 rfl) ?_
        refine W.ldc2 (v := 24) hx hb hown (hts _ q432) rfl dX0_season_84 ?_
        refine lv_ldiv hx hb dX0_season_87 (by decide) ?_
        refine lv_l2i (v := ((((((75 : Int64) * v4) + 74) - (((75 : Int64) * v4) + 74) / 65537 * 65537) / 24).toInt32)) hx hb dX0_season_88 rfl ?_
        refine lv_istore (lv' := [(8, .int ((((((75 : Int64) * v4) + 74) - (((75 : Int64) * v4) + 74) / 65537 * 65537) / 24).toInt32)), (7, .int ((((((75 : Int64) * v4) + 74) - (((75 : Int64) * v4) + 74) / 65537 * 65537) - ((((75 : Int64) * v4) + 74) - (((75 : Int64) * v4) + 74) / 65537 * 65537) / 3 * 3).toInt32)), (4, .long ((((75 : Int64) * v4) + 74) - (((75 : Int64) * v4) + 74) / 65537 * 65537)), (0, .ref (h 0)), (2, .int v2), (3, .int v3), (6, .int v6)]) hx hb dX0_season_89 hl (by decide) rfl (fun ls hl => ?_)
        refine lv_lload hx hb dX0_season_91 (lv_at hl 2 rfl) ?_
        refine W.ldc2 (v := 3) hx hb hown (hts _ q431) rfl dX0_season_93 ?_
        refine lv_ldiv hx hb dX0_season_96 (by decide) ?_
        refine W.ldc2 (v := 8) hx hb hown (hts _ q433) rfl dX0_season_97 ?_
        refine lv_lrem hx hb dX0_season_100 (by decide) ?_
        refine lv_l2i (v := (((((((75 : Int64) * v4) + 74) - (((75 : Int64) * v4) + 74) / 65537 * 65537) / 3) - (((((75 : Int64) * v4) + 74) - (((75 : Int64) * v4) + 74) / 65537 * 65537) / 3) / 8 * 8).toInt32)) hx hb dX0_season_101 rfl ?_
        by_cases c5 : (((((((75 : Int64) * v4) + 74) - (((75 : Int64) * v4) + 74) / 65537 * 65537) / 3) - (((((75 : Int64) * v4) + 74) - (((75 : Int64) * v4) + 74) / 65537 * 65537) / 3) / 8 * 8).toInt32) = 5
        · have hf := dk_t c5 hf
          refine lv_tableIn (tgt := 128) hx hb dX0_season_102 (by rw [c5] <;> decide) (by rw [c5] <;> decide) (by rw [c5] <;> rfl) rfl ?_
          refine lv_aload_n hx hb dX0_season_128 rfl (lv_at hl 3 rfl) ?_
          refine lv_aload_n hx hb dX0_season_129 rfl (lv_at hl 3 rfl) ?_
          refine gX0_this_now hC hw dX0_season_130 ?_
          refine lv_iload hx hb dX0_season_133 (lv_at hl 1 rfl) ?_
          obtain ⟨z6, hz6, hf⟩ := dk_b hf
          refine callVI (rest := [.ref (h 0)]) 6 5 1 hC hw subX0_n (metX1_bringUp hz6) mi_X1_bringUp q268 (rm_ok (by decide) (by decide)) rfl rfl rfl hl.1 rfl (Nat.le_of_ble_eq_true rfl) dX0_season_135 ⟨Nat.zero_le _, Nat.zero_le _⟩ putX0_n (fun H locs hw => ?_)
          refine pX0_this_reason hC hw dX0_season_138 (fun H locs hw => ?_)
          refine lv_goto (tgt := 196) hx hb dX0_season_141 rfl ?_
          refine lv_iinc (v := (v6 + 1)) (lv' := [(6, .int (v6 + 1)), (8, .int ((((((75 : Int64) * v4) + 74) - (((75 : Int64) * v4) + 74) / 65537 * 65537) / 24).toInt32)), (7, .int ((((((75 : Int64) * v4) + 74) - (((75 : Int64) * v4) + 74) / 65537 * 65537) - ((((75 : Int64) * v4) + 74) - (((75 : Int64) * v4) + 74) / 65537 * 65537) / 3 * 3).toInt32)), (4, .long ((((75 : Int64) * v4) + 74) - (((75 : Int64) * v4) + 74) / 65537 * 65537)), (0, .ref (h 0)), (2, .int v2), (3, .int v3)]) hx hb dX0_season_196 hl (k := 6) rfl rfl (by decide) rfl (fun ls hl => ?_)
          refine lv_goto (tgt := 51) hx hb dX0_season_199 rfl ?_
          exact ih ((((75 : Int64) * v4) + 74) - (((75 : Int64) * v4) + 74) / 65537 * 65537) (v6 + 1) z6.2 n_points n_fouls n_evening n_sights n_seenStep n_seenCell n_touches n_cushions n_p_row n_p_column n_p_down n_p_right n_p_cushions z6.1 _ _ _ hw (lv_sub hl [4, 5, 6, 3, 0] rfl) hf
        · have hf := dk_f c5 hf
          by_cases c7 : (((((((75 : Int64) * v4) + 74) - (((75 : Int64) * v4) + 74) / 65537 * 65537) / 3) - (((((75 : Int64) * v4) + 74) - (((75 : Int64) * v4) + 74) / 65537 * 65537) / 3) / 8 * 8).toInt32) = 6
          · have hf := dk_t c7 hf
            refine lv_tableIn (tgt := 144) hx hb dX0_season_102 (by rw [c7] <;> decide) (by rw [c7] <;> decide) (by rw [c7] <;> rfl) rfl ?_
            refine lv_aload_n hx hb dX0_season_144 rfl (lv_at hl 3 rfl) ?_
            refine gX0_this_now hC hw dX0_season_145 ?_
            obtain ⟨z8, hz8, hf⟩ := dk_b hf
            refine callVV (rest := []) 6 5 1 hC hw subX0_n (metX1_nap hz8) mi_X1_nap q258 (rm_ok (by decide) (by decide)) rfl rfl rfl hl.1 rfl (Nat.le_of_ble_eq_true rfl) dX0_season_148 ⟨Nat.zero_le _, Nat.zero_le _⟩ putX0_n (fun H locs hw => ?_)
            refine lv_goto (tgt := 196) hx hb dX0_season_151 rfl ?_
            refine lv_iinc (v := (v6 + 1)) (lv' := [(6, .int (v6 + 1)), (8, .int ((((((75 : Int64) * v4) + 74) - (((75 : Int64) * v4) + 74) / 65537 * 65537) / 24).toInt32)), (7, .int ((((((75 : Int64) * v4) + 74) - (((75 : Int64) * v4) + 74) / 65537 * 65537) - ((((75 : Int64) * v4) + 74) - (((75 : Int64) * v4) + 74) / 65537 * 65537) / 3 * 3).toInt32)), (4, .long ((((75 : Int64) * v4) + 74) - (((75 : Int64) * v4) + 74) / 65537 * 65537)), (0, .ref (h 0)), (2, .int v2), (3, .int v3)]) hx hb dX0_season_196 hl (k := 6) rfl rfl (by decide) rfl (fun ls hl => ?_)
            refine lv_goto (tgt := 51) hx hb dX0_season_199 rfl ?_
            exact ih ((((75 : Int64) * v4) + 74) - (((75 : Int64) * v4) + 74) / 65537 * 65537) (v6 + 1) z8 n_points n_fouls n_evening n_sights n_seenStep n_seenCell n_touches n_cushions n_p_row n_p_column n_p_down n_p_right n_p_cushions x_reason _ _ _ hw (lv_sub hl [4, 5, 6, 3, 0] rfl) hf
          · have hf := dk_f c7 hf
            by_cases c9 : (((((((75 : Int64) * v4) + 74) - (((75 : Int64) * v4) + 74) / 65537 * 65537) / 3) - (((((75 : Int64) * v4) + 74) - (((75 : Int64) * v4) + 74) / 65537 * 65537) / 3) / 8 * 8).toInt32) = 7
            · have hf := dk_t c9 hf
              refine lv_tableIn (tgt := 154) hx hb dX0_season_102 (by rw [c9] <;> decide) (by rw [c9] <;> decide) (by rw [c9] <;> rfl) rfl ?_
              refine lv_aload_n hx hb dX0_season_154 rfl (lv_at hl 3 rfl) ?_
              refine lv_aload_n hx hb dX0_season_155 rfl (lv_at hl 3 rfl) ?_
              refine gX0_this_now hC hw dX0_season_156 ?_
              obtain ⟨z10, hz10, hf⟩ := dk_b hf
              refine callVI (rest := [.ref (h 0)]) 6 5 1 hC hw subX0_n (metX1_pass hz10) mi_X1_pass q264 (rm_ok (by decide) (by decide)) rfl rfl rfl hl.1 rfl (Nat.le_of_ble_eq_true rfl) dX0_season_159 ⟨Nat.zero_le _, Nat.zero_le _⟩ putX0_n (fun H locs hw => ?_)
              refine pX0_this_reason hC hw dX0_season_162 (fun H locs hw => ?_)
              refine lv_goto (tgt := 196) hx hb dX0_season_165 rfl ?_
              refine lv_iinc (v := (v6 + 1)) (lv' := [(6, .int (v6 + 1)), (8, .int ((((((75 : Int64) * v4) + 74) - (((75 : Int64) * v4) + 74) / 65537 * 65537) / 24).toInt32)), (7, .int ((((((75 : Int64) * v4) + 74) - (((75 : Int64) * v4) + 74) / 65537 * 65537) - ((((75 : Int64) * v4) + 74) - (((75 : Int64) * v4) + 74) / 65537 * 65537) / 3 * 3).toInt32)), (4, .long ((((75 : Int64) * v4) + 74) - (((75 : Int64) * v4) + 74) / 65537 * 65537)), (0, .ref (h 0)), (2, .int v2), (3, .int v3)]) hx hb dX0_season_196 hl (k := 6) rfl rfl (by decide) rfl (fun ls hl => ?_)
              refine lv_goto (tgt := 51) hx hb dX0_season_199 rfl ?_
              exact ih ((((75 : Int64) * v4) + 74) - (((75 : Int64) * v4) + 74) / 65537 * 65537) (v6 + 1) n_cells n_points n_fouls z10.2 n_sights n_seenStep n_seenCell n_touches n_cushions n_p_row n_p_column n_p_down n_p_right n_p_cushions z10.1 _ _ _ hw (lv_sub hl [4, 5, 6, 3, 0] rfl) hf
            · have hf := dk_f c9 hf
              refine lv_tableOut (tgt := 168) hx hb dX0_season_102 (by have e0 : (((((((75 : Int64) * v4) + 74) - (((75 : Int64) * v4) + 74) / 65537 * 65537) / 3) - (((((75 : Int64) * v4) + 74) - (((75 : Int64) * v4) + 74) / 65537 * 65537) / 3) / 8 * 8).toInt32).toInt ≠ 5 := fun h => c5 (Int32.toInt_inj.mp (h.trans (by decide))); have e1 : (((((((75 : Int64) * v4) + 74) - (((75 : Int64) * v4) + 74) / 65537 * 65537) / 3) - (((((75 : Int64) * v4) + 74) - (((75 : Int64) * v4) + 74) / 65537 * 65537) / 3) / 8 * 8).toInt32).toInt ≠ 6 := fun h => c7 (Int32.toInt_inj.mp (h.trans (by decide))); have e2 : (((((((75 : Int64) * v4) + 74) - (((75 : Int64) * v4) + 74) / 65537 * 65537) / 3) - (((((75 : Int64) * v4) + 74) - (((75 : Int64) * v4) + 74) / 65537 * 65537) / 3) / 8 * 8).toInt32).toInt ≠ 7 := fun h => c9 (Int32.toInt_inj.mp (h.trans (by decide))); omega) rfl ?_
              refine lv_aload_n hx hb dX0_season_168 rfl (lv_at hl 3 rfl) ?_
              refine lv_aload_n hx hb dX0_season_169 rfl (lv_at hl 3 rfl) ?_
              refine gX0_this_now hC hw dX0_season_170 ?_
              refine lv_iload hx hb dX0_season_173 (lv_at hl 1 rfl) ?_
              refine lv_iload hx hb dX0_season_175 (lv_at hl 0 rfl) ?_
              refine lv_bipush (v := 8) hx hb dX0_season_177 rfl ?_
              refine lv_irem hx hb dX0_season_179 (by decide) ?_
              refine lv_iconst (v := 1) hx hb dX0_season_180 rfl ?_
              refine lv_iload hx hb dX0_season_181 (lv_at hl 0 rfl) ?_
              refine lv_bipush (v := 8) hx hb dX0_season_183 rfl ?_
              refine lv_idiv hx hb dX0_season_185 (by decide) ?_
              refine lv_bipush (v := 9) hx hb dX0_season_186 rfl ?_
              refine lv_irem hx hb dX0_season_188 (by decide) ?_
              refine lv_iadd hx hb dX0_season_189 ?_
              obtain ⟨z11, hz11, hf⟩ := dk_b hf
              refine callVI (rest := [.ref (h 0)]) 6 5 1 hC hw subX0_n (metX1_stroke hz11) mi_X1_stroke q272 (rm_ok (by decide) (by decide)) rfl rfl rfl hl.1 rfl (Nat.le_of_ble_eq_true rfl) dX0_season_190 ⟨Nat.zero_le _, Nat.zero_le _⟩ putX0_n (fun H locs hw => ?_)
              refine pX0_this_reason hC hw dX0_season_193 (fun H locs hw => ?_)
              refine lv_iinc (v := (v6 + 1)) (lv' := [(6, .int (v6 + 1)), (8, .int ((((((75 : Int64) * v4) + 74) - (((75 : Int64) * v4) + 74) / 65537 * 65537) / 24).toInt32)), (7, .int ((((((75 : Int64) * v4) + 74) - (((75 : Int64) * v4) + 74) / 65537 * 65537) - ((((75 : Int64) * v4) + 74) - (((75 : Int64) * v4) + 74) / 65537 * 65537) / 3 * 3).toInt32)), (4, .long ((((75 : Int64) * v4) + 74) - (((75 : Int64) * v4) + 74) / 65537 * 65537)), (0, .ref (h 0)), (2, .int v2), (3, .int v3)]) hx hb dX0_season_196 hl (k := 6) rfl rfl (by decide) rfl (fun ls hl => ?_)
              refine lv_goto (tgt := 51) hx hb dX0_season_199 rfl ?_
              exact ih ((((75 : Int64) * v4) + 74) - (((75 : Int64) * v4) + 74) / 65537 * 65537) (v6 + 1) z11.2.1 z11.2.2.1 z11.2.2.2.1 n_evening n_sights n_seenStep n_seenCell z11.2.2.2.2.1 z11.2.2.2.2.2.1 z11.2.2.2.2.2.2.1 z11.2.2.2.2.2.2.2.1 z11.2.2.2.2.2.2.2.2.1 z11.2.2.2.2.2.2.2.2.2.1 z11.2.2.2.2.2.2.2.2.2.2 z11.1 _ _ _ hw (lv_sub hl [4, 5, 6, 3, 0] rfl) hf
  refine lv_iload_n hx hb dX0_season_0 rfl (lv_at hl 1 rfl) ?_
  refine lv_iconst (v := 0) hx hb dX0_season_1 rfl ?_
  refine lv_sipush (v := 9999) hx hb dX0_season_2 rfl ?_
  refine callSI (rest := []) 0 0 hC hw (st1 _) (metX0_isIn rfl) mi_X0_isIn q203 (rm_ok (by decide) (by decide)) rfl hl.1 rfl (Nat.le_of_ble_eq_true rfl) dX0_season_5 ⟨Nat.zero_le _, Nat.zero_le _⟩ (st2 _) (fun H locs hw => ?_)
  refine lv_if_eq (tgt := 30) hx hb dX0_season_8 rfl (fun c15 => ?_) (fun c15 => ?_)
  · have hf := dk_t c15 hf
    refine lv_bipush (v := (-2)) hx hb dX0_season_30 rfl ?_
    obtain rfl := Option.some.inj hf
    exact ret _ _ _ _ _ dX0_season_32 rfl rfl hw
  · have hf := dk_f c15 hf
    refine lv_iload_n hx hb dX0_season_11 rfl (lv_at hl 2 rfl) ?_
    refine lv_iconst (v := 1) hx hb dX0_season_12 rfl ?_
    refine lv_bipush (v := 99) hx hb dX0_season_13 rfl ?_
    refine callSI (rest := []) 0 0 hC hw (st1 _) (metX0_isIn rfl) mi_X0_isIn q203 (rm_ok (by decide) (by decide)) rfl hl.1 rfl (Nat.le_of_ble_eq_true rfl) dX0_season_15 ⟨Nat.zero_le _, Nat.zero_le _⟩ (st2 _) (fun H locs hw => ?_)
    refine lv_if_eq (tgt := 30) hx hb dX0_season_18 rfl (fun c14 => ?_) (fun c14 => ?_)
    · have hf := dk_t c14 hf
      refine lv_bipush (v := (-2)) hx hb dX0_season_30 rfl ?_
      obtain rfl := Option.some.inj hf
      exact ret _ _ _ _ _ dX0_season_32 rfl rfl hw
    · have hf := dk_f c14 hf
      refine lv_iload_n hx hb dX0_season_21 rfl (lv_at hl 3 rfl) ?_
      refine lv_iconst (v := 0) hx hb dX0_season_22 rfl ?_
      refine lv_iconst (v := 2) hx hb dX0_season_23 rfl ?_
      refine callSI (rest := []) 0 0 hC hw (st1 _) (metX0_isIn rfl) mi_X0_isIn q203 (rm_ok (by decide) (by decide)) rfl hl.1 rfl (Nat.le_of_ble_eq_true rfl) dX0_season_24 ⟨Nat.zero_le _, Nat.zero_le _⟩ (st2 _) (fun H locs hw => ?_)
      refine lv_if_ne (tgt := 33) hx hb dX0_season_27 rfl (fun c13 => ?_) (fun c13 => ?_)
      · have hf := dk_f c13 hf
        refine lv_aload_n hx hb dX0_season_33 rfl (lv_at hl 0 rfl) ?_
        refine gX0_this_now hC hw dX0_season_34 ?_
        refine lv_aload_n hx hb dX0_season_37 rfl (lv_at hl 0 rfl) ?_
        refine gX0_this_table hC hw dX0_season_38 ?_
        obtain ⟨z1, hz1, hf⟩ := dk_b hf
        refine ccX0_n_t (rest := []) hC hl.1 hw (metX1_copy hz1) (rm_ok (by decide) (by decide)) (Nat.le_of_ble_eq_true rfl) dX0_season_41 ⟨Nat.zero_le _, Nat.zero_le _⟩ (fun H locs hw => ?_)
        refine lv_iload_n hx hb dX0_season_44 rfl (lv_at hl 1 rfl) ?_
        refine lv_i2l (v := (v1.toInt64)) hx hb dX0_season_45 rfl ?_
        refine lv_lstore (lv' := [(4, .long (v1.toInt64)), (0, .ref (h 0)), (1, .int v1), (2, .int v2), (3, .int v3)]) hx hb dX0_season_46 hl (by decide) rfl (fun ls hl => ?_)
        refine lv_iconst (v := 0) hx hb dX0_season_48 rfl ?_
        refine lv_istore (lv' := [(6, .int 0), (4, .long (v1.toInt64)), (0, .ref (h 0)), (1, .int v1), (2, .int v2), (3, .int v3)]) hx hb dX0_season_49 hl (by decide) rfl (fun ls hl => ?_)
        exact L51 FU (v1.toInt64) 0 z1.1 z1.2.1 z1.2.2.1 z1.2.2.2.1 z1.2.2.2.2.1 z1.2.2.2.2.2.1 z1.2.2.2.2.2.2.1 z1.2.2.2.2.2.2.2.1 z1.2.2.2.2.2.2.2.2 n_p_row n_p_column n_p_down n_p_right n_p_cushions x_reason _ _ _ hw (lv_sub hl [2, 4, 5, 1, 0] rfl) hf
      · have hf := dk_t c13 hf
        refine lv_bipush (v := (-2)) hx hb dX0_season_30 rfl ?_
        obtain rfl := Option.some.inj hf
        exact ret _ _ _ _ _ dX0_season_32 rfl rfl hw
set_option maxHeartbeats 4000000 in
set_option maxRecDepth 100000 in
theorem metX0_image {v1 : Int32} {res : Int32 × (Nat → Int32) × Int32 × Int32 × Int32 × Int32 × (Nat → Int32) × (Nat → Int32) × Int32 × Int32 × Int32 × (Nat → Int32) × Int32 × Int32 × Int32 × Int32 × (Nat → Int32) × (Nat → Int32) × Int32 × Int32 × Int32} (hf : fX0_image v1 t_cells t_points t_fouls t_evening t_sights t_seenStep t_seenCell i_cells i_points i_fouls i_evening i_sights i_seenStep i_seenCell i_isKept i_touches i_cushions j_cells j_points j_fouls j_evening j_sights j_seenStep j_seenCell j_isKept j_touches j_cushions = some res) : CtI l yX0_image cX0_image 2 .int 3 D E sz [.ref (h 0), .int v1] (WX0 h E t_cells t_points t_fouls t_evening t_sights t_seenStep t_seenCell t_isKept t_touches t_cushions t_p_row t_p_column t_p_down t_p_right t_p_cushions n_cells n_points n_fouls n_evening n_sights n_seenStep n_seenCell n_isKept n_touches n_cushions n_p_row n_p_column n_p_down n_p_right n_p_cushions i_cells i_points i_fouls i_evening i_sights i_seenStep i_seenCell i_isKept i_touches i_cushions i_p_row i_p_column i_p_down i_p_right i_p_cushions j_cells j_points j_fouls j_evening j_sights j_seenStep j_seenCell j_isKept j_touches j_cushions j_p_row j_p_column j_p_down j_p_right j_p_cushions x_signs x_sign x_reason x_acts x_candourAt p_row p_column p_down p_right p_cushions x_met x_reached x_firstWay x_queue x_queued x_fitting x_byCell x_wins x_ways) (WX0 h E t_cells t_points t_fouls t_evening t_sights t_seenStep t_seenCell t_isKept t_touches t_cushions t_p_row t_p_column t_p_down t_p_right t_p_cushions n_cells n_points n_fouls n_evening n_sights n_seenStep n_seenCell n_isKept n_touches n_cushions n_p_row n_p_column n_p_down n_p_right n_p_cushions res.2.1 res.2.2.1 res.2.2.2.1 res.2.2.2.2.1 res.2.2.2.2.2.1 res.2.2.2.2.2.2.1 res.2.2.2.2.2.2.2.1 res.2.2.2.2.2.2.2.2.1 res.2.2.2.2.2.2.2.2.2.1 res.2.2.2.2.2.2.2.2.2.2.1 i_p_row i_p_column i_p_down i_p_right i_p_cushions res.2.2.2.2.2.2.2.2.2.2.2.1 res.2.2.2.2.2.2.2.2.2.2.2.2.1 res.2.2.2.2.2.2.2.2.2.2.2.2.2.1 res.2.2.2.2.2.2.2.2.2.2.2.2.2.2.1 res.2.2.2.2.2.2.2.2.2.2.2.2.2.2.2.1 res.2.2.2.2.2.2.2.2.2.2.2.2.2.2.2.2.1 res.2.2.2.2.2.2.2.2.2.2.2.2.2.2.2.2.2.1 res.2.2.2.2.2.2.2.2.2.2.2.2.2.2.2.2.2.2.1 res.2.2.2.2.2.2.2.2.2.2.2.2.2.2.2.2.2.2.2.1 res.2.2.2.2.2.2.2.2.2.2.2.2.2.2.2.2.2.2.2.2 j_p_row j_p_column j_p_down j_p_right j_p_cushions x_signs x_sign x_reason x_acts x_candourAt p_row p_column p_down p_right p_cushions x_met x_reached x_firstWay x_queue x_queued x_fitting x_byCell x_wins x_ways) res.1 := by
  refine startI (own := RX0) (by decide) rfl (Nat.le_of_ble_eq_true rfl) ?_
  intro p e s m args below meth c A Q ls hC ret hl hw
  have hx := hC.1.1
  have hb := hC.1.2.1
  have hown := hC.1.2.2.2.1
  have hts := hC.1.2.2.2.2
  have hl : lv_has ls 2 [(0, .ref (h 0)), (1, .int v1)] := hl
  refine lv_iload_n hx hb dX0_image_0 rfl (lv_at hl 1 rfl) ?_
  refine lv_iconst (v := 0) hx hb dX0_image_1 rfl ?_
  refine lv_iconst (v := 1) hx hb dX0_image_2 rfl ?_
  refine callSI (rest := []) 0 0 hC hw (st1 _) (metX0_isIn rfl) mi_X0_isIn q203 (rm_ok (by decide) (by decide)) rfl hl.1 rfl (Nat.le_of_ble_eq_true rfl) dX0_image_3 ⟨Nat.zero_le _, Nat.zero_le _⟩ (st2 _) (fun H locs hw => ?_)
  refine lv_if_ne (tgt := 12) hx hb dX0_image_6 rfl (fun c9 => ?_) (fun c9 => ?_)
  · have hf := dk_f c9 hf
    refine lv_aload_n hx hb dX0_image_12 rfl (lv_at hl 0 rfl) ?_
    refine gX0_this_images hC hw dX0_image_13 ?_
    refine lv_iload_n hx hb dX0_image_16 rfl (lv_at hl 1 rfl) ?_
    by_cases c7 : v1 = 0
    · have hf := dk_t c7 hf
      refine aX0_img0 hC hw c7 dX0_image_17 ?_
      refine lv_aload_n hx hb dX0_image_18 rfl (lv_at hl 0 rfl) ?_
      refine gX0_this_table hC hw dX0_image_19 ?_
      obtain ⟨z1, hz1, hf⟩ := dk_b hf
      refine ccX0_i_t (rest := []) hC hl.1 hw (metX1_copy hz1) (rm_ok (by decide) (by decide)) (Nat.le_of_ble_eq_true rfl) dX0_image_22 ⟨Nat.zero_le _, Nat.zero_le _⟩ (fun H locs hw => ?_)
      refine lv_aload_n hx hb dX0_image_25 rfl (lv_at hl 0 rfl) ?_
      refine gX0_this_images hC hw dX0_image_26 ?_
      refine lv_iload_n hx hb dX0_image_29 rfl (lv_at hl 1 rfl) ?_
      by_cases c2 : v1 = 0
      · have hf := dk_t c2 hf
        refine aX0_img0 hC hw c2 dX0_image_30 ?_
        refine lv_iconst (v := 1) hx hb dX0_image_31 rfl ?_
        refine pX0_i_isKept_1 hC hw dX0_image_32 (fun H locs hw => ?_)
        refine lv_iconst (v := 1) hx hb dX0_image_35 rfl ?_
        obtain rfl := Option.some.inj hf
        exact ret _ _ _ _ _ dX0_image_36 rfl rfl hw
      · have hf := dk_f c2 hf
        obtain ⟨c3, hf⟩ := dk_c hf
        refine aX0_img1 hC hw c3 dX0_image_30 ?_
        refine lv_iconst (v := 1) hx hb dX0_image_31 rfl ?_
        refine pX0_j_isKept_1 hC hw dX0_image_32 (fun H locs hw => ?_)
        refine lv_iconst (v := 1) hx hb dX0_image_35 rfl ?_
        obtain rfl := Option.some.inj hf
        exact ret _ _ _ _ _ dX0_image_36 rfl rfl hw
    · have hf := dk_f c7 hf
      obtain ⟨c8, hf⟩ := dk_c hf
      refine aX0_img1 hC hw c8 dX0_image_17 ?_
      refine lv_aload_n hx hb dX0_image_18 rfl (lv_at hl 0 rfl) ?_
      refine gX0_this_table hC hw dX0_image_19 ?_
      obtain ⟨z4, hz4, hf⟩ := dk_b hf
      refine ccX0_j_t (rest := []) hC hl.1 hw (metX1_copy hz4) (rm_ok (by decide) (by decide)) (Nat.le_of_ble_eq_true rfl) dX0_image_22 ⟨Nat.zero_le _, Nat.zero_le _⟩ (fun H locs hw => ?_)
      refine lv_aload_n hx hb dX0_image_25 rfl (lv_at hl 0 rfl) ?_
      refine gX0_this_images hC hw dX0_image_26 ?_
      refine lv_iload_n hx hb dX0_image_29 rfl (lv_at hl 1 rfl) ?_
      by_cases c5 : v1 = 0
      · have hf := dk_t c5 hf
        refine aX0_img0 hC hw c5 dX0_image_30 ?_
        refine lv_iconst (v := 1) hx hb dX0_image_31 rfl ?_
        refine pX0_i_isKept_1 hC hw dX0_image_32 (fun H locs hw => ?_)
        refine lv_iconst (v := 1) hx hb dX0_image_35 rfl ?_
        obtain rfl := Option.some.inj hf
        exact ret _ _ _ _ _ dX0_image_36 rfl rfl hw
      · have hf := dk_f c5 hf
        obtain ⟨c6, hf⟩ := dk_c hf
        refine aX0_img1 hC hw c6 dX0_image_30 ?_
        refine lv_iconst (v := 1) hx hb dX0_image_31 rfl ?_
        refine pX0_j_isKept_1 hC hw dX0_image_32 (fun H locs hw => ?_)
        refine lv_iconst (v := 1) hx hb dX0_image_35 rfl ?_
        obtain rfl := Option.some.inj hf
        exact ret _ _ _ _ _ dX0_image_36 rfl rfl hw
  · have hf := dk_t c9 hf
    refine lv_bipush (v := (-2)) hx hb dX0_image_9 rfl ?_
    obtain rfl := Option.some.inj hf
    exact ret _ _ _ _ _ dX0_image_11 rfl rfl hw
set_option maxHeartbeats 4000000 in
set_option maxRecDepth 100000 in
theorem metX0_restore {v1 : Int32} {res : Int32 × (Nat → Int32) × Int32 × Int32 × Int32 × Int32 × (Nat → Int32) × (Nat → Int32) × Int32 × Int32} (hf : fX0_restore v1 t_cells t_points t_fouls t_evening t_sights t_seenStep t_seenCell t_touches t_cushions i_cells i_points i_fouls i_evening i_sights i_seenStep i_seenCell i_isKept j_cells j_points j_fouls j_evening j_sights j_seenStep j_seenCell j_isKept = some res) : CtI l yX0_restore cX0_restore 2 .int 3 D E sz [.ref (h 0), .int v1] (WX0 h E t_cells t_points t_fouls t_evening t_sights t_seenStep t_seenCell t_isKept t_touches t_cushions t_p_row t_p_column t_p_down t_p_right t_p_cushions n_cells n_points n_fouls n_evening n_sights n_seenStep n_seenCell n_isKept n_touches n_cushions n_p_row n_p_column n_p_down n_p_right n_p_cushions i_cells i_points i_fouls i_evening i_sights i_seenStep i_seenCell i_isKept i_touches i_cushions i_p_row i_p_column i_p_down i_p_right i_p_cushions j_cells j_points j_fouls j_evening j_sights j_seenStep j_seenCell j_isKept j_touches j_cushions j_p_row j_p_column j_p_down j_p_right j_p_cushions x_signs x_sign x_reason x_acts x_candourAt p_row p_column p_down p_right p_cushions x_met x_reached x_firstWay x_queue x_queued x_fitting x_byCell x_wins x_ways) (WX0 h E res.2.1 res.2.2.1 res.2.2.2.1 res.2.2.2.2.1 res.2.2.2.2.2.1 res.2.2.2.2.2.2.1 res.2.2.2.2.2.2.2.1 t_isKept res.2.2.2.2.2.2.2.2.1 res.2.2.2.2.2.2.2.2.2 t_p_row t_p_column t_p_down t_p_right t_p_cushions n_cells n_points n_fouls n_evening n_sights n_seenStep n_seenCell n_isKept n_touches n_cushions n_p_row n_p_column n_p_down n_p_right n_p_cushions i_cells i_points i_fouls i_evening i_sights i_seenStep i_seenCell i_isKept i_touches i_cushions i_p_row i_p_column i_p_down i_p_right i_p_cushions j_cells j_points j_fouls j_evening j_sights j_seenStep j_seenCell j_isKept j_touches j_cushions j_p_row j_p_column j_p_down j_p_right j_p_cushions x_signs x_sign x_reason x_acts x_candourAt p_row p_column p_down p_right p_cushions x_met x_reached x_firstWay x_queue x_queued x_fitting x_byCell x_wins x_ways) res.1 := by
  refine startI (own := RX0) (by decide) rfl (Nat.le_of_ble_eq_true rfl) ?_
  intro p e s m args below meth c A Q ls hC ret hl hw
  have hx := hC.1.1
  have hb := hC.1.2.1
  have hown := hC.1.2.2.2.1
  have hts := hC.1.2.2.2.2
  have hl : lv_has ls 2 [(0, .ref (h 0)), (1, .int v1)] := hl
  refine lv_iload_n hx hb dX0_restore_0 rfl (lv_at hl 1 rfl) ?_
  refine lv_iconst (v := 0) hx hb dX0_restore_1 rfl ?_
  refine lv_iconst (v := 1) hx hb dX0_restore_2 rfl ?_
  refine callSI (rest := []) 0 0 hC hw (st1 _) (metX0_isIn rfl) mi_X0_isIn q203 (rm_ok (by decide) (by decide)) rfl hl.1 rfl (Nat.le_of_ble_eq_true rfl) dX0_restore_3 ⟨Nat.zero_le _, Nat.zero_le _⟩ (st2 _) (fun H locs hw => ?_)
  refine lv_if_ne (tgt := 12) hx hb dX0_restore_6 rfl (fun c13 => ?_) (fun c13 => ?_)
  · have hf := dk_f c13 hf
    refine lv_aload_n hx hb dX0_restore_12 rfl (lv_at hl 0 rfl) ?_
    refine gX0_this_images hC hw dX0_restore_13 ?_
    refine lv_iload_n hx hb dX0_restore_16 rfl (lv_at hl 1 rfl) ?_
    by_cases c11 : v1 = 0
    · have hf := dk_t c11 hf
      refine aX0_img0 hC hw c11 dX0_restore_17 ?_
      refine gX0_i_isKept hC hw dX0_restore_18 ?_
      refine lv_if_ne (tgt := 27) hx hb dX0_restore_21 rfl (fun c5 => ?_) (fun c5 => ?_)
      · have hf := dk_f c5 hf
        refine lv_aload_n hx hb dX0_restore_27 rfl (lv_at hl 0 rfl) ?_
        refine gX0_this_table hC hw dX0_restore_28 ?_
        refine lv_aload_n hx hb dX0_restore_31 rfl (lv_at hl 0 rfl) ?_
        refine gX0_this_images hC hw dX0_restore_32 ?_
        refine lv_iload_n hx hb dX0_restore_35 rfl (lv_at hl 1 rfl) ?_
        by_cases c3 : v1 = 0
        · have hf := dk_t c3 hf
          refine aX0_img0 hC hw c3 dX0_restore_36 ?_
          obtain ⟨z1, hz1, hf⟩ := dk_b hf
          refine ccX0_t_i (rest := []) hC hl.1 hw (metX1_copy hz1) (rm_ok (by decide) (by decide)) (Nat.le_of_ble_eq_true rfl) dX0_restore_37 ⟨Nat.zero_le _, Nat.zero_le _⟩ (fun H locs hw => ?_)
          refine lv_iconst (v := 1) hx hb dX0_restore_40 rfl ?_
          obtain rfl := Option.some.inj hf
          exact ret _ _ _ _ _ dX0_restore_41 rfl rfl hw
        · have hf := dk_f c3 hf
          obtain ⟨c4, hf⟩ := dk_c hf
          refine aX0_img1 hC hw c4 dX0_restore_36 ?_
          obtain ⟨z2, hz2, hf⟩ := dk_b hf
          refine ccX0_t_j (rest := []) hC hl.1 hw (metX1_copy hz2) (rm_ok (by decide) (by decide)) (Nat.le_of_ble_eq_true rfl) dX0_restore_37 ⟨Nat.zero_le _, Nat.zero_le _⟩ (fun H locs hw => ?_)
          refine lv_iconst (v := 1) hx hb dX0_restore_40 rfl ?_
          obtain rfl := Option.some.inj hf
          exact ret _ _ _ _ _ dX0_restore_41 rfl rfl hw
      · have hf := dk_t c5 hf
        refine lv_bipush (v := (-3)) hx hb dX0_restore_24 rfl ?_
        obtain rfl := Option.some.inj hf
        exact ret _ _ _ _ _ dX0_restore_26 rfl rfl hw
    · have hf := dk_f c11 hf
      obtain ⟨c12, hf⟩ := dk_c hf
      refine aX0_img1 hC hw c12 dX0_restore_17 ?_
      refine gX0_j_isKept hC hw dX0_restore_18 ?_
      refine lv_if_ne (tgt := 27) hx hb dX0_restore_21 rfl (fun c10 => ?_) (fun c10 => ?_)
      · have hf := dk_f c10 hf
        refine lv_aload_n hx hb dX0_restore_27 rfl (lv_at hl 0 rfl) ?_
        refine gX0_this_table hC hw dX0_restore_28 ?_
        refine lv_aload_n hx hb dX0_restore_31 rfl (lv_at hl 0 rfl) ?_
        refine gX0_this_images hC hw dX0_restore_32 ?_
        refine lv_iload_n hx hb dX0_restore_35 rfl (lv_at hl 1 rfl) ?_
        by_cases c8 : v1 = 0
        · have hf := dk_t c8 hf
          refine aX0_img0 hC hw c8 dX0_restore_36 ?_
          obtain ⟨z6, hz6, hf⟩ := dk_b hf
          refine ccX0_t_i (rest := []) hC hl.1 hw (metX1_copy hz6) (rm_ok (by decide) (by decide)) (Nat.le_of_ble_eq_true rfl) dX0_restore_37 ⟨Nat.zero_le _, Nat.zero_le _⟩ (fun H locs hw => ?_)
          refine lv_iconst (v := 1) hx hb dX0_restore_40 rfl ?_
          obtain rfl := Option.some.inj hf
          exact ret _ _ _ _ _ dX0_restore_41 rfl rfl hw
        · have hf := dk_f c8 hf
          obtain ⟨c9, hf⟩ := dk_c hf
          refine aX0_img1 hC hw c9 dX0_restore_36 ?_
          obtain ⟨z7, hz7, hf⟩ := dk_b hf
          refine ccX0_t_j (rest := []) hC hl.1 hw (metX1_copy hz7) (rm_ok (by decide) (by decide)) (Nat.le_of_ble_eq_true rfl) dX0_restore_37 ⟨Nat.zero_le _, Nat.zero_le _⟩ (fun H locs hw => ?_)
          refine lv_iconst (v := 1) hx hb dX0_restore_40 rfl ?_
          obtain rfl := Option.some.inj hf
          exact ret _ _ _ _ _ dX0_restore_41 rfl rfl hw
      · have hf := dk_t c10 hf
        refine lv_bipush (v := (-3)) hx hb dX0_restore_24 rfl ?_
        obtain rfl := Option.some.inj hf
        exact ret _ _ _ _ _ dX0_restore_26 rfl rfl hw
  · have hf := dk_t c13 hf
    refine lv_bipush (v := (-2)) hx hb dX0_restore_9 rfl ?_
    obtain rfl := Option.some.inj hf
    exact ret _ _ _ _ _ dX0_restore_11 rfl rfl hw
set_option maxHeartbeats 4000000 in
set_option maxRecDepth 100000 in
theorem metX0_told {v1 : Int32} {res : Int32} (hf : fX0_told v1 t_cells t_points t_fouls t_evening t_sights x_signs = some res) : CtI l yX0_told cX0_told 2 .int 2 D E sz [.ref (h 0), .int v1] (WX0 h E t_cells t_points t_fouls t_evening t_sights t_seenStep t_seenCell t_isKept t_touches t_cushions t_p_row t_p_column t_p_down t_p_right t_p_cushions n_cells n_points n_fouls n_evening n_sights n_seenStep n_seenCell n_isKept n_touches n_cushions n_p_row n_p_column n_p_down n_p_right n_p_cushions i_cells i_points i_fouls i_evening i_sights i_seenStep i_seenCell i_isKept i_touches i_cushions i_p_row i_p_column i_p_down i_p_right i_p_cushions j_cells j_points j_fouls j_evening j_sights j_seenStep j_seenCell j_isKept j_touches j_cushions j_p_row j_p_column j_p_down j_p_right j_p_cushions x_signs x_sign x_reason x_acts x_candourAt p_row p_column p_down p_right p_cushions x_met x_reached x_firstWay x_queue x_queued x_fitting x_byCell x_wins x_ways) (WX0 h E t_cells t_points t_fouls t_evening t_sights t_seenStep t_seenCell t_isKept t_touches t_cushions t_p_row t_p_column t_p_down t_p_right t_p_cushions n_cells n_points n_fouls n_evening n_sights n_seenStep n_seenCell n_isKept n_touches n_cushions n_p_row n_p_column n_p_down n_p_right n_p_cushions i_cells i_points i_fouls i_evening i_sights i_seenStep i_seenCell i_isKept i_touches i_cushions i_p_row i_p_column i_p_down i_p_right i_p_cushions j_cells j_points j_fouls j_evening j_sights j_seenStep j_seenCell j_isKept j_touches j_cushions j_p_row j_p_column j_p_down j_p_right j_p_cushions x_signs x_sign x_reason x_acts x_candourAt p_row p_column p_down p_right p_cushions x_met x_reached x_firstWay x_queue x_queued x_fitting x_byCell x_wins x_ways) res := by
  refine startI (own := RX0) (by decide) rfl (Nat.le_of_ble_eq_true rfl) ?_
  intro p e s m args below meth c A Q ls hC ret hl hw
  have hx := hC.1.1
  have hb := hC.1.2.1
  have hown := hC.1.2.2.2.1
  have hts := hC.1.2.2.2.2
  have hl : lv_has ls 2 [(0, .ref (h 0)), (1, .int v1)] := hl
  refine lv_iload_n hx hb dX0_told_0 rfl (lv_at hl 1 rfl) ?_
  by_cases c1 : v1 = 0
  · have hf := dk_t c1 hf
    refine lv_tableIn (tgt := 36) hx hb dX0_told_1 (by rw [c1] <;> decide) (by rw [c1] <;> decide) (by rw [c1] <;> rfl) rfl ?_
    refine lv_aload_n hx hb dX0_told_36 rfl (lv_at hl 0 rfl) ?_
    refine gX0_this_signs hC hw dX0_told_37 ?_
    exact ret _ _ _ _ _ dX0_told_40 rfl (Option.some.inj hf) hw
  · have hf := dk_f c1 hf
    by_cases c2 : v1 = 1
    · have hf := dk_t c2 hf
      refine lv_tableIn (tgt := 41) hx hb dX0_told_1 (by rw [c2] <;> decide) (by rw [c2] <;> decide) (by rw [c2] <;> rfl) rfl ?_
      refine lv_aload_n hx hb dX0_told_41 rfl (lv_at hl 0 rfl) ?_
      refine gX0_this_table hC hw dX0_told_42 ?_
      refine gX0_t_points hC hw dX0_told_45 ?_
      exact ret _ _ _ _ _ dX0_told_48 rfl (Option.some.inj hf) hw
    · have hf := dk_f c2 hf
      by_cases c3 : v1 = 2
      · have hf := dk_t c3 hf
        refine lv_tableIn (tgt := 49) hx hb dX0_told_1 (by rw [c3] <;> decide) (by rw [c3] <;> decide) (by rw [c3] <;> rfl) rfl ?_
        refine lv_aload_n hx hb dX0_told_49 rfl (lv_at hl 0 rfl) ?_
        refine gX0_this_table hC hw dX0_told_50 ?_
        refine gX0_t_fouls hC hw dX0_told_53 ?_
        exact ret _ _ _ _ _ dX0_told_56 rfl (Option.some.inj hf) hw
      · have hf := dk_f c3 hf
        by_cases c4 : v1 = 3
        · have hf := dk_t c4 hf
          refine lv_tableIn (tgt := 57) hx hb dX0_told_1 (by rw [c4] <;> decide) (by rw [c4] <;> decide) (by rw [c4] <;> rfl) rfl ?_
          refine lv_aload_n hx hb dX0_told_57 rfl (lv_at hl 0 rfl) ?_
          refine gX0_this_table hC hw dX0_told_58 ?_
          refine gX0_t_evening hC hw dX0_told_61 ?_
          exact ret _ _ _ _ _ dX0_told_64 rfl (Option.some.inj hf) hw
        · have hf := dk_f c4 hf
          by_cases c5 : v1 = 4
          · have hf := dk_t c5 hf
            refine lv_tableIn (tgt := 65) hx hb dX0_told_1 (by rw [c5] <;> decide) (by rw [c5] <;> decide) (by rw [c5] <;> rfl) rfl ?_
            refine lv_aload_n hx hb dX0_told_65 rfl (lv_at hl 0 rfl) ?_
            refine gX0_this_table hC hw dX0_told_66 ?_
            refine gX0_t_sights hC hw dX0_told_69 ?_
            exact ret _ _ _ _ _ dX0_told_72 rfl (Option.some.inj hf) hw
          · have hf := dk_f c5 hf
            refine lv_tableOut (tgt := 73) hx hb dX0_told_1 (by have e0 : v1.toInt ≠ 0 := fun h => c1 (Int32.toInt_inj.mp (h.trans (by decide))); have e1 : v1.toInt ≠ 1 := fun h => c2 (Int32.toInt_inj.mp (h.trans (by decide))); have e2 : v1.toInt ≠ 2 := fun h => c3 (Int32.toInt_inj.mp (h.trans (by decide))); have e3 : v1.toInt ≠ 3 := fun h => c4 (Int32.toInt_inj.mp (h.trans (by decide))); have e4 : v1.toInt ≠ 4 := fun h => c5 (Int32.toInt_inj.mp (h.trans (by decide))); omega) rfl ?_
            refine lv_iload_n hx hb dX0_told_73 rfl (lv_at hl 1 rfl) ?_
            refine lv_bipush (v := 10) hx hb dX0_told_74 rfl ?_
            refine lv_isub hx hb dX0_told_76 ?_
            refine callSI (rest := []) 0 0 hC hw (st1 _) (metX0_isBall rfl) mi_X0_isBall q200 (rm_ok (by decide) (by decide)) rfl hl.1 rfl (Nat.le_of_ble_eq_true rfl) dX0_told_77 ⟨Nat.zero_le _, Nat.zero_le _⟩ (st2 _) (fun H locs hw => ?_)
            refine lv_if_eq (tgt := 98) hx hb dX0_told_80 rfl (fun c7 => ?_) (fun c7 => ?_)
            · have hf := dk_t c7 hf
              refine lv_bipush (v := (-2)) hx hb dX0_told_98 rfl ?_
              exact ret _ _ _ _ _ dX0_told_100 rfl (Option.some.inj hf) hw
            · have hf := dk_f c7 hf
              refine lv_aload_n hx hb dX0_told_83 rfl (lv_at hl 0 rfl) ?_
              refine gX0_this_table hC hw dX0_told_84 ?_
              refine gX0_t_cells hC hw dX0_told_87 ?_
              refine lv_iload_n hx hb dX0_told_90 rfl (lv_at hl 1 rfl) ?_
              refine lv_bipush (v := 10) hx hb dX0_told_91 rfl ?_
              refine lv_isub hx hb dX0_told_93 ?_
              obtain ⟨b6, hf⟩ := dk_c hf
              refine aX0_t_cells hC hw b6 dX0_told_94 ?_
              refine lv_goto (tgt := 100) hx hb dX0_told_95 rfl ?_
              exact ret _ _ _ _ _ dX0_told_100 rfl (Option.some.inj hf) hw
end METX0
