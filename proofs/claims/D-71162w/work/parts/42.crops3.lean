set_option maxRecDepth 100000
set_option maxHeartbeats 4000000 in
theorem op_behind : Op_behind := by
  intro t_cells t_points t_fouls t_evening t_sights t_seenStep t_seenCell i_cells i_points i_fouls i_evening i_sights i_seenStep i_seenCell i_isKept j_cells j_points j_fouls j_evening j_sights j_seenStep j_seenCell j_isKept x_signs x_sign m_cell m_points m_fouls m_evening m_sightStep m_sightCell m_sights m_pad m_padMany m_kept m_isKept n_cells n_points n_fouls n_evening n_sights n_seenStep n_seenCell n_touches n_cushions n_p_row n_p_column n_p_down n_p_right n_p_cushions x_reason x_acts x_candourAt m_act m_which m_whither m_hard m_acts m_moving m_goes m_left m_touches m_cushions m_cushionsThen m_touchedFirst m_stepsThen m_downNow m_touchedMany m_cushionMany m_were m_had m_badAct m_badWhy m_foulAct hR v1
  have hR0 := hR
  obtain ⟨⟨hc, hp, hf, he, hs, hss, hsc, hok⟩, ⟨hsg, hr, hsn⟩, hi, hj⟩ := hR
  subst hp hf he hs hsg
  have hRb : ∀ C1, Rel t_cells t_points t_fouls t_evening t_sights t_seenStep t_seenCell i_cells i_points i_fouls i_evening i_sights i_seenStep i_seenCell i_isKept j_cells j_points j_fouls j_evening j_sights j_seenStep j_seenCell j_isKept x_signs x_sign (bk C1 m_cell) t_points t_fouls t_evening m_sightStep m_sightCell t_sights m_pad x_signs m_kept m_isKept := fun C1 => ⟨⟨fun i h => (hc i h).trans (bk_eq C1 m_cell i h).symm, rfl, rfl, rfl, rfl, hss, hsc, hok⟩, ⟨rfl, hr, hsn⟩, hi, hj⟩
  unfold fX0_behind fX0_barOfCrises fX3_behind
  rw [isBall_eq]
  by_cases a : fX0_isBall v1 = 0
  · simp only [if_pos a]; exact ⟨_, _, rfl, rfl, rfl, hR0⟩
  obtain ⟨k, hk, ek⟩ := isIn_nI (n := 2) rfl a
  subst ek
  have hb : bIn (nI k) 3 := bIn_nI (by omega) (by decide)
  have hcl : (nI k).toNatClampNeg = k := nI_clamp (by omega)
  rcases cr_all hc hok.1 hsn hr t_points t_fouls t_evening m_act m_which m_whither m_hard m_were m_had m_acts m_moving m_goes m_left m_touches m_cushions m_cushionsThen m_touchedFirst m_stepsThen m_downNow m_touchedMany m_cushionMany m_badAct m_badWhy m_foulAct n_cells n_seenStep n_seenCell t_seenStep t_seenCell n_points n_fouls n_evening n_sights n_touches n_cushions t_sights n_p_row n_p_column n_p_down n_p_right n_p_cushions x_reason x_acts x_candourAt with ⟨z, a1, a2, a3, a4, a5, hz, e1, e2⟩ | ⟨bad, why, a1, a2, a3, a4, Cx', C', were', P', F', E', T', U', fa', r', c', d', i', q', rs', ac', N, x1, x2, x3, x4, x5, x6, x7, x8, x9, e1, y1, y2, y3, y4, y5, e3, e2⟩
  · simp only [if_neg a, e1, e2, Option.bind_some, if_neg (i_nlt.mpr hz), back_s, if_neg (show ¬ (0 : Int32) ≤ -5 by decide), if_neg (show ¬ (-5 : Int32) = -6 by decide)]
    exact ⟨_, _, rfl, rfl, rfl, hRb m_cell⟩
  · simp only [if_neg a, e1, e2, Option.bind_some, if_pos (show (-6 : Int32) < 0 by decide), back_s, e3, if_pos hb]
    rcases y3 with ⟨rfl, rfl⟩ | ⟨hb1, hb2⟩
    · simp only [if_pos (show (-6 : Int32) < 0 by decide), Option.bind_some, if_pos (show (0 : Int32) ≤ 0 by decide), if_true]
      refine ⟨_, _, rfl, rfl, ?_, hRb C'⟩
      show Cx' _ = C' _
      rw [hcl]
      exact y1 k (by omega)
    · have hbn : ¬ bad < 0 := i_nlt.mpr hb1
      simp only [if_neg hbn, Option.bind_some, if_neg (show ¬ (0 : Int32) ≤ -3 by decide), if_neg (show ¬ (-3 : Int32) = -6 by decide)]
      exact ⟨_, _, rfl, rfl, rfl, hRb C'⟩
set_option maxHeartbeats 4000000 in
theorem op_candour : Op_candour := by
  intro t_cells t_points t_fouls t_evening t_sights t_seenStep t_seenCell i_cells i_points i_fouls i_evening i_sights i_seenStep i_seenCell i_isKept j_cells j_points j_fouls j_evening j_sights j_seenStep j_seenCell j_isKept x_signs x_sign m_cell m_points m_fouls m_evening m_sightStep m_sightCell m_sights m_pad m_padMany m_kept m_isKept n_cells n_points n_fouls n_evening n_sights n_seenStep n_seenCell n_touches n_cushions n_p_row n_p_column n_p_down n_p_right n_p_cushions x_reason x_acts x_candourAt m_act m_which m_whither m_hard m_acts m_moving m_goes m_left m_touches m_cushions m_cushionsThen m_touchedFirst m_stepsThen m_downNow m_touchedMany m_cushionMany m_were m_had m_badAct m_badWhy m_foulAct hR v1
  have hR0 := hR
  obtain ⟨⟨hc, hp, hf, he, hs, hss, hsc, hok⟩, ⟨hsg, hr, hsn⟩, hi, hj⟩ := hR
  subst hp hf he hs hsg
  have hRb : ∀ C1, Rel t_cells t_points t_fouls t_evening t_sights t_seenStep t_seenCell i_cells i_points i_fouls i_evening i_sights i_seenStep i_seenCell i_isKept j_cells j_points j_fouls j_evening j_sights j_seenStep j_seenCell j_isKept x_signs x_sign (bk C1 m_cell) t_points t_fouls t_evening m_sightStep m_sightCell t_sights m_pad x_signs m_kept m_isKept := fun C1 => ⟨⟨fun i h => (hc i h).trans (bk_eq C1 m_cell i h).symm, rfl, rfl, rfl, rfl, hss, hsc, hok⟩, ⟨rfl, hr, hsn⟩, hi, hj⟩
  unfold fX0_candour fX0_barOfCrises fX3_candour
  rw [in0 v1 0 1 (by decide) (by decide)]
  by_cases a : fX0_isIn v1 0 1 = 0
  · simp only [if_pos a]; exact ⟨_, _, rfl, rfl, rfl, hR0⟩
  rcases cr_all hc hok.1 hsn hr t_points t_fouls t_evening m_act m_which m_whither m_hard m_were m_had m_acts m_moving m_goes m_left m_touches m_cushions m_cushionsThen m_touchedFirst m_stepsThen m_downNow m_touchedMany m_cushionMany m_badAct m_badWhy m_foulAct n_cells n_seenStep n_seenCell t_seenStep t_seenCell n_points n_fouls n_evening n_sights n_touches n_cushions t_sights n_p_row n_p_column n_p_down n_p_right n_p_cushions x_reason x_acts x_candourAt with ⟨z, a1, a2, a3, a4, a5, hz, e1, e2⟩ | ⟨bad, why, a1, a2, a3, a4, Cx', C', were', P', F', E', T', U', fa', r', c', d', i', q', rs', ac', N, x1, x2, x3, x4, x5, x6, x7, x8, x9, e1, y1, y2, y3, y4, y5, e3, e2⟩
  · simp only [if_neg a, e1, e2, Option.bind_some, if_neg (i_nlt.mpr hz), back_s, if_neg (show ¬ (0 : Int32) ≤ -5 by decide), if_neg (show ¬ (-5 : Int32) = -6 by decide)]
    exact ⟨_, _, rfl, rfl, rfl, hRb m_cell⟩
  · simp only [if_neg a, e1, e2, Option.bind_some, if_pos (show (-6 : Int32) < 0 by decide), back_s, e3]
    rcases y3 with ⟨rfl, rfl⟩ | ⟨hb1, hb2⟩
    · simp only [if_pos (show (-6 : Int32) < 0 by decide), Option.bind_some, if_pos (show (0 : Int32) ≤ 0 by decide), if_true]
      by_cases v0 : v1 = 0
      · simp only [if_pos v0]; exact ⟨_, _, rfl, rfl, rfl, hRb C'⟩
      · simp only [if_neg v0]; exact ⟨_, _, rfl, rfl, rfl, hRb C'⟩
    · have hbn : ¬ bad < 0 := i_nlt.mpr hb1
      simp only [if_neg hbn, Option.bind_some, if_neg (show ¬ (0 : Int32) ≤ -3 by decide), if_neg (show ¬ (-3 : Int32) = -6 by decide)]
      exact ⟨_, _, rfl, rfl, rfl, hRb C'⟩
set_option maxHeartbeats 4000000 in
theorem op_table : Op_table := by
  intro t_cells t_points t_fouls t_evening t_sights t_seenStep t_seenCell i_cells i_points i_fouls i_evening i_sights i_seenStep i_seenCell i_isKept j_cells j_points j_fouls j_evening j_sights j_seenStep j_seenCell j_isKept x_signs x_sign m_cell m_points m_fouls m_evening m_sightStep m_sightCell m_sights m_pad m_padMany m_kept m_isKept n_cells n_points n_fouls n_evening n_sights n_seenStep n_seenCell n_touches n_cushions n_p_row n_p_column n_p_down n_p_right n_p_cushions x_reason x_acts x_candourAt m_act m_which m_whither m_hard m_acts m_moving m_goes m_left m_touches m_cushions m_cushionsThen m_touchedFirst m_stepsThen m_downNow m_touchedMany m_cushionMany m_were m_had m_badAct m_badWhy m_foulAct hR v1
  have hR0 := hR
  obtain ⟨⟨hc, hp, hf, he, hs, hss, hsc, hok⟩, ⟨hsg, hr, hsn⟩, hi, hj⟩ := hR
  subst hp hf he hs hsg
  have hRb : ∀ C1, Rel t_cells t_points t_fouls t_evening t_sights t_seenStep t_seenCell i_cells i_points i_fouls i_evening i_sights i_seenStep i_seenCell i_isKept j_cells j_points j_fouls j_evening j_sights j_seenStep j_seenCell j_isKept x_signs x_sign (bk C1 m_cell) t_points t_fouls t_evening m_sightStep m_sightCell t_sights m_pad x_signs m_kept m_isKept := fun C1 => ⟨⟨fun i h => (hc i h).trans (bk_eq C1 m_cell i h).symm, rfl, rfl, rfl, rfl, hss, hsc, hok⟩, ⟨rfl, hr, hsn⟩, hi, hj⟩
  unfold fX0_table fX0_barOfCrises fX3_table
  rw [in0 v1 0 3 (by decide) (by decide)]
  by_cases a : fX0_isIn v1 0 3 = 0
  · simp only [if_pos a]; exact ⟨_, _, rfl, rfl, rfl, hR0⟩
  rcases cr_all hc hok.1 hsn hr t_points t_fouls t_evening m_act m_which m_whither m_hard m_were m_had m_acts m_moving m_goes m_left m_touches m_cushions m_cushionsThen m_touchedFirst m_stepsThen m_downNow m_touchedMany m_cushionMany m_badAct m_badWhy m_foulAct n_cells n_seenStep n_seenCell t_seenStep t_seenCell n_points n_fouls n_evening n_sights n_touches n_cushions t_sights n_p_row n_p_column n_p_down n_p_right n_p_cushions x_reason x_acts x_candourAt with ⟨z, a1, a2, a3, a4, a5, hz, e1, e2⟩ | ⟨bad, why, a1, a2, a3, a4, Cx', C', were', P', F', E', T', U', fa', r', c', d', i', q', rs', ac', N, x1, x2, x3, x4, x5, x6, x7, x8, x9, e1, y1, y2, y3, y4, y5, e3, e2⟩
  · simp only [if_neg a, e1, e2, Option.bind_some, if_neg (i_nlt.mpr hz), back_s, if_neg (show ¬ (0 : Int32) ≤ -5 by decide), if_neg (show ¬ (-5 : Int32) = -6 by decide)]
    exact ⟨_, _, rfl, rfl, rfl, hRb m_cell⟩
  · simp only [if_neg a, e1, e2, Option.bind_some, if_pos (show (-6 : Int32) < 0 by decide), back_s, e3]
    rcases y3 with ⟨rfl, rfl⟩ | ⟨hb1, hb2⟩
    · simp only [if_pos (show (-6 : Int32) < 0 by decide), Option.bind_some, if_pos (show (0 : Int32) ≤ 0 by decide), if_true, down_X, down_M]
      by_cases v0 : v1 = 0
      · simp only [if_pos v0]; exact ⟨_, _, rfl, rfl, rfl, hRb C'⟩
      · by_cases v2 : v1 = 1
        · simp only [if_neg v0, if_pos v2]; exact ⟨_, _, rfl, rfl, rfl, hRb C'⟩
        · by_cases v3 : v1 = 2
          · simp only [if_neg v0, if_neg v2, if_pos v3, back_s, Option.bind_some]; exact ⟨_, _, rfl, rfl, cnt_eq y1, hRb C'⟩
          · simp only [if_neg v0, if_neg v2, if_neg v3]; exact ⟨_, _, rfl, rfl, rfl, hRb C'⟩
    · have hbn : ¬ bad < 0 := i_nlt.mpr hb1
      simp only [if_neg hbn, Option.bind_some, if_neg (show ¬ (0 : Int32) ≤ -3 by decide), if_neg (show ¬ (-3 : Int32) = -6 by decide)]
      exact ⟨_, _, rfl, rfl, rfl, hRb C'⟩
set_option maxHeartbeats 4000000 in
theorem op_done : Op_done := by
  intro t_cells t_points t_fouls t_evening t_sights t_seenStep t_seenCell i_cells i_points i_fouls i_evening i_sights i_seenStep i_seenCell i_isKept j_cells j_points j_fouls j_evening j_sights j_seenStep j_seenCell j_isKept x_signs x_sign m_cell m_points m_fouls m_evening m_sightStep m_sightCell m_sights m_pad m_padMany m_kept m_isKept t_touches t_cushions n_cells n_points n_fouls n_evening n_sights n_seenStep n_seenCell n_touches n_cushions n_p_row n_p_column n_p_down n_p_right n_p_cushions x_reason x_acts x_candourAt m_act m_which m_whither m_hard m_acts m_moving m_goes m_left m_touches m_cushions m_cushionsThen m_touchedFirst m_stepsThen m_downNow m_touchedMany m_cushionMany m_were m_had m_badAct m_badWhy m_foulAct hR _
  have hR0 := hR
  obtain ⟨⟨hc, hp, hf, he, hs, hss, hsc, hok⟩, ⟨hsg, hr, hsn⟩, hi, hj⟩ := hR
  subst hp hf he hs hsg
  have hRb : ∀ C1, Rel t_cells t_points t_fouls t_evening t_sights t_seenStep t_seenCell i_cells i_points i_fouls i_evening i_sights i_seenStep i_seenCell i_isKept j_cells j_points j_fouls j_evening j_sights j_seenStep j_seenCell j_isKept x_signs x_sign (bk C1 m_cell) t_points t_fouls t_evening m_sightStep m_sightCell t_sights m_pad x_signs m_kept m_isKept := fun C1 => ⟨⟨fun i h => (hc i h).trans (bk_eq C1 m_cell i h).symm, rfl, rfl, rfl, rfl, hss, hsc, hok⟩, ⟨rfl, hr, hsn⟩, hi, hj⟩
  unfold fX0_done fX0_barOfCrises fX3_done
  rcases cr_all hc hok.1 hsn hr t_points t_fouls t_evening m_act m_which m_whither m_hard m_were m_had m_acts m_moving m_goes m_left m_touches m_cushions m_cushionsThen m_touchedFirst m_stepsThen m_downNow m_touchedMany m_cushionMany m_badAct m_badWhy m_foulAct n_cells n_seenStep n_seenCell t_seenStep t_seenCell n_points n_fouls n_evening n_sights n_touches n_cushions t_sights n_p_row n_p_column n_p_down n_p_right n_p_cushions x_reason x_acts x_candourAt with ⟨z, a1, a2, a3, a4, a5, hz, e1, e2⟩ | ⟨bad, why, a1, a2, a3, a4, Cx', C', were', P', F', E', T', U', fa', r', c', d', i', q', rs', ac', N, x1, x2, x3, x4, x5, x6, x7, x8, x9, e1, y1, y2, y3, y4, y5, e3, e2⟩
  · simp only [e1, e2, Option.bind_some, if_neg (i_nlt.mpr hz), back_s, if_neg (show ¬ (0 : Int32) ≤ -5 by decide), if_neg (show ¬ (-5 : Int32) = -6 by decide)]
    exact ⟨_, _, rfl, rfl, rfl, hRb m_cell⟩
  · simp only [e1, e2, Option.bind_some, if_pos (show (-6 : Int32) < 0 by decide), back_s, e3]
    rcases y3 with ⟨rfl, rfl⟩ | ⟨hb1, hb2⟩
    · simp only [if_pos (show (-6 : Int32) < 0 by decide), Option.bind_some, if_pos (show (0 : Int32) ≤ 0 by decide), if_true, fX1_copy]
      have s8 : ∀ (A B : Nat → Int32) (i : Nat), i < 8 → va_cpy (va_cpy A B 0 0 8) A 0 0 8 i = A i := fun A B i h => (cpy_in h).trans (cpy_in h)
      refine ⟨_, _, rfl, rfl, y4 rfl, ⟨fun i h => (cpy_in h).trans (y1 i h), rfl, rfl, rfl, rfl, fun i h => (s8 _ _ i h).trans (hss i h), fun i h => (s8 _ _ i h).trans (hsc i h), OkC_congr y2 (fun i h => cpy_in h), hok.2.1, fun i h => ?_⟩, ⟨rfl, ⟨by show (0 : Int32) ≤ 0; decide, by show (0 : Int32) ≤ 60; decide⟩, hsn⟩, hi, hj⟩
      have := hok.2.2 i h
      rw [← s8 t_seenStep n_seenStep i h] at this
      exact this
    · have hbn : ¬ bad < 0 := i_nlt.mpr hb1
      simp only [if_neg hbn, Option.bind_some, if_neg (show ¬ (0 : Int32) ≤ -3 by decide), if_neg (show ¬ (-3 : Int32) = -6 by decide)]
      exact ⟨_, _, rfl, rfl, rfl, hRb C'⟩
