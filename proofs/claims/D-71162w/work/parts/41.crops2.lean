set_option maxRecDepth 100000
set_option maxHeartbeats 4000000 in
theorem op_judge : Op_judge := by
  intro t_cells t_points t_fouls t_evening t_sights t_seenStep t_seenCell i_cells i_points i_fouls i_evening i_sights i_seenStep i_seenCell i_isKept j_cells j_points j_fouls j_evening j_sights j_seenStep j_seenCell j_isKept x_signs x_sign m_cell m_points m_fouls m_evening m_sightStep m_sightCell m_sights m_pad m_padMany m_kept m_isKept n_cells n_points n_fouls n_evening n_sights n_seenStep n_seenCell n_touches n_cushions n_p_row n_p_column n_p_down n_p_right n_p_cushions x_reason x_acts x_candourAt m_act m_which m_whither m_hard m_acts m_moving m_goes m_left m_touches m_cushions m_cushionsThen m_touchedFirst m_stepsThen m_downNow m_touchedMany m_cushionMany m_were m_had m_badAct m_badWhy m_foulAct hR v1
  have hR0 := hR
  obtain ⟨⟨hc, hp, hf, he, hs, hss, hsc, hok⟩, ⟨hsg, hr, hsn⟩, hi, hj⟩ := hR
  subst hp hf he hs hsg
  have hRb : ∀ C1, Rel t_cells t_points t_fouls t_evening t_sights t_seenStep t_seenCell i_cells i_points i_fouls i_evening i_sights i_seenStep i_seenCell i_isKept j_cells j_points j_fouls j_evening j_sights j_seenStep j_seenCell j_isKept x_signs x_sign (bk C1 m_cell) t_points t_fouls t_evening m_sightStep m_sightCell t_sights m_pad x_signs m_kept m_isKept := fun C1 => ⟨⟨fun i h => (hc i h).trans (bk_eq C1 m_cell i h).symm, rfl, rfl, rfl, rfl, hss, hsc, hok⟩, ⟨rfl, hr, hsn⟩, hi, hj⟩
  unfold fX0_judge fX3_judge
  rw [in0 v1 0 2 (by decide) (by decide)]
  by_cases a : fX0_isIn v1 0 2 = 0
  · simp only [if_pos a]; exact ⟨_, _, rfl, rfl, rfl, hR0⟩
  obtain ⟨k, hk, ek⟩ := isIn_nI (n := 2) rfl a
  rcases cr_all hc hok.1 hsn hr t_points t_fouls t_evening m_act m_which m_whither m_hard m_were m_had m_acts m_moving m_goes m_left m_touches m_cushions m_cushionsThen m_touchedFirst m_stepsThen m_downNow m_touchedMany m_cushionMany m_badAct m_badWhy m_foulAct n_cells n_seenStep n_seenCell t_seenStep t_seenCell n_points n_fouls n_evening n_sights n_touches n_cushions t_sights n_p_row n_p_column n_p_down n_p_right n_p_cushions x_reason x_acts x_candourAt with ⟨z, a1, a2, a3, a4, a5, hz, e1, e2⟩ | ⟨bad, why, a1, a2, a3, a4, Cx', C', were', P', F', E', T', U', fa', r', c', d', i', q', rs', ac', N, x1, x2, x3, x4, x5, x6, x7, x8, x9, e1, y1, y2, y3, y4, y5, e3, e2⟩
  · simp only [if_neg a, e1, e2, Option.bind_some, if_neg (i_nlt.mpr hz), back_s, if_true]
    exact ⟨_, _, rfl, rfl, rfl, hRb m_cell⟩
  · simp only [if_neg a, e1, e2, Option.bind_some, if_pos (show (-6 : Int32) < 0 by decide), back_s, e3]
    have hk3 : k = 0 ∨ k = 1 ∨ k = 2 := by omega
    rcases y3 with ⟨rfl, rfl⟩ | ⟨hb1, hb2⟩
    · simp only [if_pos (show (-6 : Int32) < 0 by decide), if_neg (show ¬ (-6 : Int32) = -5 by decide), if_neg (show ¬ (-6 : Int32) = -3 by decide)]
      unfold fX3_judge_L43
      rcases hk3 with rfl | rfl | rfl
      · obtain rfl : v1 = 0 := ek
        exact ⟨_, _, rfl, rfl, rfl, hRb C'⟩
      · obtain rfl : v1 = 1 := ek
        exact ⟨_, _, rfl, rfl, rfl, hRb C'⟩
      · obtain rfl : v1 = 2 := ek
        exact ⟨_, _, rfl, rfl, rfl, hRb C'⟩
    · have hbn : ¬ bad < 0 := i_nlt.mpr hb1
      simp only [if_neg hbn, if_neg (show ¬ (-3 : Int32) = -5 by decide), if_true]
      unfold fX3_judge_L43
      rcases hk3 with rfl | rfl | rfl
      · obtain rfl : v1 = 0 := ek
        exact ⟨_, _, rfl, rfl, rfl, hRb C'⟩
      · obtain rfl : v1 = 1 := ek
        exact ⟨_, _, rfl, rfl, y5 hb1, hRb C'⟩
      · obtain rfl : v1 = 2 := ek
        exact ⟨_, _, rfl, rfl, rfl, hRb C'⟩
