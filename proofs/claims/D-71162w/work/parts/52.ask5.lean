set_option maxRecDepth 100000
set_option maxHeartbeats 4000000 in
theorem op_ask : Op_ask := by
  intro t_cells t_points t_fouls t_evening t_sights t_seenStep t_seenCell i_cells i_points i_fouls i_evening i_sights i_seenStep i_seenCell i_isKept j_cells j_points j_fouls j_evening j_sights j_seenStep j_seenCell j_isKept x_signs x_sign m_cell m_points m_fouls m_evening m_sightStep m_sightCell m_sights m_pad m_padMany m_kept m_isKept p_row p_column p_down p_right p_cushions x_fitting x_byCell m_fit m_now m_fitMany m_byCell hR v1
  have hR0 := hR
  obtain ⟨⟨hc, hp, hf, he, hs, hss, hsc, hok⟩, hsg, hi, hj⟩ := hR
  subst hs
  obtain ⟨S, hS, eS⟩ := i_of8 (n := 8) (M := 8) rfl hok.2.1
  subst eS
  have hst := hok.2.2
  have hst' : ∀ i, i < 8 → 0 ≤ m_sightStep i ∧ m_sightStep i ≤ 60 := fun i h => by rw [← hss i h]; exact hst i h
  have hB : fitB S m_sightStep m_sightCell = fitB S t_seenStep t_seenCell := (fitB_congr hS hss hsc).symm
  unfold fX0_ask fX3_ask
  rw [in0 v1 0 1 (by decide) (by decide)]
  by_cases a : fX0_isIn v1 0 1 = 0
  · rw [if_pos a, if_pos a]; exact ⟨_, _, rfl, rfl, rfl, hR0⟩
  rw [if_neg a, if_neg a]
  obtain ⟨fit', now', e1, e2⟩ := fits_s hS (cell := m_sightCell) hst' 450 0 FU m_fit m_now (by omega) (by have : FU = 200000 := rfl; omega) (fun e h => absurd h (by omega))
  rw [hB] at e1 e2
  have e1 : fX3_findFits m_sightStep m_sightCell (nI S) m_fit m_now m_fitMany = some (fit', now', nI (fc (fitB S t_seenStep t_seenCell) 450)) := by
    unfold fX3_findFits
    rw [← e1]
    rfl
  obtain ⟨fitX, r', c', d', i', q', x1, x2⟩ := ask16 v1 hS (cell := t_seenCell) hst x_byCell 450 0 FU x_fitting (by omega) (by have : FU = 200000 := rfl; omega) (fun e h => absurd h (by omega)) p_row p_column p_down p_right p_cushions
  have x1 : fX0_ask_L16 v1 (nI S) t_seenStep t_seenCell FU 0 0 p_row p_column p_down p_right p_cushions x_fitting x_byCell = _ := x1
  rw [x1, e1, Option.bind_some]
  have hF := fc_all (S := S) (step := t_seenStep) (cell := t_seenCell)
  have hsur : ∀ t, t < fc (fitB S t_seenStep t_seenCell) 450 → ∃ e, e < 450 ∧ fitB S t_seenStep t_seenCell e = true ∧ fc (fitB S t_seenStep t_seenCell) e = t := fun t ht => fc_sur 450 t ht
  generalize hFF : fc (fitB S t_seenStep t_seenCell) 450 = F at *
  rcases Nat.eq_zero_or_pos F with hz | hz
  · subst hz
    have hFU : FU = 199999 + 1 := rfl
    have hX : fX0_ask_L57 v1 (nI S) t_seenStep t_seenCell FU (nI 0) (-6) 1000000 0 r' c' d' i' q' fitX x_byCell = some (-6, r', c', d', i', q', fitX, x_byCell) := by
      rw [hFU]
      unfold fX0_ask_L57 fX0_ask_L163
      rw [if_neg (by decide), if_pos (by decide), if_pos (by decide)]
    have hM : fX3_ask_L30 v1 m_sightStep m_sightCell (nI S) FU (-6) (nI 0 + 1) 0 fit' now' (nI 0) m_byCell = some (-6, fit', now', nI 0, m_byCell) := by
      rw [hFU]
      unfold fX3_ask_L30 fX3_ask_L82
      rw [if_neg (by decide), if_pos (by decide), if_pos (by decide)]
    exact ⟨_, _, hX, hM, rfl, hR0⟩
  · have hex : ∀ i, ∃ e, i < F → e < 450 ∧ fitB S t_seenStep t_seenCell e = true ∧ fc (fitB S t_seenStep t_seenCell) e = i := by
      intro i
      by_cases h : i < F
      · obtain ⟨e, h1⟩ := hsur i h; exact ⟨e, fun _ => h1⟩
      · exact ⟨0, fun h' => absurd h' h⟩
    obtain ⟨C, hCs⟩ : ∃ C : Nat → Nat, ∀ i, i < F → C i < 450 ∧ fitB S t_seenStep t_seenCell (C i) = true ∧ fc (fitB S t_seenStep t_seenCell) (C i) = i := ⟨fun i => Classical.choose (hex i), fun i => Classical.choose_spec (hex i)⟩
    have hC : ∀ i, i < F → C i < 450 ∧ C i % 10 < 8 := fun i h => ⟨(hCs i h).1, fitB_8 _ (hCs i h).2.1⟩
    have hfit : ∀ i, i < F → fitX i = nI (C i) := fun i h => by
      have := x2 (C i) (hCs i h).1 (hCs i h).2.1
      rw [(hCs i h).2.2] at this
      exact this
    have hnow : ∀ e, e < F → now' e = nI (cd (C e) 0) := fun e h => by
      have := (e2 (C e) (hCs e h).1 (hCs e h).2.1).2
      rw [(hCs e h).2.2] at this
      rw [this]
      unfold cd
      rw [it_0]
      congr 1
      omega
    obtain ⟨res, u1, u2⟩ := ask_out v1 (nI S) t_seenStep t_seenCell m_sightStep m_sightCell hz hF hC hfit 61 0 (by omega) (-6) 1000000 (nI (F + 1)) x_byCell m_byCell now' (Or.inl ⟨rfl, rfl, rfl⟩) hnow
    have hFU : 61 < FU := by decide
    obtain ⟨r1, c1, d1, i1, q1, byX', w1⟩ := u1 FU hFU r' c' d' i' q'
    obtain ⟨now2, byM', w2⟩ := u2 FU hFU fit'
    rw [nI_0] at w1 w2
    rw [← nI_1] at w2
    exact ⟨_, _, w1, w2, rfl, hR0⟩
