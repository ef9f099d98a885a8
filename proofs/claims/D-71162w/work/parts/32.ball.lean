set_option maxRecDepth 100000
/-! PURE: which ball lies where -/
def bo (c : Int32) (cells : Nat → Int32) : Int32 := if cells 0 = c then 0 else if cells 1 = c then 1 else if cells 2 = c then 2 else -6
theorem k012 : ((0 : Int32) + 1 = 1) ∧ ((1 : Int32) + 1 = 2) ∧ ((2 : Int32) + 1 = 3) := by decide
theorem cl012 : (0 : Int32).toNatClampNeg = 0 ∧ (1 : Int32).toNatClampNeg = 1 ∧ (2 : Int32).toNatClampNeg = 2 := by decide
theorem X1_ballOn (c : Int32) (cells : Nat → Int32) : fX1_ballOn c cells = some (bo c cells) := by
  unfold fX1_ballOn
  obtain ⟨n, hn⟩ : ∃ n, FU = n + 1 + 1 + 1 + 1 := ⟨199996, rfl⟩
  rw [hn]
  simp only [fX1_ballOn_L2, k012.1, k012.2.1, k012.2.2]
  simp only [if_neg (show ¬ (3 : Int32) ≤ 0 by decide), if_neg (show ¬ (3 : Int32) ≤ 1 by decide), if_neg (show ¬ (3 : Int32) ≤ 2 by decide), if_pos (show (3 : Int32) ≤ 3 by decide), if_pos (show bIn 0 3 by decide), if_pos (show bIn 1 3 by decide), if_pos (show bIn 2 3 by decide), cl012.1, cl012.2.1, cl012.2.2]
  unfold bo
  by_cases h0 : cells 0 = c
  · rw [if_pos h0, if_pos h0]
  · rw [if_neg h0, if_neg h0]
    by_cases h1 : cells 1 = c
    · rw [if_pos h1, if_pos h1]
    · rw [if_neg h1, if_neg h1]
      by_cases h2 : cells 2 = c
      · rw [if_pos h2, if_pos h2]
      · rw [if_neg h2, if_neg h2]
def bo3 (c : Int32) (cells : Nat → Int32) : Int32 := if cells 2 = c then 2 else if cells 1 = c then 1 else if cells 0 = c then 0 else -6
theorem X3_ballOn (c : Int32) (cells : Nat → Int32) : fX3_ballOn c cells = some (bo3 c cells) := by
  unfold fX3_ballOn
  obtain ⟨n, hn⟩ : ∃ n, FU = n + 1 + 1 + 1 + 1 := ⟨199996, rfl⟩
  rw [hn]
  simp only [fX3_ballOn_L5, k012.1, k012.2.1, k012.2.2]
  simp only [if_neg (show ¬ (3 : Int32) ≤ 0 by decide), if_neg (show ¬ (3 : Int32) ≤ 1 by decide), if_neg (show ¬ (3 : Int32) ≤ 2 by decide), if_pos (show (3 : Int32) ≤ 3 by decide), if_pos (show bIn 0 3 by decide), if_pos (show bIn 1 3 by decide), if_pos (show bIn 2 3 by decide), cl012.1, cl012.2.1, cl012.2.2]
  unfold bo3
  by_cases h0 : cells 0 = c <;> by_cases h1 : cells 1 = c <;> by_cases h2 : cells 2 = c <;> simp only [h0, h1, h2, if_true, if_false]
theorem bo_eq {c : Int32} {cells m : Nat → Int32} (hm : ∀ i, i < 3 → cells i = m i) (hok : OkC cells) (hc : ¬ c = -6) : bo3 c m = bo c cells := by
  unfold bo bo3
  rw [← hm 0 (by decide), ← hm 1 (by decide), ← hm 2 (by decide)]
  have d01 := hok.2 0 1 (by decide) (by decide) (by decide)
  have d02 := hok.2 0 2 (by decide) (by decide) (by decide)
  have d12 := hok.2 1 2 (by decide) (by decide) (by decide)
  by_cases h0 : cells 0 = c
  · have n1 : ¬ cells 1 = c := fun h => hc (by rw [← h0]; exact d01 (h0.trans h.symm))
    have n2 : ¬ cells 2 = c := fun h => hc (by rw [← h0]; exact d02 (h0.trans h.symm))
    rw [if_neg n2, if_neg n1, if_pos h0, if_pos h0]
  · by_cases h1 : cells 1 = c
    · have n2 : ¬ cells 2 = c := fun h => hc (by rw [← h1]; exact d12 (h1.trans h.symm))
      rw [if_neg n2, if_pos h1, if_neg h0, if_pos h1]
    · by_cases h2 : cells 2 = c
      · rw [if_pos h2, if_neg h0, if_neg h1, if_pos h2]
      · rw [if_neg h2, if_neg h1, if_neg h0, if_neg h0, if_neg h1, if_neg h2]
theorem bo_cases (c : Int32) (cells : Nat → Int32) : (∃ b, b < 3 ∧ bo c cells = nI b ∧ cells b = c) ∨ (bo c cells = -6 ∧ ∀ b, b < 3 → ¬ cells b = c) := by
  unfold bo
  by_cases h0 : cells 0 = c
  · exact Or.inl ⟨0, by decide, by rw [if_pos h0]; rfl, h0⟩
  · by_cases h1 : cells 1 = c
    · exact Or.inl ⟨1, by decide, by rw [if_neg h0, if_pos h1]; rfl, h1⟩
    · by_cases h2 : cells 2 = c
      · exact Or.inl ⟨2, by decide, by rw [if_neg h0, if_neg h1, if_pos h2]; rfl, h2⟩
      · refine Or.inr ⟨by rw [if_neg h0, if_neg h1, if_neg h2], fun b hb => ?_⟩
        have : b = 0 ∨ b = 1 ∨ b = 2 := by omega
        rcases this with rfl | rfl | rfl
        · exact h0
        · exact h1
        · exact h2
theorem OkC_upd {cells : Nat → Int32} {k : Nat} {c : Int32} (h : OkC cells) (hk : k < 3) (hc : c = -6 ∨ (OpenC c ∧ ∀ b, b < 3 → b ≠ k → ¬ cells b = c)) : OkC (upd cells k c) := by
  refine ⟨fun b hb => ?_, fun a b ha hb hne he => ?_⟩
  · by_cases e : b = k
    · subst e; rw [upd_s]; rcases hc with q | q
      · exact Or.inl q
      · exact Or.inr q.1
    · rw [upd_n _ _ e]; exact h.1 b hb
  · by_cases e1 : a = k
    · subst e1
      rw [upd_s] at he ⊢
      rw [upd_n _ _ (Ne.symm hne)] at he
      rcases hc with q | q
      · exact q
      · exact absurd he.symm (q.2 b hb (Ne.symm hne))
    · by_cases e2 : b = k
      · subst e2
        rw [upd_s, upd_n _ _ e1] at he
        rw [upd_n _ _ e1]
        rcases hc with q | q
        · rw [he]; exact q
        · exact absurd he (q.2 a ha e1)
      · rw [upd_n _ _ e1] at he ⊢
        rw [upd_n _ _ e2] at he
        exact h.2 a b ha hb hne he
theorem isOpen_ne {c : Int32} (h : ¬ fX0_isOpen c = 0) : OpenC c := by
  unfold fX0_isOpen at h
  by_cases h1 : fX0_isCell c = 0
  · rw [if_pos h1] at h; exact absurd rfl h
  · rw [if_neg h1] at h
    by_cases h2 : fX0_isPocket c = 0
    · obtain ⟨a, b⟩ := isIn_ne h1
      exact ⟨a, b, h2⟩
    · rw [if_neg h2] at h; exact absurd rfl h
theorem op_ball : Op_ball := by
  intro t_cells t_points t_fouls t_evening t_sights t_seenStep t_seenCell i_cells i_points i_fouls i_evening i_sights i_seenStep i_seenCell i_isKept j_cells j_points j_fouls j_evening j_sights j_seenStep j_seenCell j_isKept x_signs x_sign m_cell m_points m_fouls m_evening m_sightStep m_sightCell m_sights m_pad m_padMany m_kept m_isKept hR v1 v2
  have hR0 := hR
  obtain ⟨⟨hc, hp, hf, he, hs, hss, hsc, hok⟩, hsg, hi, hj⟩ := hR
  have key : ∀ c, (c = -6 ∨ (OpenC c ∧ ∀ b, b < 3 → b ≠ v1.toNatClampNeg → ¬ t_cells b = c)) → v1.toNatClampNeg < 3 → Rel (upd t_cells v1.toNatClampNeg c) t_points t_fouls t_evening t_sights t_seenStep t_seenCell i_cells i_points i_fouls i_evening i_sights i_seenStep i_seenCell i_isKept j_cells j_points j_fouls j_evening j_sights j_seenStep j_seenCell j_isKept x_signs x_sign (upd m_cell v1.toNatClampNeg c) m_points m_fouls m_evening m_sightStep m_sightCell m_sights m_pad m_padMany m_kept m_isKept := by
    intro c h1 h2
    exact ⟨⟨upd_eq hc, hp, hf, he, hs, hss, hsc, OkC_upd hok.1 h2 h1, hok.2⟩, hsg, hi, hj⟩
  unfold fX0_ball fX3_ball
  rw [isBall_eq, isPlace_eq]
  by_cases a : fX0_isBall v1 = 0
  · simp only [if_pos a]; exact ⟨_, _, rfl, rfl, rfl, hR0⟩
  obtain ⟨k, hk, e⟩ := isIn_nI (n := 2) rfl a
  subst e
  have hb : bIn (nI k) 3 := bIn_nI (by omega) (by decide)
  have hcl : (nI k).toNatClampNeg = k := nI_clamp (by omega)
  simp only [if_neg a]
  by_cases b : v2 = -1
  · subst b
    simp only [if_pos, fX0_ball_L28, fX3_ball_L21, if_neg (show ¬ (0 : Int32) ≤ -1 by decide), fX0_ball_L44, fX3_ball_L35, if_pos (show (-6 : Int32) < 0 by decide)]
    rw [if_neg (nI_pos (by omega))]
    unfold fX0_ball_L57 fX3_ball_L48
    simp only [if_pos hb, if_neg (show ¬ (0 : Int32) ≤ -1 by decide)]
    refine ⟨_, _, rfl, rfl, ?_, key (-6) (Or.inl rfl) (by omega)⟩
    exact hc _ (by omega)
  · simp only [if_neg b]
    have eo : (if fX0_isCell v2 = 0 then (some ((-1 : Int32), t_cells)) else (if fX0_isPocket v2 = 0 then fX0_ball_L28 (nI k) v2 t_cells else some ((-1 : Int32), t_cells))) = if fX0_isOpen v2 = 0 then some ((-1 : Int32), t_cells) else fX0_ball_L28 (nI k) v2 t_cells := by
      unfold fX0_isOpen
      by_cases q1 : fX0_isCell v2 = 0
      · simp only [if_pos q1, if_true]
      · by_cases q2 : fX0_isPocket v2 = 0
        · simp only [if_neg q1, if_pos q2, if_neg (show ¬ (1 : Int32) = 0 by decide)]
        · simp only [if_neg q1, if_neg q2, if_true]
    rw [eo]
    by_cases c : fX0_isOpen v2 = 0
    · simp only [if_pos c]; exact ⟨_, _, rfl, rfl, rfl, hR0⟩
    have hop := isOpen_ne c
    have hne : ¬ v2 = -6 := fun h => absurd hop.1 (by rw [h]; decide)
    simp only [if_neg c, fX0_ball_L28, fX3_ball_L21, if_pos hop.1, X1_ballOn, X3_ballOn, Option.bind_some, bo_eq hc hok.1 hne]
    rcases bo_cases v2 t_cells with ⟨b, hb3, e1, e2⟩ | ⟨e1, e2⟩
    · rw [e1]
      unfold fX0_ball_L44 fX3_ball_L35
      simp only [if_neg (nI_pos (n := b) (by omega))]
      by_cases q : nI b = nI k
      · simp only [if_pos q]
        unfold fX0_ball_L57 fX3_ball_L48
        simp only [if_pos hb, if_pos hop.1]
        refine ⟨_, _, rfl, rfl, hc _ (by omega), key v2 (Or.inr ⟨hop, fun b' h1 h2 h3 => ?_⟩) (by omega)⟩
        have hbk : b = k := (nI_eq (by omega) (by omega)).mp q
        subst hbk
        exact hne (by rw [← h3]; exact hok.1.2 b' b h1 hb3 (by rw [hcl] at h2; exact h2) (h3.trans e2.symm))
      · simp only [if_neg q]; exact ⟨_, _, rfl, rfl, rfl, hR0⟩
    · rw [e1]
      unfold fX0_ball_L44 fX3_ball_L35
      simp only [if_pos (show (-6 : Int32) < 0 by decide)]
      unfold fX0_ball_L57 fX3_ball_L48
      simp only [if_pos hb, if_pos hop.1]
      exact ⟨_, _, rfl, rfl, hc _ (by omega), key v2 (Or.inr ⟨hop, fun b' h1 h2 h3 => e2 b' h1 h3⟩) (by omega)⟩
