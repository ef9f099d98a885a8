set_option maxRecDepth 100000
theorem fc_sur {B : Nat → Bool} : ∀ (c t : Nat), t < fc B c → ∃ e, e < c ∧ B e = true ∧ fc B e = t := by
  intro c
  induction c with
  | zero => intro t h; simp only [fc] at h; omega
  | succ c ih =>
    intro t h
    by_cases hb : B c = true
    · rw [fc_1 hb] at h
      by_cases ht : t = fc B c
      · exact ⟨c, by omega, hb, ht.symm⟩
      · obtain ⟨e, h1, h2, h3⟩ := ih t (by omega)
        exact ⟨e, by omega, h2, h3⟩
    · rw [fc_0 hb] at h
      obtain ⟨e, h1, h2, h3⟩ := ih t h
      exact ⟨e, by omega, h2, h3⟩
theorem fc_lt {B : Nat → Bool} {e : Nat} (he : e < 450) (h : B e = true) : fc B e < fc B 450 := by
  have h1 := fc_1 h
  have h2 := fc_le B (450 - (e + 1)) (e + 1)
  rw [show e + 1 + (450 - (e + 1)) = 450 by omega] at h2
  omega
theorem sentX (v1 : Int32) {S : Nat} (hS : S ≤ 8) {step cell : Nat → Int32} (hst : ∀ i, i < 8 → 0 ≤ step i ∧ step i ≤ 60) : ∀ (d c n : Nat), c + d = 450 → d < n → (∀ e, e < c → fitB S step cell e = true → ¬ nI (fc (fitB S step cell) e) = v1) → ∀ r cc dd ii q : Int32, ∃ res r' c' d' i' q', fX0_sent_L4 v1 (nI S) step cell n (nI (fc (fitB S step cell) c)) (nI c) r cc dd ii q = some (res, r', c', d', i', q') ∧ ((∃ e, e < 450 ∧ fitB S step cell e = true ∧ nI (fc (fitB S step cell) e) = v1 ∧ res = nI e) ∨ ((∀ e, e < 450 → fitB S step cell e = true → ¬ nI (fc (fitB S step cell) e) = v1) ∧ res = if v1 = -1 then nI (fc (fitB S step cell) 450) else -6)) := by
  intro d
  induction d with
  | zero =>
    intro c n hc hn hI r cc dd ii q
    obtain ⟨n, rfl⟩ : ∃ m, n = m + 1 := ⟨n - 1, by omega⟩
    obtain rfl : c = 450 := by omega
    refine ⟨if v1 = -1 then nI (fc (fitB S step cell) 450) else -6, r, cc, dd, ii, q, ?_, Or.inr ⟨hI, rfl⟩⟩
    unfold fX0_sent_L4
    rw [if_pos (show (450 : Int32) ≤ nI 450 by decide)]
    by_cases z : v1 = -1
    · rw [if_pos z, if_pos z]
    · rw [if_neg z, if_neg z]
  | succ d ih =>
    intro c n hc hn hI r cc dd ii q
    obtain ⟨n, rfl⟩ : ∃ m, n = m + 1 := ⟨n - 1, by omega⟩
    have hlt : ¬ (450 : Int32) ≤ nI c := nI_ge (a := c) (b := 450) (by omega) (by decide)
    obtain ⟨r1, c1, d1, i1, q1, e⟩ := canBe_s (c := c) (by omega) hS hst (cell := cell) r cc dd ii q
    have hU : fX0_sent_L4 v1 (nI S) step cell (n + 1) (nI (fc (fitB S step cell) c)) (nI c) r cc dd ii q = if b2i (fitB S step cell c) = 0 then fX0_sent_L4 v1 (nI S) step cell n (nI (fc (fitB S step cell) c)) (nI (c + 1)) r1 c1 d1 i1 q1 else if nI (fc (fitB S step cell) c) = v1 then some (nI c, r1, c1, d1, i1, q1) else fX0_sent_L4 v1 (nI S) step cell n (nI (fc (fitB S step cell) c + 1)) (nI (c + 1)) r1 c1 d1 i1 q1 := by
      conv => lhs; unfold fX0_sent_L4
      rw [if_neg hlt, e, Option.bind_some, nI_1, nI_1]
    rw [hU]
    by_cases h : fitB S step cell c = true
    · rw [if_neg (fun z => absurd h (b2i_0.mp z))]
      by_cases z : nI (fc (fitB S step cell) c) = v1
      · rw [if_pos z]
        exact ⟨nI c, r1, c1, d1, i1, q1, rfl, Or.inl ⟨c, by omega, h, z, rfl⟩⟩
      · rw [if_neg z, ← fc_1 h]
        exact ih (c + 1) n (by omega) (by omega) (fun e he hf => by
          by_cases ec : e = c
          · subst ec; exact z
          · exact hI e (by omega) hf) r1 c1 d1 i1 q1
    · rw [if_pos (b2i_0.mpr h), ← fc_0 h]
      exact ih (c + 1) n (by omega) (by omega) (fun e he hf => by
          by_cases ec : e = c
          · subst ec; exact absurd hf h
          · exact hI e (by omega) hf) r1 c1 d1 i1 q1
theorem fitB_congr {S : Nat} (hS : S ≤ 8) {step cell step' cell' : Nat → Int32} (h1 : ∀ i, i < 8 → step i = step' i) (h2 : ∀ i, i < 8 → cell i = cell' i) : fitB S step cell = fitB S step' cell' := by
  funext c
  unfold fitB
  rw [fitR_congr c h1 h2 S 0 (by omega)]
theorem op_sent : Op_sent := by
  intro t_cells t_points t_fouls t_evening t_sights t_seenStep t_seenCell i_cells i_points i_fouls i_evening i_sights i_seenStep i_seenCell i_isKept j_cells j_points j_fouls j_evening j_sights j_seenStep j_seenCell j_isKept x_signs x_sign m_cell m_points m_fouls m_evening m_sightStep m_sightCell m_sights m_pad m_padMany m_kept m_isKept p_row p_column p_down p_right p_cushions m_fit m_now m_fitMany hR v1
  have hR0 := hR
  obtain ⟨⟨hc, hp, hf, he, hs, hss, hsc, hok⟩, hsg, hi, hj⟩ := hR
  subst hs
  obtain ⟨S, hS, eS⟩ := i_of8 (n := 8) (M := 8) rfl hok.2.1
  subst eS
  have hst := hok.2.2
  have hst' : ∀ i, i < 8 → 0 ≤ m_sightStep i ∧ m_sightStep i ≤ 60 := fun i h => by rw [← hss i h]; exact hst i h
  have hB : fitB S m_sightStep m_sightCell = fitB S t_seenStep t_seenCell := (fitB_congr hS hss hsc).symm
  obtain ⟨fit', now', e1, e2⟩ := fits_s hS (cell := m_sightCell) hst' 450 0 FU m_fit m_now (by omega) (by have : FU = 200000 := rfl; omega) (fun e h => absurd h (by omega))
  obtain ⟨res, r', c', d', i', q', x1, x2⟩ := sentX v1 hS (cell := t_seenCell) hst 450 0 FU (by omega) (by have : FU = 200000 := rfl; omega) (fun e h => absurd h (by omega)) p_row p_column p_down p_right p_cushions
  rw [hB] at e1 e2
  have e1 : fX3_findFits m_sightStep m_sightCell (nI S) m_fit m_now m_fitMany = some (fit', now', nI (fc (fitB S t_seenStep t_seenCell) 450)) := by
    unfold fX3_findFits
    rw [← e1]
    rfl
  have hF := fc_all (S := S) (step := t_seenStep) (cell := t_seenCell)
  have hX : fX0_sent v1 (nI S) t_seenStep t_seenCell p_row p_column p_down p_right p_cushions = some (res, r', c', d', i', q') := by
    unfold fX0_sent
    rw [← x1]
    rfl
  generalize hFF : fc (fitB S t_seenStep t_seenCell) 450 = F at *
  have hM : fX3_sent v1 m_sightStep m_sightCell (nI S) m_fit m_now m_fitMany = some (res, fit', now', nI F) := by
    unfold fX3_sent
    rw [e1, Option.bind_some]
    simp only
    rw [in0 v1 0 (nI F - 1) (by decide) rfl]
    rcases x2 with ⟨e, a1, a2, a3, a4⟩ | ⟨a1, a2⟩
    · have hlt := fc_lt a1 a2
      rw [hFF] at hlt
      subst a3
      have hin : fX0_isIn (nI (fc (fitB S t_seenStep t_seenCell) e)) 0 (nI F - 1) = 1 := by
        rw [sub1 (k := F) (by omega)]
        exact isIn_1 (nI_pos' (by omega)) (nI_le (by omega) (by omega))
      rw [if_neg (fun z => absurd (nI_pos (n := fc (fitB S t_seenStep t_seenCell) e) (by omega)) (by rw [z]; decide)), hin, if_neg (by decide), if_pos (bIn_nI (by omega) (by decide)), nI_clamp (by omega), (e2 e a1 a2).1, a4]
    · by_cases z : v1 = -1
      · rw [if_pos z]
        rw [if_pos z] at a2
        rw [a2]
      · rw [if_neg z] at a2 ⊢
        by_cases w : fX0_isIn v1 0 (nI F - 1) = 0
        · rw [if_pos w, a2]
        · exfalso
          obtain ⟨b1, b2⟩ := isIn_ne w
          obtain ⟨t, ht, et⟩ := nI_of (i_nlt.mpr b1)
          subst et
          rcases Nat.eq_zero_or_pos F with hz | hz
          · subst hz
            exact absurd (Int32.le_trans b1 b2) (by decide)
          · rw [sub1 hz] at b2
            have := (nI_leI ht (by omega)).mp b2
            obtain ⟨e, h1, h2, h3⟩ := fc_sur 450 t (B := fitB S t_seenStep t_seenCell) (by omega)
            exact a1 e h1 h2 (by rw [h3])
  exact ⟨_, _, hX, hM, rfl, hR0⟩
