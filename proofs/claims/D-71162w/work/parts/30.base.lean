set_option maxRecDepth 100000
/-! PURE: base -/
theorem cmp_lt0 (x y : Int64) : lg_cmp x y < 0 ↔ x < y := by
  unfold lg_cmp
  simp only [gt_iff_lt, Int64.lt_iff_toInt_lt, ← Int64.toInt_inj]
  repeat' split
  all_goals first | (constructor <;> intro h <;> first | omega | (exfalso; revert h; decide)) | skip
  all_goals constructor
  all_goals intro h
  all_goals first | omega | (exfalso; revert h; decide) | decide
theorem cmp_gt0 (x y : Int64) : 0 < lg_cmp x y ↔ y < x := by
  unfold lg_cmp
  simp only [gt_iff_lt, Int64.lt_iff_toInt_lt, ← Int64.toInt_inj]
  repeat' split
  all_goals constructor
  all_goals intro h
  all_goals first | omega | (exfalso; revert h; decide) | decide
theorem l_lt (a b : Int32) : a.toInt64 < b.toInt64 ↔ a < b := by
  rw [Int64.lt_iff_toInt_lt, Int32.lt_iff_toInt_lt, Int32.toInt_toInt64, Int32.toInt_toInt64]
theorem in_eq (a b c : Int32) : fX3_in a.toInt64 b.toInt64 c.toInt64 = fX0_isIn a b c := by
  unfold fX3_in fX0_isIn
  simp only [cmp_lt0, cmp_gt0, l_lt]
theorem in0 (v lo hi : Int32) {lo' hi' : Int64} (h1 : lo.toInt64 = lo') (h2 : hi.toInt64 = hi') : fX3_in v.toInt64 lo' hi' = fX0_isIn v lo hi := by
  rw [← h1, ← h2]; exact in_eq v lo hi
theorem isBall_eq (v : Int32) : fX3_isBall v = fX0_isBall v := in0 v 0 2 (by decide) (by decide)
theorem isCell_eq (v : Int32) : fX3_isCell v = fX0_isCell v := in0 v 0 44 (by decide) (by decide)
theorem isPocket_eq (v : Int32) : fX3_isPocket v = fX0_isPocket v := rfl
theorem isPlace_eq (v : Int32) : fX3_isPlace v = fX0_isOpen v := by unfold fX3_isPlace fX0_isOpen; rw [isCell_eq, isPocket_eq]
theorem home_eq (v : Int32) : fX3_home v = fX0_spotOf v := rfl
theorem i_nlt {a b : Int32} : ¬ a < b ↔ b ≤ a := by rw [Int32.lt_iff_toInt_lt, Int32.le_iff_toInt_le]; omega
theorem i_nle {a b : Int32} : ¬ a ≤ b ↔ b < a := by rw [Int32.lt_iff_toInt_lt, Int32.le_iff_toInt_le]; omega
theorem isIn_ne {v a b : Int32} (h : ¬ fX0_isIn v a b = 0) : a ≤ v ∧ v ≤ b := by
  unfold fX0_isIn at h
  by_cases h1 : v < a
  · rw [if_pos h1] at h; exact absurd rfl h
  · by_cases h2 : b < v
    · rw [if_neg h1, if_pos h2] at h; exact absurd rfl h
    · exact ⟨i_nlt.mp h1, i_nlt.mp h2⟩
theorem isIn_1 {v a b : Int32} (h1 : a ≤ v) (h2 : v ≤ b) : fX0_isIn v a b = 1 := by
  unfold fX0_isIn
  rw [if_neg (i_nlt.mpr h1), if_neg (i_nlt.mpr h2)]
theorem isIn_nI {v b : Int32} {n : Nat} (hb : b.toInt = n) (h : ¬ fX0_isIn v 0 b = 0) : ∃ k : Nat, k ≤ n ∧ v = nI k := by
  obtain ⟨h1, h2⟩ := isIn_ne h
  exact nI_of2 hb (i_nlt.mpr h1) h2
theorem isIn_sh (v : Int32) : fX0_isIn (v - 10) 0 2 = fX0_isIn v 10 12 := by
  by_cases h : fX0_isIn (v - 10) 0 2 = 0
  · by_cases h2 : fX0_isIn v 10 12 = 0
    · rw [h, h2]
    · exfalso
      obtain ⟨a, b⟩ := isIn_ne h2
      rw [Int32.le_iff_toInt_le] at a b
      have a : 10 ≤ v.toInt := a
      have b : v.toInt ≤ 12 := b
      have hv : v = 10 ∨ v = 11 ∨ v = 12 := by
        have : v.toInt = 10 ∨ v.toInt = 11 ∨ v.toInt = 12 := by omega
        rcases this with e | e | e
        · exact Or.inl (Int32.toInt_inj.mp e)
        · exact Or.inr (Or.inl (Int32.toInt_inj.mp e))
        · exact Or.inr (Or.inr (Int32.toInt_inj.mp e))
      rcases hv with rfl | rfl | rfl <;> exact absurd h (by decide)
  · obtain ⟨k, hk, e⟩ := isIn_nI (n := 2) rfl h
    have e : v = nI k + 10 := by rw [← e]; exact (Int32.sub_add_cancel v 10).symm
    subst e
    have : ∀ k, k ≤ 2 → fX0_isIn (nI k + 10 - 10) 0 2 = fX0_isIn (nI k + 10) 10 12 := by decide
    exact this k hk
theorem bIn_nI {k n : Nat} (h : k < n) (hn : n < 2 ^ 31) : bIn (nI k) n := ⟨nI_pos' (by omega), by rw [nI_clamp (by omega)]; exact h⟩
theorem upd_s (f : Nat → Int32) (k : Nat) (x : Int32) : upd f k x k = x := by simp [upd]
theorem upd_n (f : Nat → Int32) {k j : Nat} (x : Int32) (h : j ≠ k) : upd f k x j = f j := by simp [upd, h]
theorem upd_eq {f g : Nat → Int32} {n k : Nat} {x : Int32} (h : ∀ i, i < n → f i = g i) : ∀ i, i < n → upd f k x i = upd g k x i := by
  intro i hi
  by_cases e : i = k
  · subst e; rw [upd_s, upd_s]
  · rw [upd_n _ _ e, upd_n _ _ e]; exact h i hi
theorem Rel_t {t_cells t_seenStep t_seenCell m_cell m_sightStep m_sightCell : Nat → Int32} {a b c d a' b' c' d' : Int32} (h : (∀ i, i < 3 → t_cells i = m_cell i) ∧ a = a' ∧ b = b' ∧ c = c' ∧ d = d' ∧ (∀ i, i < 8 → t_seenStep i = m_sightStep i) ∧ (∀ i, i < 8 → t_seenCell i = m_sightCell i) ∧ OkT t_cells d t_seenStep) : OkC t_cells := h.2.2.2.2.2.2.2.1
theorem op_score : Op_score := by
  intro t_cells t_points t_fouls t_evening t_sights t_seenStep t_seenCell i_cells i_points i_fouls i_evening i_sights i_seenStep i_seenCell i_isKept j_cells j_points j_fouls j_evening j_sights j_seenStep j_seenCell j_isKept x_signs x_sign m_cell m_points m_fouls m_evening m_sightStep m_sightCell m_sights m_pad m_padMany m_kept m_isKept hR v1 v2
  obtain ⟨⟨hc, hp, hf, he, hs, hss, hsc, hok⟩, hsg, hi, hj⟩ := hR
  subst hp hf
  unfold fX0_score fX3_score
  rw [in0 v1 0 99 (by decide) (by decide), in0 v2 0 99 (by decide) (by decide)]
  by_cases a : fX0_isIn v1 0 99 = 0
  · simp only [if_pos a]
    exact ⟨_, _, rfl, rfl, rfl, ⟨hc, rfl, rfl, he, hs, hss, hsc, hok⟩, hsg, hi, hj⟩
  · by_cases b : fX0_isIn v2 0 99 = 0
    · simp only [if_neg a, if_pos b]
      exact ⟨_, _, rfl, rfl, rfl, ⟨hc, rfl, rfl, he, hs, hss, hsc, hok⟩, hsg, hi, hj⟩
    · simp only [if_neg a, if_neg b]
      exact ⟨_, _, rfl, rfl, rfl, ⟨hc, rfl, rfl, he, hs, hss, hsc, hok⟩, hsg, hi, hj⟩
theorem op_wipe : Op_wipe := by
  intro t_cells t_points t_fouls t_evening t_sights t_seenStep t_seenCell i_cells i_points i_fouls i_evening i_sights i_seenStep i_seenCell i_isKept j_cells j_points j_fouls j_evening j_sights j_seenStep j_seenCell j_isKept x_signs x_sign m_cell m_points m_fouls m_evening m_sightStep m_sightCell m_sights m_pad m_padMany m_kept m_isKept hR _
  obtain ⟨ht, ⟨hsg, hr, hsn⟩, hi, hj⟩ := hR
  subst hsg
  exact ⟨_, _, rfl, rfl, rfl, ht, ⟨rfl, ⟨by show (0 : Int32) ≤ 0; decide, by show (0 : Int32) ≤ 60; decide⟩, hsn⟩, hi, hj⟩
theorem op_forget : Op_forget := by
  intro t_cells t_points t_fouls t_evening t_sights t_seenStep t_seenCell i_cells i_points i_fouls i_evening i_sights i_seenStep i_seenCell i_isKept j_cells j_points j_fouls j_evening j_sights j_seenStep j_seenCell j_isKept x_signs x_sign m_cell m_points m_fouls m_evening m_sightStep m_sightCell m_sights m_pad m_padMany m_kept m_isKept hR _
  obtain ⟨⟨hc, hp, hf, he, hs, hss, hsc, hok⟩, hsg, hi, hj⟩ := hR
  subst hs
  exact ⟨_, _, rfl, rfl, rfl, ⟨hc, hp, hf, he, rfl, hss, hsc, hok.1, ⟨by show (0 : Int32) ≤ 0; decide, by show (0 : Int32) ≤ 8; decide⟩, hok.2.2⟩, hsg, hi, hj⟩
theorem op_told : Op_told := by
  intro t_cells t_points t_fouls t_evening t_sights t_seenStep t_seenCell i_cells i_points i_fouls i_evening i_sights i_seenStep i_seenCell i_isKept j_cells j_points j_fouls j_evening j_sights j_seenStep j_seenCell j_isKept x_signs x_sign m_cell m_points m_fouls m_evening m_sightStep m_sightCell m_sights m_pad m_padMany m_kept m_isKept hR v1
  have hR0 := hR
  obtain ⟨⟨hc, hp, hf, he, hs, hss, hsc, hok⟩, ⟨hsg, hr, hsn⟩, hi, hj⟩ := hR
  subst hp hf he hs hsg
  unfold fX0_told fX3_told
  rw [in0 v1 10 12 (by decide) (by decide)]
  by_cases c0 : v1 = 0
  · subst c0; exact ⟨_, _, rfl, rfl, rfl, hR0⟩
  by_cases c1 : v1 = 1
  · subst c1; exact ⟨_, _, rfl, rfl, rfl, hR0⟩
  by_cases c2 : v1 = 2
  · subst c2; exact ⟨_, _, rfl, rfl, rfl, hR0⟩
  by_cases c3 : v1 = 3
  · subst c3; exact ⟨_, _, rfl, rfl, rfl, hR0⟩
  by_cases c4 : v1 = 4
  · subst c4; exact ⟨_, _, rfl, rfl, rfl, hR0⟩
  simp only [if_neg c0, if_neg c1, if_neg c2, if_neg c3, if_neg c4]
  have e : fX0_isBall (v1 - 10) = fX0_isIn v1 10 12 := isIn_sh v1
  rw [e]
  by_cases c5 : fX0_isIn v1 10 12 = 0
  · simp only [if_pos c5]; exact ⟨_, _, rfl, rfl, rfl, hR0⟩
  · have c6 : ¬ fX0_isIn (v1 - 10) 0 2 = 0 := by rw [isIn_sh]; exact c5
    obtain ⟨k, hk, e⟩ := isIn_nI (n := 2) rfl c6
    rw [e]
    have hb : bIn (nI k) 3 := bIn_nI (by omega) (by decide)
    simp only [if_neg c5, if_pos hb]
    refine ⟨_, _, rfl, rfl, ?_, hR0⟩
    rw [nI_clamp (by omega)]
    exact hc k (by omega)
theorem i_of8 {x : Int32} {n : Nat} {M : Int32} (hM : M.toInt = n) (h : 0 ≤ x ∧ x ≤ M) : ∃ k : Nat, k ≤ n ∧ x = nI k := nI_of2 hM (i_nlt.mpr h.1) h.2
theorem nI_ne {a b : Nat} (ha : a < 2 ^ 31) (hb : b < 2 ^ 31) (h : ¬ nI a = nI b) : a ≠ b := fun e => h (by rw [e])
theorem op_seen : Op_seen := by
  intro t_cells t_points t_fouls t_evening t_sights t_seenStep t_seenCell i_cells i_points i_fouls i_evening i_sights i_seenStep i_seenCell i_isKept j_cells j_points j_fouls j_evening j_sights j_seenStep j_seenCell j_isKept x_signs x_sign m_cell m_points m_fouls m_evening m_sightStep m_sightCell m_sights m_pad m_padMany m_kept m_isKept hR v1 v2
  have hR0 := hR
  obtain ⟨⟨hc, hp, hf, he, hs, hss, hsc, hok⟩, hsg, hi, hj⟩ := hR
  subst hs
  unfold fX0_seen fX3_seen
  rw [in0 v1 0 60 (by decide) (by decide), isCell_eq]
  by_cases a : fX0_isCell v2 = 0
  · simp only [if_pos a]; exact ⟨_, _, rfl, rfl, rfl, hR0⟩
  by_cases b : fX0_isIn v1 0 60 = 0
  · simp only [if_neg a, if_pos b]; exact ⟨_, _, rfl, rfl, rfl, hR0⟩
  by_cases c : t_sights = 8
  · simp only [if_neg a, if_neg b, if_pos c]; exact ⟨_, _, rfl, rfl, rfl, hR0⟩
  obtain ⟨k, hk, e⟩ := i_of8 (n := 8) rfl hok.2.1
  have hk8 : k < 8 := by
    have : k ≠ 8 := fun z => c (by rw [e, z]; rfl)
    omega
  subst e
  have hb : bIn (nI k) 8 := bIn_nI hk8 (by decide)
  simp only [if_neg a, if_neg b, if_neg c, if_pos hb]
  refine ⟨_, _, rfl, rfl, rfl, ⟨hc, hp, hf, he, rfl, upd_eq hss, upd_eq hsc, hok.1, ?_, ?_⟩, hsg, hi, hj⟩
  · show 0 ≤ nI k + 1 ∧ nI k + 1 ≤ 8
    rw [nI_1]
    exact ⟨nI_pos' (by omega), nI_le (a := k + 1) (b := 8) (by omega) (by decide)⟩
  · intro i hi8
    show 0 ≤ upd t_seenStep _ v1 i ∧ upd t_seenStep _ v1 i ≤ 60
    by_cases e : i = (nI k).toNatClampNeg
    · rw [e, upd_s]; exact isIn_ne b
    · rw [upd_n _ _ e]; exact hok.2.2 i hi8
theorem op_say : Op_say := by
  intro t_cells t_points t_fouls t_evening t_sights t_seenStep t_seenCell i_cells i_points i_fouls i_evening i_sights i_seenStep i_seenCell i_isKept j_cells j_points j_fouls j_evening j_sights j_seenStep j_seenCell j_isKept x_signs x_sign m_cell m_points m_fouls m_evening m_sightStep m_sightCell m_sights m_pad m_padMany m_kept m_isKept hR v1
  have hR0 := hR
  obtain ⟨ht, ⟨hsg, hr, hsn⟩, hi, hj⟩ := hR
  subst hsg
  unfold fX0_say fX3_say
  rw [in0 v1 33 126 (by decide) (by decide)]
  by_cases a : fX0_isIn v1 33 126 = 0
  · simp only [if_pos a]; exact ⟨_, _, rfl, rfl, rfl, hR0⟩
  by_cases c : x_signs = 60
  · simp only [if_neg a, if_pos c]; exact ⟨_, _, rfl, rfl, rfl, hR0⟩
  obtain ⟨k, hk, e⟩ := i_of8 (n := 60) rfl hr
  have hk8 : k < 60 := by
    have : k ≠ 60 := fun z => c (by rw [e, z]; rfl)
    omega
  subst e
  have hb : bIn (nI k) 60 := bIn_nI hk8 (by decide)
  have hv : vp_nar .char ((v1.toUInt32 % 65536).toInt32) = v1 := by
    rw [pk_vc]
    obtain ⟨h1, h2⟩ := isIn_ne a
    obtain ⟨j, hj1, e⟩ := nI_of2 (M := 126) (n := 126) rfl (i_nlt.mpr (Int32.le_trans (by decide) h1)) h2
    subst e
    have : ∀ j, j ≤ 126 → ((nI j).toUInt32 % 65536).toInt32 = nI j := by decide +kernel
    exact this j hj1
  simp only [if_neg a, if_neg c, if_pos hb, hv]
  refine ⟨_, _, rfl, rfl, rfl, ht, ⟨rfl, ?_, upd_eq hsn⟩, hi, hj⟩
  show 0 ≤ nI k + 1 ∧ nI k + 1 ≤ 60
  rw [nI_1]
  exact ⟨nI_pos' (by omega), nI_le (a := k + 1) (b := 60) (by omega) (by decide)⟩
