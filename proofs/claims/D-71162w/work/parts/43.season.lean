set_option maxRecDepth 100000
/-! PURE: a season -/
def aK (k : Nat) : Nat := if k < 5 then 0 else if k = 5 then 1 else if k = 6 then 2 else 3
theorem aK_s : ∀ k, k < 8 → aK k < 4 ∧ fX3_actBy (nI k) = nI (aK k) := by decide
theorem lrem {a d : Nat} (ha : a < 2 ^ 63) (h0 : 0 < d) (hd : d < 2 ^ 63) : lN a - lN a / lN d * lN d = lN (a % d) := pk_lRem ha h0 hd
theorem sx {y : Nat} (hy : y ≤ 65536) : (75 * lN y + 74) - (75 * lN y + 74) / 65537 * 65537 = lN ((75 * y + 74) % 65537) := by
  have e : (75 : Int64) * lN y + 74 = lN (75 * y + 74) := by
    have h1 : (75 : Int64) * lN y = lN (75 * y) := lN_mul 75 y
    rw [h1]
    exact lN_add (75 * y) 74
  rw [e]
  exact lrem (d := 65537) (by omega) (by decide) (by decide)
theorem sl {y : Nat} (hy : y ≤ 65536) : (lN y / 3 - lN y / 3 / 8 * 8).toInt32 = nI (y / 3 % 8) ∧ (lN y - lN y / 3 * 3).toInt32 = nI (y % 3) ∧ (lN y / 24).toInt32 = nI (y / 24) := by
  have h3 : lN y / 3 = lN (y / 3) := pk_lDiv (b := 3) (by omega) (by decide) (by decide)
  have h24 : lN y / 24 = lN (y / 24) := pk_lDiv (b := 24) (by omega) (by decide) (by decide)
  have r8 : lN (y / 3) - lN (y / 3) / 8 * 8 = lN (y / 3 % 8) := lrem (d := 8) (by omega) (by decide) (by decide)
  have r3 : lN y - lN y / 3 * 3 = lN (y % 3) := lrem (d := 3) (by omega) (by decide) (by decide)
  refine ⟨?_, ?_, ?_⟩
  · rw [h3, r8, lN_i]
  · rw [r3, lN_i]
  · rw [h24, lN_i]
theorem sm {y : Nat} (hy : y ≤ 65536) : nI y / 3 - nI y / 3 / 8 * 8 = nI (y / 3 % 8) ∧ nI y - nI y / 3 * 3 = nI (y % 3) ∧ nI y / 24 = nI (y / 24) := by
  have h3 : nI y / 3 = nI (y / 3) := pk_div (d := 3) (by omega) (by decide) (by decide)
  have r8 : nI (y / 3) - nI (y / 3) / 8 * 8 = nI (y / 3 % 8) := pk_rem (d := 8) (by omega) (by decide) (by decide)
  refine ⟨?_, pk_rem (d := 3) (by omega) (by decide) (by decide), pk_div (d := 24) (by omega) (by decide) (by decide)⟩
  rw [h3, r8]
theorem sz8 {z : Nat} (hz : z < 10000) : nI z - nI z / 8 * 8 = nI (z % 8) ∧ 1 + (nI z / 8 - nI z / 8 / 9 * 9) = nI (1 + z / 8 % 9) := by
  have h8 : nI z / 8 = nI (z / 8) := pk_div (d := 8) (by omega) (by decide) (by decide)
  have r9 : nI (z / 8) - nI (z / 8) / 9 * 9 = nI (z / 8 % 9) := pk_rem (d := 9) (by omega) (by decide) (by decide)
  refine ⟨pk_rem (d := 8) (by omega) (by decide) (by decide), ?_⟩
  rw [h8, r9]
  exact nI_add 1 _
theorem seasonX (v1 v2 v3 : Int32) (A1 A6 A7 ss sc Cx : Nat → Int32) (A2 A3 A4 A5 si : Int32) (n : Nat) {y y' i : Nat} (hy : y ≤ 65536) (hy' : (75 * y + 74) % 65537 = y') (P F E T U r c d q w rs : Int32) (hi : ¬ v2 ≤ nI i) :
    ∃ rf : XR → Int32, fX0_season_L51 v1 v2 v3 A1 A2 A3 A4 A5 A6 A7 (n + 1) (lN y) (nI i) Cx P F E si ss sc T U r c d q w rs = (xAct (aK (y' / 3 % 8)) (y' % 3) (y' / 24 % 8) (1 + y' / 24 / 8 % 9) Cx P F E T U r c d q w).bind fun z => fX0_season_L51 v1 v2 v3 A1 A2 A3 A4 A5 A6 A7 n (lN y') (nI (i + 1)) z.2.1 z.2.2.1 z.2.2.2.1 z.2.2.2.2.1 si ss sc z.2.2.2.2.2.1 z.2.2.2.2.2.2.1 z.2.2.2.2.2.2.2.1 z.2.2.2.2.2.2.2.2.1 z.2.2.2.2.2.2.2.2.2.1 z.2.2.2.2.2.2.2.2.2.2.1 z.2.2.2.2.2.2.2.2.2.2.2 (rf z) := by
  have h1 : y' ≤ 65536 := by omega
  obtain ⟨e1, e2, e3⟩ := sl h1
  obtain ⟨e4, e5⟩ := sz8 (z := y' / 24) (by omega)
  have hk : y' / 3 % 8 < 8 := by omega
  have hX : ∀ rf : XR → Int32, ((y' / 3 % 8 = 6 → ∀ z, rf z = rs) ∧ (¬ y' / 3 % 8 = 6 → ∀ z, rf z = z.1)) → fX0_season_L51 v1 v2 v3 A1 A2 A3 A4 A5 A6 A7 (n + 1) (lN y) (nI i) Cx P F E si ss sc T U r c d q w rs = (xAct (aK (y' / 3 % 8)) (y' % 3) (y' / 24 % 8) (1 + y' / 24 / 8 % 9) Cx P F E T U r c d q w).bind fun z => fX0_season_L51 v1 v2 v3 A1 A2 A3 A4 A5 A6 A7 n (lN y') (nI (i + 1)) z.2.1 z.2.2.1 z.2.2.2.1 z.2.2.2.2.1 si ss sc z.2.2.2.2.2.1 z.2.2.2.2.2.2.1 z.2.2.2.2.2.2.2.1 z.2.2.2.2.2.2.2.2.1 z.2.2.2.2.2.2.2.2.2.1 z.2.2.2.2.2.2.2.2.2.2.1 z.2.2.2.2.2.2.2.2.2.2.2 (rf z) := by
    intro rf hrf
    conv => lhs; unfold fX0_season_L51
    rw [if_neg hi]
    simp only [sx hy, hy', e1, e2, e3, e4, e5, nI_1]
    generalize hkk : y' / 3 % 8 = k at hk hrf ⊢
    have hne : ∀ a : Nat, a < 8 → ¬ k = a → ¬ nI k = nI a := fun a ha h z => h ((nI_eq (by omega) (by omega)).mp z)
    by_cases k5 : k = 5
    · subst k5
      rw [if_pos (by decide)]
      unfold xAct aK
      simp only [if_neg (show ¬ (5 : Nat) < 5 by decide), if_true, if_neg (show ¬ (1 : Nat) = 0 by decide), hrf.2 (by decide)]
      cases fX1_bringUp (nI (y' % 3)) Cx <;> rfl
    · rw [if_neg (show ¬ nI k = 5 from hne 5 (by decide) k5)]
      by_cases k6 : k = 6
      · subst k6
        rw [if_pos (by decide)]
        unfold xAct aK
        simp only [if_neg (show ¬ (6 : Nat) < 5 by decide), if_neg (show ¬ (6 : Nat) = 5 by decide), if_true, if_neg (show ¬ (2 : Nat) = 0 by decide), if_neg (show ¬ (2 : Nat) = 1 by decide), hrf.1 rfl]
        cases fX1_nap Cx <;> rfl
      · rw [if_neg (show ¬ nI k = 6 from hne 6 (by decide) k6)]
        by_cases k7 : k = 7
        · subst k7
          rw [if_pos (by decide)]
          unfold xAct aK
          simp only [if_neg (show ¬ (7 : Nat) < 5 by decide), if_neg (show ¬ (7 : Nat) = 5 by decide), if_neg (show ¬ (7 : Nat) = 6 by decide), if_neg (show ¬ (3 : Nat) = 0 by decide), if_neg (show ¬ (3 : Nat) = 1 by decide), if_neg (show ¬ (3 : Nat) = 2 by decide), hrf.2 (by decide)]
          cases fX1_pass E <;> rfl
        · rw [if_neg (show ¬ nI k = 7 from hne 7 (by decide) k7)]
          have hl : k < 5 := by omega
          unfold xAct aK
          simp only [if_pos hl, if_true, hrf.2 k6]
          cases fX1_stroke (nI (y' % 3)) (nI (y' / 24 % 8)) (nI (1 + y' / 24 / 8 % 9)) Cx P F T U r c d q w <;> rfl
  by_cases k6 : y' / 3 % 8 = 6
  · exact ⟨fun _ => rs, hX _ ⟨fun _ _ => rfl, fun h => absurd k6 h⟩⟩
  · exact ⟨fun z => z.1, hX _ ⟨fun h => absurd h k6, fun _ _ => rfl⟩⟩
def sR (v3 P F : Int32) (C : Nat → Int32) : Int32 := if v3 = 0 then P else if v3 = 1 then F else cntX C
set_option maxHeartbeats 4000000 in
theorem season_sim (v1 v3 : Int32) {M : Nat} (hM : M ≤ 99) : ∀ (dd i y : Nat), i + dd = M → y ≤ 65536 → ∀ (Cx C : Nat → Int32) (P F E : Int32), (∀ i, i < 3 → Cx i = C i) → OkC Cx →
    ∃ (Cx' C' : Nat → Int32) (P' F' E' : Int32), (∀ i, i < 3 → Cx' i = C' i) ∧
      (∀ n, dd < n → ∀ (A1 A6 A7 ss sc : Nat → Int32) (A2 A3 A4 A5 si T U r c d q w rs : Int32), ∃ T' U' r' c' d' q' w' rs', fX0_season_L51 v1 (nI M) v3 A1 A2 A3 A4 A5 A6 A7 n (lN y) (nI i) Cx P F E si ss sc T U r c d q w rs = some (sR v3 P' F' Cx', Cx', P', F', E', si, ss, sc, T', U', r', c', d', q', w', rs')) ∧
      (∀ n, dd < n → ∀ (C0 were had : Nat → Int32) (P0 F0 E0 w1 w2 w3 w4 w5 w6 w7 w8 w9 TM CM : Int32), ∃ C2 x1 x2 x3 x4 x5 x6 x7 x8 x9 x10 x11 were', fX3_season_L49 v1 (nI M) v3 n (nI y) (nI i) C P F E w1 w2 w3 w4 w5 w6 w7 w8 w9 TM CM were (hd C0 P0 F0 E0 had) = some (sR v3 P' F' C', bk C2 C0, P0, F0, E0, x1, x2, x3, x4, x5, x6, x7, x8, x9, x10, x11, were', hd C0 P0 F0 E0 had)) := by
  intro dd
  induction dd with
  | zero =>
    intro i y hi hy Cx C P F E he hok
    have hle : nI M ≤ nI i := nI_le (by omega) (by omega)
    refine ⟨Cx, C, P, F, E, he, fun n hn A1 A6 A7 ss sc A2 A3 A4 A5 si T U r c d q w rs => ⟨T, U, r, c, d, q, w, rs, ?_⟩, fun n hn C0 were had P0 F0 E0 w1 w2 w3 w4 w5 w6 w7 w8 w9 TM CM => ⟨C, w1, w2, w3, w4, w5, w6, w7, w8, w9, TM, CM, were, ?_⟩⟩
    · obtain ⟨n, rfl⟩ : ∃ m, n = m + 1 := ⟨n - 1, by omega⟩
      unfold fX0_season_L51 sR
      rw [if_pos hle]
      by_cases a : v3 = 0
      · rw [if_pos a, if_pos a]
      · rw [if_neg a, if_neg a]
        by_cases b : v3 = 1
        · rw [if_pos b, if_pos b]
        · rw [if_neg b, if_neg b, down_X]
          rfl
    · obtain ⟨n, rfl⟩ : ∃ m, n = m + 1 := ⟨n - 1, by omega⟩
      unfold fX3_season_L49 sR
      rw [if_pos hle]
      by_cases a : v3 = 0
      · rw [if_pos a, if_pos a, back_s]
        rfl
      · rw [if_neg a, if_neg a]
        by_cases b : v3 = 1
        · rw [if_pos b, if_pos b, back_s]
          rfl
        · rw [if_neg b, if_neg b, down_M]
          simp only [Option.bind_some, back_s]
  | succ dd ih =>
    intro i y hi hy Cx C P F E he hok
    have hlt : ¬ nI M ≤ nI i := nI_ge (by omega) (by omega)
    generalize hy' : (75 * y + 74) % 65537 = y'
    have h1 : y' ≤ 65536 := by omega
    have hk : y' / 3 % 8 < 8 := by omega
    obtain ⟨rs1, Cx1, C1, P1, F1, E1, t, cu, hrs, y1, y2, y3, y4, y5⟩ := act_sim (a := aK (y' / 3 % 8)) (b := y' % 3) (j := y' / 24 % 8) (f := 1 + y' / 24 / 8 % 9) (aK_s _ hk).1 (by omega) (by omega) (by omega) he hok P F E
    obtain ⟨Cx', C', P', F', E', z1, z2, z3⟩ := ih (i + 1) y' (by omega) h1 Cx1 C1 P1 F1 E1 y1 y2
    refine ⟨Cx', C', P', F', E', z1, fun n hn A1 A6 A7 ss sc A2 A3 A4 A5 si T U r c d q w rs => ?_, fun n hn C0 were had P0 F0 E0 w1 w2 w3 w4 w5 w6 w7 w8 w9 TM CM => ?_⟩
    · obtain ⟨n, rfl⟩ : ∃ m, n = m + 1 := ⟨n - 1, by omega⟩
      obtain ⟨r1, c1, d1, q1, u1, ex⟩ := y3 T U r c d q w
      obtain ⟨rf, eX⟩ := seasonX v1 (nI M) v3 A1 A6 A7 ss sc Cx A2 A3 A4 A5 si n hy hy' P F E T U r c d q w rs hlt
      rw [eX, ex, Option.bind_some]
      exact z2 n (by omega) A1 A6 A7 ss sc A2 A3 A4 A5 si (T + t) (U + cu) r1 c1 d1 q1 u1 _
    · obtain ⟨n, rfl⟩ : ∃ m, n = m + 1 := ⟨n - 1, by omega⟩
      have hxm : ((75 * (nI y).toInt64 + 74) - (75 * (nI y).toInt64 + 74) / 65537 * 65537).toInt32 = nI y' := by
        rw [nI_l (by omega), sx hy, hy', lN_i]
      obtain ⟨e1, e2, e3⟩ := sm h1
      obtain ⟨e4, e5⟩ := sz8 (z := y' / 24) (by omega)
      have hU : fX3_season_L49 v1 (nI M) v3 (n + 1) (nI y) (nI i) C P F E w1 w2 w3 w4 w5 w6 w7 w8 w9 TM CM were (hd C0 P0 F0 E0 had) = if rs1 = 0 then (fX3_happen (nI (aK (y' / 3 % 8))) (nI (y' % 3)) (nI (y' / 24 % 8)) (nI (1 + y' / 24 / 8 % 9)) C P F E w1 w2 w3 w4 w5 w6 w7 w8 w9 TM CM were).bind (fun z9 => fX3_season_L49 v1 (nI M) v3 n (nI y') (nI (i + 1)) z9.1 z9.2.1 z9.2.2.1 z9.2.2.2.1 z9.2.2.2.2.1 z9.2.2.2.2.2.1 z9.2.2.2.2.2.2.1 z9.2.2.2.2.2.2.2.1 z9.2.2.2.2.2.2.2.2.1 z9.2.2.2.2.2.2.2.2.2.1 z9.2.2.2.2.2.2.2.2.2.2.1 z9.2.2.2.2.2.2.2.2.2.2.2.1 z9.2.2.2.2.2.2.2.2.2.2.2.2.1 z9.2.2.2.2.2.2.2.2.2.2.2.2.2.1 z9.2.2.2.2.2.2.2.2.2.2.2.2.2.2.1 z9.2.2.2.2.2.2.2.2.2.2.2.2.2.2.2 (hd C0 P0 F0 E0 had)) else fX3_season_L49 v1 (nI M) v3 n (nI y') (nI (i + 1)) C P F E w1 w2 w3 w4 w5 w6 w7 w8 w9 TM CM were (hd C0 P0 F0 E0 had) := by
        conv => lhs; unfold fX3_season_L49
        rw [if_neg hlt]
        simp only [hxm, e1, e2, e3, e4, e5, nI_1, (aK_s _ hk).2, y4, Option.bind_some]
      rw [hU]
      rcases hrs with h0 | ⟨h0, a1, a2, a3, a4, a5, a6, a7⟩
      · rw [if_pos h0]
        obtain ⟨u1, u2, u3, u4, u5, u6, u7, u8, u9, were1, ex⟩ := y5 h0 w1 w2 w3 w4 w5 w6 w7 w8 w9 TM CM were
        rw [ex, Option.bind_some]
        exact z3 n (by omega) C0 were1 had P0 F0 E0 u1 u2 u3 u4 u5 u6 u7 u8 u9 (TM + t) (CM + cu)
      · rw [if_neg (fun z => by rw [z] at h0; exact absurd h0 (by decide))]
        rw [← a2, ← a3, ← a4, ← a5]
        exact z3 n (by omega) C0 were had P0 F0 E0 w1 w2 w3 w4 w5 w6 w7 w8 w9 TM CM
set_option maxHeartbeats 4000000 in
theorem op_season : Op_season := by
  intro t_cells t_points t_fouls t_evening t_sights t_seenStep t_seenCell i_cells i_points i_fouls i_evening i_sights i_seenStep i_seenCell i_isKept j_cells j_points j_fouls j_evening j_sights j_seenStep j_seenCell j_isKept x_signs x_sign m_cell m_points m_fouls m_evening m_sightStep m_sightCell m_sights m_pad m_padMany m_kept m_isKept n_cells n_points n_fouls n_evening n_sights n_seenStep n_seenCell n_touches n_cushions n_p_row n_p_column n_p_down n_p_right n_p_cushions x_reason m_moving m_goes m_left m_touches m_cushions m_cushionsThen m_touchedFirst m_stepsThen m_downNow m_touchedMany m_cushionMany m_were m_had hR v1 v2 v3
  have hR0 := hR
  obtain ⟨⟨hc, hp, hf, he, hs, hss, hsc, hok⟩, ⟨hsg, hr, hsn⟩, hi, hj⟩ := hR
  subst hp hf he hs hsg
  unfold fX0_season fX3_season
  rw [in0 v1 0 9999 (by decide) (by decide), in0 v2 1 99 (by decide) (by decide), in0 v3 0 2 (by decide) (by decide)]
  by_cases a : fX0_isIn v1 0 9999 = 0
  · rw [if_pos a, if_pos a]; exact ⟨_, _, rfl, rfl, rfl, hR0⟩
  by_cases b : fX0_isIn v2 1 99 = 0
  · rw [if_neg a, if_neg a, if_pos b, if_pos b]; exact ⟨_, _, rfl, rfl, rfl, hR0⟩
  by_cases c : fX0_isIn v3 0 2 = 0
  · rw [if_neg a, if_neg a, if_neg b, if_neg b, if_pos c, if_pos c]; exact ⟨_, _, rfl, rfl, rfl, hR0⟩
  rw [if_neg a, if_neg a, if_neg b, if_neg b, if_neg c, if_neg c, keep_s, Option.bind_some]
  obtain ⟨s, hs1, es⟩ := isIn_nI (n := 9999) rfl a
  obtain ⟨m, hm, em⟩ := in_range v2 (l := 1) (d := 98) rfl rfl (by decide) b
  subst es em
  have he0 : ∀ i, i < 3 → va_cpy t_cells n_cells 0 0 3 i = m_cell i := fun i hi => (cpy_in hi).trans (hc i hi)
  obtain ⟨Cx', C', P', F', E', z1, z2, z3⟩ := season_sim (nI s) v3 (M := 1 + m) (by omega) (1 + m) 0 s (by omega) (by omega) (va_cpy t_cells n_cells 0 0 3) m_cell t_points t_fouls t_evening he0 (OkC_congr hok.1 (fun i hi => cpy_in hi))
  have hFU : 1 + m < FU := by have : FU = 200000 := rfl; omega
  unfold fX1_copy
  rw [Option.bind_some, nI_l (by omega)]
  rw [nI_0] at z2 z3
  obtain ⟨T', U', r', c', d', q', w', rs', ex⟩ := z2 FU hFU t_cells t_seenStep t_seenCell (va_cpy t_seenStep n_seenStep 0 0 8) (va_cpy t_seenCell n_seenCell 0 0 8) t_points t_fouls t_evening t_sights t_sights 0 0 n_p_row n_p_column n_p_down n_p_right n_p_cushions x_reason
  obtain ⟨C2, x1, x2, x3, x4, x5, x6, x7, x8, x9, x10, x11, were', em⟩ := z3 FU hFU m_cell m_were m_had t_points t_fouls t_evening m_moving m_goes m_left m_touches m_cushions m_cushionsThen m_touchedFirst m_stepsThen m_downNow m_touchedMany m_cushionMany
  refine ⟨_, _, ex, em, ?_, ⟨fun i h => (hc i h).trans (bk_eq C2 m_cell i h).symm, rfl, rfl, rfl, rfl, hss, hsc, hok⟩, ⟨rfl, hr, hsn⟩, hi, hj⟩
  show sR v3 P' F' Cx' = sR v3 P' F' C'
  unfold sR
  rw [cnt_eq z1]
