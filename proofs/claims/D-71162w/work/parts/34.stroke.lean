set_option maxRecDepth 100000
/-! PURE: a stroke, in both worlds -/
theorem ff_0 (cT : Int32) : ff (nI 0) cT = 0 := rfl
theorem ff_s {τ : Nat} (h : τ < 100) (cT : Int32) : ff (nI (τ + 1)) cT = if cT = 0 then 1 else 0 := by
  unfold ff
  rw [if_neg (nI_nle (by omega) (by omega))]
/-- what holds of a stroke's end, in both worlds -/
def SEnd (u1 u2 u3 v1 v2 v3 : Int32) (lf b j k τ : Nat) (cu cT tF sT : Int32) (Cx C : Nat → Int32) : Prop :=
  ∃ (b' τ' : Nat) (C' Cx' : Nat → Int32) (g' l' cu' cT' tF' sT' dN' r' c' d' i' : Int32),
    (∀ n, lf < n → fX3_send_L49 u1 u2 u3 n C (nI b) (nI j) (nI lf) (nI τ) cu cT tF sT (-6) = some (C', nI b', g', l', nI τ', cu', cT', tF', sT', dN')) ∧
    (∀ (P T U F0 : Int32) (n : Nat), lf < n → fX1_stroke_L34 v1 v2 v3 n (nI b) (nI τ) (nI lf) Cx P (F0 + ff (nI τ) cT) T U (PR k) (PC k) (dn j) (ac j) cu = exitX v1 v2 v3 (nI b') (nI τ') Cx' P (F0 + ff (nI τ') cT') T U r' c' d' i' cu') ∧
    b' < 3 ∧ τ' ≤ τ + lf ∧ (∀ i, i < 3 → Cx' i = C' i) ∧ OkC Cx' ∧ ((dN' = -6 ∧ OpenC (Cx' b')) ∨ (dN' = nI b' ∧ Cx' b' = -6)) ∧ (∀ i, i < 3 → ¬ Cx i = -6 → Cx' i = -6 → dN' = nI i) ∧ (0 ≤ tF → tF' = tF ∧ cT' = cT ∧ sT' = sT)
set_option maxHeartbeats 4000000 in
theorem stroke_sim (u1 u2 u3 v1 v2 v3 : Int32) : ∀ (lf b j k τ : Nat) (cu cT tF sT : Int32) (Cx C : Nat → Int32), b < 3 → j < 8 → k < 45 → Cx b = nI k → (∀ i, i < 3 → Cx i = C i) → OkC Cx → τ + lf < 100 → ((τ = 0 ∧ tF = -6) ∨ (0 < τ ∧ 0 ≤ tF)) → SEnd u1 u2 u3 v1 v2 v3 lf b j k τ cu cT tF sT Cx C := by
  intro lf
  induction lf with
  | zero =>
    intro b j k τ cu cT tF sT Cx C hb hj hk hC he hok hτ hF
    refine ⟨b, τ, C, Cx, nI j, nI 0, cu, cT, tF, sT, -6, PR k, PC k, dn j, ac j, fun n hn => ?_, fun P T U F0 n hn => ?_, hb, by omega, he, hok, Or.inl ⟨rfl, open_of hok hb hk hC⟩, fun i _ h1 h2 => absurd h2 h1, fun _ => ⟨rfl, rfl, rfl⟩⟩
    · obtain ⟨n, rfl⟩ : ∃ m, n = m + 1 := ⟨n - 1, by omega⟩
      exact sent_end _ _ _ _ _ _ _ _ _ _ _ _ _ _ (Or.inl (by decide))
    · obtain ⟨n, rfl⟩ : ∃ m, n = m + 1 := ⟨n - 1, by omega⟩
      exact exit_s _ _ _ _ _ _ _ _ _ _ _ _ _ _ _ _ _ (by decide)
  | succ lf ih =>
    intro b j k τ cu cT tF sT Cx C hb hj hk hC he hok hτ hF
    obtain ⟨s1, s2, s3, s4⟩ := st_1 k hk j hj
    have hM := step_M u3 (lf := lf) hb hj hk Cx C hC he hok (nI τ) cu cT tF sT (-6)
    have hlf : ¬ nI (lf + 1) ≤ 0 := nI_nle (by omega) (by omega)
    -- the model's loop, one step
    have hML : ∀ n z, fX3_step u3 C (nI b) (nI j) (nI (lf + 1)) (nI τ) cu cT tF sT (-6) = some z → fX3_send_L49 u1 u2 u3 (n + 1) C (nI b) (nI j) (nI (lf + 1)) (nI τ) cu cT tF sT (-6) = fX3_send_L49 u1 u2 u3 n z.1 z.2.1 z.2.2.1 z.2.2.2.1 z.2.2.2.2.1 z.2.2.2.2.2.1 z.2.2.2.2.2.2.1 z.2.2.2.2.2.2.2.1 z.2.2.2.2.2.2.2.2.1 z.2.2.2.2.2.2.2.2.2 := by
      intro n z hz
      conv => lhs; unfold fX3_send_L49
      rw [if_neg hlf, if_neg (by decide), hz]
      rfl
    generalize hcu : cu + (if tw k j = j then 0 else 1) = cu2 at hM
    have hnx : fX2_next (PR k) (PC k) (dn j) (ac j) cu = some (nI (ta k j), dn (tw k j), ac (tw k j), cu2) := by rw [next_s hk hj cu, hcu]
    rcases bo_cases (nI (ta k j)) Cx with ⟨b2, hb2, e1, e2⟩ | ⟨e1, e2⟩
    · -- touched
      have hn0 : ¬ nI b2 < 0 := nI_pos (by omega)
      rw [e1, if_neg hn0] at hM
      have hX : ∀ n P T U F, fX1_stroke_L34 v1 v2 v3 (n + 1) (nI b) (nI τ) (nI (lf + 1)) Cx P F T U (PR k) (PC k) (dn j) (ac j) cu = fX1_stroke_L34 v1 v2 v3 n (nI b2) (nI (τ + 1)) (nI lf) Cx P (F + fX0_asNumber (if nI τ = 0 then (if cu2 = 0 then 1 else 0) else 0)) T U (PR (ta k j)) (PC (ta k j)) (dn (tw k j)) (ac (tw k j)) cu2 := by
        intro n P T U F
        conv => lhs; unfold fX1_stroke_L34
        rw [if_neg hlf, hnx]
        simp only [Option.bind_some, X1_ballOn, e1, if_neg hn0]
        unfold fX1_stroke_L86
        simp only [goFrom_s, Option.bind_some, nI_1, m_m1]
        by_cases q1 : nI τ = 0
        · by_cases q2 : cu2 = 0
          · simp only [if_pos q1, if_pos q2]
          · simp only [if_pos q1, if_neg q2]
        · simp only [if_neg q1]
      rcases hF with ⟨hτ0, htF⟩ | ⟨hτ0, htF⟩
      · -- the first touch
        subst hτ0
        rw [if_neg (by rw [htF]; decide)] at hM
        obtain ⟨b', τ', C', Cx', g', l', cu', cT', tF', sT', dN', r', c', d', i', a1, a2, a3, a4, a5, a6, a7, a8, a9⟩ := ih b2 (tw k j) (ta k j) 1 cu2 cu2 (nI b2) (u3 - nI lf) Cx C hb2 s2 s4 e2 he hok (by omega) (Or.inr ⟨by decide, nI_pos' (by omega)⟩)
        refine ⟨b', τ', C', Cx', g', l', cu', cT', tF', sT', dN', r', c', d', i', fun n hn => ?_, fun P T U F0 n hn => ?_, a3, by omega, a5, a6, a7, a8, fun h => absurd h (by rw [htF]; decide)⟩
        · obtain ⟨n, rfl⟩ : ∃ m, n = m + 1 := ⟨n - 1, by omega⟩
          rw [hML n _ hM]
          exact a1 n (by omega)
        · obtain ⟨n, rfl⟩ : ∃ m, n = m + 1 := ⟨n - 1, by omega⟩
          have hff : F0 + ff (nI 0) cT + fX0_asNumber (if nI 0 = 0 then (if cu2 = 0 then 1 else 0) else 0) = F0 + ff (nI 1) cu2 := by
            rw [ff_0, if_pos nI_0, ff_s (τ := 0) (by omega), Int32.add_zero]
            by_cases q2 : cu2 = 0
            · rw [if_pos q2]; rfl
            · rw [if_neg q2]; rfl
          rw [hX n, hff]
          exact a2 P T U F0 n (by omega)
      · rw [if_pos htF] at hM
        obtain ⟨b', τ', C', Cx', g', l', cu', cT', tF', sT', dN', r', c', d', i', a1, a2, a3, a4, a5, a6, a7, a8, a9⟩ := ih b2 (tw k j) (ta k j) (τ + 1) cu2 cT tF sT Cx C hb2 s2 s4 e2 he hok (by omega) (Or.inr ⟨by omega, htF⟩)
        refine ⟨b', τ', C', Cx', g', l', cu', cT', tF', sT', dN', r', c', d', i', fun n hn => ?_, fun P T U F0 n hn => ?_, a3, by omega, a5, a6, a7, a8, a9⟩
        · obtain ⟨n, rfl⟩ : ∃ m, n = m + 1 := ⟨n - 1, by omega⟩
          rw [hML n _ hM]
          show fX3_send_L49 u1 u2 u3 n C (nI b2) (nI (tw k j)) (nI lf) (nI τ + 1) cu2 cT tF sT (-6) = _
          rw [nI_1]
          exact a1 n (by omega)
        · obtain ⟨n, rfl⟩ : ∃ m, n = m + 1 := ⟨n - 1, by omega⟩
          have hff : F0 + ff (nI τ) cT + fX0_asNumber (if nI τ = 0 then (if cu2 = 0 then 1 else 0) else 0) = F0 + ff (nI (τ + 1)) cT := by
            obtain ⟨τ0, rfl⟩ : ∃ m, τ = m + 1 := ⟨τ - 1, by omega⟩
            rw [if_neg (nI_ne0 (by omega) (by omega)), ff_s (by omega), ff_s (by omega)]
            exact Int32.add_zero _
          rw [hX n, hff]
          exact a2 P T U F0 n (by omega)
    · -- free
      have hn0 : (-6 : Int32) < 0 := by decide
      rw [e1, if_pos hn0] at hM
      have hbi : bIn (nI b) 3 := bIn_nI (by omega) (by decide)
      have hcl : (nI b).toNatClampNeg = b := nI_clamp (by omega)
      have hCn : ¬ Cx b = -6 := by rw [hC]; exact nI_n6 (by omega)
      by_cases q : fX0_isPocket (nI (ta k j)) = 0
      · rw [if_pos q] at hM
        have hX : ∀ n P T U F, fX1_stroke_L34 v1 v2 v3 (n + 1) (nI b) (nI τ) (nI (lf + 1)) Cx P F T U (PR k) (PC k) (dn j) (ac j) cu = fX1_stroke_L34 v1 v2 v3 n (nI b) (nI τ) (nI lf) (upd Cx b (nI (ta k j))) P F T U (PR (ta k j)) (PC (ta k j)) (dn (tw k j)) (ac (tw k j)) cu2 := by
          intro n P T U F
          conv => lhs; unfold fX1_stroke_L34
          rw [if_neg hlf, hnx]
          simp only [Option.bind_some, X1_ballOn, e1, if_pos hn0, go_s hk hj, if_pos q]
          unfold fX1_stroke_L140
          simp only [if_pos hbi, if_pos q, hcl, m_m1]
        obtain ⟨b', τ', C', Cx', g', l', cu', cT', tF', sT', dN', r', c', d', i', a1, a2, a3, a4, a5, a6, a7, a8, a9⟩ := ih b (tw k j) (ta k j) τ cu2 cT tF sT (upd Cx b (nI (ta k j))) (upd C b (nI (ta k j))) hb s2 s4 (upd_s _ _ _) (upd_eq he) (OkC_upd hok hb (Or.inr ⟨openC_ta s4 q, fun i hi _ => e2 i hi⟩)) (by omega) hF
        refine ⟨b', τ', C', Cx', g', l', cu', cT', tF', sT', dN', r', c', d', i', fun n hn => ?_, fun P T U F0 n hn => ?_, a3, by omega, a5, a6, a7, fun i hi h1 h2 => a8 i hi ?_ h2, a9⟩
        · obtain ⟨n, rfl⟩ : ∃ m, n = m + 1 := ⟨n - 1, by omega⟩
          rw [hML n _ hM]
          exact a1 n (by omega)
        · obtain ⟨n, rfl⟩ : ∃ m, n = m + 1 := ⟨n - 1, by omega⟩
          rw [hX n]
          exact a2 P T U F0 n (by omega)
        · by_cases e : i = b
          · subst e; rw [upd_s]; exact nI_n6 (by omega)
          · rw [upd_n _ _ e]; exact h1
      · rw [if_neg q] at hM
        have hX : ∀ n P T U F, fX1_stroke_L34 v1 v2 v3 (n + 1) (nI b) (nI τ) (nI (lf + 1)) Cx P F T U (PR k) (PC k) (dn j) (ac j) cu = fX1_stroke_L34 v1 v2 v3 n (nI b) (nI τ) ((0 : Int32) + (-1)) (upd Cx b (-6)) P F T U (PR (ta k j)) (PC (ta k j)) (dn (tw k j)) (ac (tw k j)) cu2 := by
          intro n P T U F
          conv => lhs; unfold fX1_stroke_L34
          rw [if_neg hlf, hnx]
          simp only [Option.bind_some, X1_ballOn, e1, if_pos hn0, go_s hk hj, if_neg q]
          unfold fX1_stroke_L140
          simp only [if_pos hbi, if_neg q, hcl]
        refine ⟨b, τ, upd (upd C b (nI (ta k j))) b (-6), upd Cx b (-6), nI (tw k j), nI lf, cu2, cT, tF, sT, nI b, PR (ta k j), PC (ta k j), dn (tw k j), ac (tw k j), fun n hn => ?_, fun P T U F0 n hn => ?_, hb, by omega, ?_, OkC_upd hok hb (Or.inl rfl), Or.inr ⟨rfl, upd_s _ _ _⟩, fun i hi h1 h2 => ?_, fun _ => ⟨rfl, rfl, rfl⟩⟩
        · obtain ⟨n, rfl⟩ : ∃ m, n = m + 1 + 1 := ⟨n - 2, by omega⟩
          rw [hML (n + 1) _ hM]
          exact sent_end _ _ _ _ _ _ _ _ _ _ _ _ _ _ (Or.inr (nI_pos' (by omega)))
        · obtain ⟨n, rfl⟩ : ∃ m, n = m + 1 + 1 := ⟨n - 2, by omega⟩
          rw [hX (n + 1)]
          exact exit_s _ _ _ _ _ _ _ _ _ _ _ _ _ _ _ _ _ (by decide)
        · intro i hi
          by_cases e : i = b
          · subst e; rw [upd_s, upd_s]
          · rw [upd_n _ _ e, upd_n _ _ e, upd_n _ _ e]; exact he i hi
        · by_cases e : i = b
          · rw [e]
          · rw [upd_n _ _ e] at h2; exact absurd h2 h1
