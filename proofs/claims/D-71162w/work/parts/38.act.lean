set_option maxRecDepth 100000
/-! PURE: one act, in both worlds -/
abbrev XR := Int32 × (Nat → Int32) × Int32 × Int32 × Int32 × Int32 × Int32 × Int32 × Int32 × Int32 × Int32 × Int32
/-- an act of the class: reason, cells, points, fouls, evening, touches, cushions, path -/
def xAct (a b j f : Nat) (Cx : Nat → Int32) (P F E T U r c d i q : Int32) : Option XR :=
  if a = 0 then (fX1_stroke (nI b) (nI j) (nI f) Cx P F T U r c d i q).bind fun z => some (z.1, z.2.1, z.2.2.1, z.2.2.2.1, E, z.2.2.2.2.1, z.2.2.2.2.2.1, z.2.2.2.2.2.2.1, z.2.2.2.2.2.2.2.1, z.2.2.2.2.2.2.2.2.1, z.2.2.2.2.2.2.2.2.2.1, z.2.2.2.2.2.2.2.2.2.2)
  else if a = 1 then (fX1_bringUp (nI b) Cx).bind fun z => some (z.1, z.2, P, F, E, T, U, r, c, d, i, q)
  else if a = 2 then (fX1_nap Cx).bind fun z => some (0, z, P, F, E, T, U, r, c, d, i, q)
  else (fX1_pass E).bind fun z => some (z.1, Cx, P, F, z.2, T, U, r, c, d, i, q)
def ASim (a b j f : Nat) (Cx C : Nat → Int32) (P F E : Int32) : Prop :=
  ∃ (rs : Int32) (Cx' C' : Nat → Int32) (P' F' E' t cu : Int32), (rs = 0 ∨ (0 < rs ∧ Cx' = Cx ∧ C' = C ∧ P' = P ∧ F' = F ∧ E' = E ∧ t = 0 ∧ cu = 0)) ∧ (∀ i, i < 3 → Cx' i = C' i) ∧ OkC Cx' ∧
    (∀ T U r c d i q : Int32, ∃ r' c' d' i' q', xAct a b j f Cx P F E T U r c d i q = some (rs, Cx', P', F', E', T + t, U + cu, r', c', d', i', q')) ∧
    fX3_whyNot (nI a) (nI b) C E = some rs ∧
    (rs = 0 → ∀ (mv go lf to cu0 cT tF sT dN TM CM : Int32) (were : Nat → Int32), ∃ w1 w2 w3 w4 w5 w6 w7 w8 w9 were', fX3_happen (nI a) (nI b) (nI j) (nI f) C P F E mv go lf to cu0 cT tF sT dN TM CM were = some (C', P', F', E', w1, w2, w3, w4, w5, w6, w7, w8, w9, TM + t, CM + cu, were'))
theorem act_sim {a b j f : Nat} (ha : a < 4) (hb : b < 3) (hj : j < 8) (hf : f ≤ 9) {Cx C : Nat → Int32} (he : ∀ i, i < 3 → Cx i = C i) (hok : OkC Cx) (P F E : Int32) : ASim a b j f Cx C P F E := by
  have hbi : bIn (nI b) 3 := bIn_nI (by omega) (by decide)
  have hcl : (nI b).toNatClampNeg = b := nI_clamp (by omega)
  have hCb : C b = Cx b := (he b hb).symm
  have h6 : ¬ (0 : Int32) ≤ -6 := by decide
  have : a = 0 ∨ a = 1 ∨ a = 2 ∨ a = 3 := by omega
  rcases this with rfl | rfl | rfl | rfl
  · by_cases hn : Cx b = -6
    · refine ⟨1, Cx, C, P, F, E, 0, 0, Or.inr ⟨by decide, rfl, rfl, rfl, rfl, rfl, rfl, rfl⟩, he, hok, fun T U r c d i q => ⟨r, c, d, i, q, ?_⟩, ?_, fun h => absurd h (by decide)⟩
      · unfold xAct fX1_stroke
        simp only [if_true, if_pos hbi, hcl, hn, if_neg h6, Option.bind_some, Int32.add_zero]
      · unfold fX3_whyNot
        rw [if_pos nI_0, if_pos hbi, hcl, hCb, hn, if_neg h6]
    · obtain ⟨Cx', C', P', F', t, cu, x1, x2, x3, x4⟩ := stroke_eq hb hj hf he hok hn P F
      have ho : OpenC (Cx b) := by rcases hok.1 b hb with z | z; exact absurd z hn; exact z
      refine ⟨0, Cx', C', P', F', E, t, cu, Or.inl rfl, x1, x2, fun T U r c d i q => ?_, ?_, fun _ mv go lf to cu0 cT tF sT dN TM CM were => ?_⟩
      · obtain ⟨r', c', d', i', q', e⟩ := x3 T U r c d i q
        refine ⟨r', c', d', i', q', ?_⟩
        unfold xAct
        rw [if_pos rfl, e]
        rfl
      · unfold fX3_whyNot
        rw [if_pos nI_0, if_pos hbi, hcl, hCb, if_pos ho.1]
      · obtain ⟨w1, w2, w3, w4, w5, w6, w7, w8, w9, e⟩ := x4 mv go lf to cu0 cT tF sT dN TM CM
        refine ⟨w1, w2, w3, w4, w5, w6, w7, w8, w9, were, ?_⟩
        unfold fX3_happen
        rw [if_pos nI_0, e]
        rfl
  · have hsp : OpenC (fX0_spotOf (nI b)) ∧ ¬ fX0_spotOf (nI b) = -6 := by
      have : b = 0 ∨ b = 1 ∨ b = 2 := by omega
      unfold OpenC
      rcases this with rfl | rfl | rfl <;> decide
    have n10 : ¬ nI 1 = 0 := by decide
    by_cases hn : Cx b = -6
    · by_cases hz : bo (fX0_spotOf (nI b)) Cx < 0
      · refine ⟨0, upd Cx b (fX0_spotOf (nI b)), upd C b (fX0_spotOf (nI b)), P, F, E, 0, 0, Or.inl rfl, upd_eq he, OkC_upd hok hb (Or.inr ⟨hsp.1, fun i hi _ => bo_neg hz i hi⟩), fun T U r c d i q => ⟨r, c, d, i, q, ?_⟩, ?_, fun _ mv go lf to cu0 cT tF sT dN TM CM were => ⟨mv, go, lf, to, cu0, cT, tF, sT, dN, were, ?_⟩⟩
        · unfold xAct fX1_bringUp
          rw [if_neg (by decide), if_pos rfl]
          simp only [if_pos hbi, hcl, hn, if_pos (show (-6 : Int32) < 0 by decide), X1_ballOn, Option.bind_some, if_pos hz, Int32.add_zero]
        · unfold fX3_whyNot
          rw [if_neg n10, if_pos (by decide), if_pos hbi, hcl, hCb, hn, if_pos (by decide), home_eq, X3_ballOn, bo_eq he hok hsp.2]
          simp only [Option.bind_some, if_pos hz]
        · unfold fX3_happen
          rw [if_neg n10, if_pos (by decide), if_pos hbi, hcl, home_eq, Int32.add_zero, Int32.add_zero]
      · refine ⟨2, Cx, C, P, F, E, 0, 0, Or.inr ⟨by decide, rfl, rfl, rfl, rfl, rfl, rfl, rfl⟩, he, hok, fun T U r c d i q => ⟨r, c, d, i, q, ?_⟩, ?_, fun h => absurd h (by decide)⟩
        · unfold xAct fX1_bringUp
          rw [if_neg (by decide), if_pos rfl]
          simp only [if_pos hbi, hcl, hn, if_pos (show (-6 : Int32) < 0 by decide), X1_ballOn, Option.bind_some, if_neg hz, Int32.add_zero]
        · unfold fX3_whyNot
          rw [if_neg n10, if_pos (by decide), if_pos hbi, hcl, hCb, hn, if_pos (by decide), home_eq, X3_ballOn, bo_eq he hok hsp.2]
          simp only [Option.bind_some, if_neg hz]
    · have ho : OpenC (Cx b) := by rcases hok.1 b hb with z | z; exact absurd z hn; exact z
      have hnl : ¬ Cx b < 0 := i_nlt.mpr ho.1
      refine ⟨1, Cx, C, P, F, E, 0, 0, Or.inr ⟨by decide, rfl, rfl, rfl, rfl, rfl, rfl, rfl⟩, he, hok, fun T U r c d i q => ⟨r, c, d, i, q, ?_⟩, ?_, fun h => absurd h (by decide)⟩
      · unfold xAct fX1_bringUp
        rw [if_neg (by decide), if_pos rfl]
        simp only [if_pos hbi, hcl, if_neg hnl, Option.bind_some, Int32.add_zero]
      · unfold fX3_whyNot
        rw [if_neg n10, if_pos (by decide), if_pos hbi, hcl, hCb, if_neg hnl]
  · obtain ⟨Cx', C', x1, x2, x3, x4⟩ := nap_eq he hok
    refine ⟨0, Cx', C', P, F, E, 0, 0, Or.inl rfl, x1, x2, fun T U r c d i q => ⟨r, c, d, i, q, ?_⟩, ?_, fun _ mv go lf to cu0 cT tF sT dN TM CM were => ?_⟩
    · unfold xAct
      rw [if_neg (by decide), if_neg (by decide), if_pos rfl, x3, Int32.add_zero, Int32.add_zero]
      rfl
    · unfold fX3_whyNot
      rw [if_neg (by decide), if_neg (by decide), if_pos (by decide)]
    · obtain ⟨were', e⟩ := x4 were
      refine ⟨mv, go, lf, to, cu0, cT, tF, sT, dN, were', ?_⟩
      unfold fX3_happen
      rw [if_neg (by decide), if_neg (by decide), if_pos (by decide), e, Int32.add_zero, Int32.add_zero]
      rfl
  · by_cases h99 : E = 99
    · refine ⟨3, Cx, C, P, F, E, 0, 0, Or.inr ⟨by decide, rfl, rfl, rfl, rfl, rfl, rfl, rfl⟩, he, hok, fun T U r c d i q => ⟨r, c, d, i, q, ?_⟩, ?_, fun h => absurd h (by decide)⟩
      · unfold xAct fX1_pass
        rw [if_neg (by decide), if_neg (by decide), if_neg (by decide), if_pos h99, Int32.add_zero, Int32.add_zero]
        rfl
      · unfold fX3_whyNot
        rw [if_neg (by decide), if_neg (by decide), if_neg (by decide), if_pos (by decide), if_pos h99]
    · refine ⟨0, Cx, C, P, F, E + 1, 0, 0, Or.inl rfl, he, hok, fun T U r c d i q => ⟨r, c, d, i, q, ?_⟩, ?_, fun _ mv go lf to cu0 cT tF sT dN TM CM were => ⟨mv, go, lf, to, cu0, cT, tF, sT, dN, were, ?_⟩⟩
      · unfold xAct fX1_pass
        rw [if_neg (by decide), if_neg (by decide), if_neg (by decide), if_neg h99, Int32.add_zero, Int32.add_zero]
        rfl
      · unfold fX3_whyNot
        rw [if_neg (by decide), if_neg (by decide), if_neg (by decide), if_pos (by decide), if_neg h99]
      · unfold fX3_happen
        rw [if_neg (by decide), if_neg (by decide), if_neg (by decide), Int32.add_zero, Int32.add_zero]
/-- the act that stands at sign p, done by the class -/
theorem act_X {sign : Nat → Int32} {a w h f : Int32} {p p' : Nat} (hA : AOv sign a w h f p p') (hp : p' ≤ 60) : ∃ aN b j g : Nat, aN < 4 ∧ b < 3 ∧ j < 8 ∧ g ≤ 9 ∧ a = nI aN ∧ w = nI b ∧ (aN = 0 → h = nI j ∧ f = nI g) ∧ p < p' ∧
    ∀ (Cx : Nat → Int32) (P F E T U r c d i q rs : Int32), fX0_act (nI p) Cx P F E T U r c d i q sign rs = (xAct aN b j g Cx P F E T U r c d i q).bind fun z => some (nI p', z.2.1, z.2.2.1, z.2.2.2.1, z.2.2.2.2.1, z.2.2.2.2.2.1, z.2.2.2.2.2.2.1, z.2.2.2.2.2.2.2.1, z.2.2.2.2.2.2.2.2.1, z.2.2.2.2.2.2.2.2.2.1, z.2.2.2.2.2.2.2.2.2.2.1, z.2.2.2.2.2.2.2.2.2.2.2, z.1) := by
  have e65 : ∀ b, b < 3 → nI (65 + b) - 65 = nI b ∧ ¬ nI (65 + b) = 46 ∧ ¬ nI (65 + b) = 126 := by decide
  have e48 : ∀ j, j < 10 → nI (48 + j) - 48 = nI j ∧ ¬ nI (48 + j) = 94 := by decide
  have n2 : ∀ p : Nat, nI p + 2 = nI (p + 2) := fun p => nI_add p 2
  have n3 : ∀ p : Nat, nI p + 3 = nI (p + 3) := fun p => nI_add p 3
  rcases hA with ⟨rfl, rfl, b, j, g, hb, hj, hg1, hg, rfl, rfl, rfl, s0, s1, s2⟩ | ⟨rfl, rfl, b, hb, rfl, s0, s1⟩ | ⟨rfl, rfl, rfl, s0⟩ | ⟨rfl, rfl, rfl, s0⟩
  · refine ⟨0, b, j, g, by decide, hb, hj, hg, rfl, rfl, fun _ => ⟨rfl, rfl⟩, by omega, fun Cx P F E T U r c d i q rs => ?_⟩
    have b0 : bIn (nI p) 60 := bIn_nI (by omega) (by decide)
    have b1 : bIn (nI (p + 1)) 60 := bIn_nI (by omega) (by decide)
    have b2 : bIn (nI (p + 2)) 60 := bIn_nI (by omega) (by decide)
    have c0 : (nI p).toNatClampNeg = p := nI_clamp (by omega)
    have c1 : (nI (p + 1)).toNatClampNeg = p + 1 := nI_clamp (by omega)
    have c2 : (nI (p + 2)).toNatClampNeg = p + 2 := nI_clamp (by omega)
    unfold fX0_act xAct
    simp only [nI_1, n2, n3, if_pos b0, if_pos b1, if_pos b2, c0, c1, c2, s0, s1, s2, if_neg (e65 b hb).2.1, if_neg (e65 b hb).2.2, (e65 b hb).1, if_neg (e48 j (by omega)).2, (e48 j (by omega)).1, (e48 g (by omega)).1, if_true]
    cases fX1_stroke (nI b) (nI j) (nI g) Cx P F T U r c d i q <;> rfl
  · refine ⟨1, b, 0, 0, by decide, hb, by decide, by decide, rfl, rfl, fun h => absurd h (by decide), by omega, fun Cx P F E T U r c d i q rs => ?_⟩
    have b0 : bIn (nI p) 60 := bIn_nI (by omega) (by decide)
    have b1 : bIn (nI (p + 1)) 60 := bIn_nI (by omega) (by decide)
    have c0 : (nI p).toNatClampNeg = p := nI_clamp (by omega)
    have c1 : (nI (p + 1)).toNatClampNeg = p + 1 := nI_clamp (by omega)
    unfold fX0_act xAct
    simp only [nI_1, n2, n3, if_pos b0, if_pos b1, c0, c1, s0, s1, if_neg (e65 b hb).2.1, if_neg (e65 b hb).2.2, (e65 b hb).1, if_true, if_neg (show ¬ (1 : Nat) = 0 by decide)]
    cases fX1_bringUp (nI b) Cx <;> rfl
  · refine ⟨2, 0, 0, 0, by decide, by decide, by decide, by decide, rfl, rfl, fun h => absurd h (by decide), by omega, fun Cx P F E T U r c d i q rs => ?_⟩
    have b0 : bIn (nI p) 60 := bIn_nI (by omega) (by decide)
    have c0 : (nI p).toNatClampNeg = p := nI_clamp (by omega)
    unfold fX0_act xAct
    simp only [nI_1, if_pos b0, c0, s0, if_neg (show ¬ (126 : Int32) = 46 by decide), if_true, if_neg (show ¬ (2 : Nat) = 0 by decide), if_neg (show ¬ (2 : Nat) = 1 by decide)]
    cases fX1_nap Cx <;> rfl
  · refine ⟨3, 0, 0, 0, by decide, by decide, by decide, by decide, rfl, rfl, fun h => absurd h (by decide), by omega, fun Cx P F E T U r c d i q rs => ?_⟩
    have b0 : bIn (nI p) 60 := bIn_nI (by omega) (by decide)
    have c0 : (nI p).toNatClampNeg = p := nI_clamp (by omega)
    unfold fX0_act xAct
    simp only [nI_1, if_pos b0, c0, s0, if_true, if_neg (show ¬ (3 : Nat) = 0 by decide), if_neg (show ¬ (3 : Nat) = 1 by decide), if_neg (show ¬ (3 : Nat) = 2 by decide)]
    cases fX1_pass E <;> rfl
