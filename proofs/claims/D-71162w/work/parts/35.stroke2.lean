set_option maxRecDepth 100000
/-! PURE: a stroke, whole -/
theorem add_rc (a b c : Int32) : a + b + c = a + c + b := by rw [Int32.add_assoc, Int32.add_comm b c, ← Int32.add_assoc]
def p2 (t : Int32) : Int32 := if t ≤ 1 then 0 else 2
def cP (g : Int32) (b : Nat) : Int32 := if g < 0 then 0 else if g = nI b then 0 else 3
def cF (g : Int32) (b : Nat) : Int32 := if g = nI b then 1 else 0
theorem exit_eq (v2 v3 : Int32) {b b' : Nat} (hb : b < 3) (hb' : b' < 3) (t : Int32) {cells : Nat → Int32} (P F T U r c d i q dN : Int32) (hok : OkC cells) (h1 : (dN = -6 ∧ OpenC (cells b')) ∨ (dN = nI b' ∧ cells b' = -6)) (h2 : cells b = -6 → dN = nI b) :
    exitX (nI b) v2 v3 (nI b') t cells P F T U r c d i q = some (0, cells, P + p2 t + cP dN b, F + cF dN b, T + t, U + q, r, c, d, i, q) := by
  have hbi : bIn (nI b) 3 := bIn_nI (by omega) (by decide)
  have hbi' : bIn (nI b') 3 := bIn_nI (by omega) (by decide)
  have hcl : (nI b).toNatClampNeg = b := nI_clamp (by omega)
  have hcl' : (nI b').toNatClampNeg = b' := nI_clamp (by omega)
  have h6 : ¬ (0 : Int32) ≤ -6 := by decide
  have key : ∀ k2 : Int32, fX1_stroke_L179 (nI b) v2 v3 (nI b') t P k2 cells P F T U r c d i q = some (0, cells, P + k2 + cP dN b, F + cF dN b, T + t, U + q, r, c, d, i, q) := by
    intro k2
    unfold fX1_stroke_L179
    simp only [if_pos hbi', hcl']
    rcases h1 with ⟨e, ho⟩ | ⟨e, ho⟩
    · have hs : ¬ cells b = -6 := fun h => absurd ((h2 h).symm.trans e) (nI_n6 (by omega))
      have hs2 : (0 : Int32) ≤ cells b := by rcases hok.1 b hb with z | z; exact absurd z hs; exact z.1
      have e1 : cP dN b = 0 := by unfold cP; rw [e]; rfl
      have e2 : cF dN b = 0 := by unfold cF; rw [if_neg (by rw [e]; exact fun z => nI_n6 (by omega) z.symm)]
      rw [if_pos ho.1, e1, e2]
      unfold fX1_stroke_L209
      simp only [if_pos hbi, hcl, if_pos hs2]
      rfl
    · rw [ho, if_neg h6]
      by_cases eb : b' = b
      · subst eb
        have e1 : cP dN b' = 0 := by unfold cP; rw [e, if_neg (nI_pos (by omega)), if_pos rfl]
        have e2 : cF dN b' = 1 := by unfold cF; rw [e, if_pos rfl]
        rw [if_pos rfl, e1, e2]
        unfold fX1_stroke_L209
        simp only [if_pos hbi, hcl, ho, if_neg h6]
        rfl
      · have nb : ¬ nI b' = nI b := fun z => eb ((nI_eq (by omega) (by omega)).mp z)
        have hs : ¬ cells b = -6 := fun h => nb (e.symm.trans (h2 h))
        have hs2 : (0 : Int32) ≤ cells b := by rcases hok.1 b hb with z | z; exact absurd z hs; exact z.1
        have e1 : cP dN b = 3 := by unfold cP; rw [e, if_neg (nI_pos (by omega)), if_neg nb]
        have e2 : cF dN b = 0 := by unfold cF; rw [e, if_neg nb]
        rw [if_neg nb, e1, e2]
        unfold fX1_stroke_L209
        simp only [if_pos hbi, hcl, if_pos hs2]
        rfl
  unfold exitX p2
  by_cases h : t ≤ 1
  · rw [if_pos h, if_pos h, key 0]
  · rw [if_neg h, if_neg h, key 2]
theorem endM (v2 v3 : Int32) {b : Nat} (t : Int32) (k2 : Int32) (C : Nat → Int32) (P F mv go lf cu cT tF sT dN TM CM : Int32) :
    fX3_stroke_L25 (nI b) v2 v3 P k2 C P F mv go lf t cu cT tF sT dN TM CM = some (C, P + k2 + cP dN b, F + cF dN b + ff t cT, mv, go, lf, t, cu, cT, tF, sT, dN, TM + t, CM + cu) := by
  have l76 : ∀ k1 k2 P', fX3_stroke_L76 (nI b) v2 v3 k1 k2 C P' F mv go lf t cu cT tF sT dN TM CM = some (C, P', k1 + k2 + ff t cT, mv, go, lf, t, cu, cT, tF, sT, dN, TM + t, CM + cu) := by
    intro k1 k2 P'
    unfold fX3_stroke_L76 ff fX3_stroke_L104
    by_cases q1 : t ≤ 0
    · simp only [if_pos q1]
    · by_cases q2 : cT = 0
      · simp only [if_neg q1, if_pos q2]
      · simp only [if_neg q1, if_neg q2]
  have l54 : ∀ k1 k2, fX3_stroke_L54 (nI b) v2 v3 k1 k2 C k1 F mv go lf t cu cT tF sT dN TM CM = some (C, k1 + k2, F + cF dN b + ff t cT, mv, go, lf, t, cu, cT, tF, sT, dN, TM + t, CM + cu) := by
    intro k1 k2
    unfold fX3_stroke_L54 cF
    by_cases q : dN = nI b
    · rw [if_pos q, if_pos q, l76]
    · rw [if_neg q, if_neg q, l76]
  unfold fX3_stroke_L25 cP
  by_cases q1 : dN < 0
  · rw [if_pos q1, if_pos q1, l54]
  · rw [if_neg q1, if_neg q1]
    by_cases q2 : dN = nI b
    · rw [if_pos q2, if_pos q2, l54]
    · rw [if_neg q2, if_neg q2, l54]
theorem cell_nI {c : Int32} (h : OpenC c) : ∃ k : Nat, k < 45 ∧ c = nI k := by
  obtain ⟨k, hk, e⟩ := i_of8 (n := 44) (M := 44) rfl ⟨h.1, h.2.1⟩
  exact ⟨k, by omega, e⟩
/-- a stroke of a ball that lies on the table: the same in both -/
theorem stroke_eq {b j f : Nat} (hb : b < 3) (hj : j < 8) (hf : f ≤ 9) {Cx C : Nat → Int32} (he : ∀ i, i < 3 → Cx i = C i) (hok : OkC Cx) (hn : ¬ Cx b = -6) (P F : Int32) :
    ∃ (Cx' C' : Nat → Int32) (P' F' t cu : Int32), (∀ i, i < 3 → Cx' i = C' i) ∧ OkC Cx' ∧
      (∀ T U r c d i q : Int32, ∃ r' c' d' i' q', fX1_stroke (nI b) (nI j) (nI f) Cx P F T U r c d i q = some (0, Cx', P', F', T + t, U + cu, r', c', d', i', q')) ∧
      (∀ mv go lf to cu0 cT tF sT dN TM CM : Int32, ∃ w1 w2 w3 w4 w5 w6 w7 w8 w9, fX3_stroke (nI b) (nI j) (nI f) C P F mv go lf to cu0 cT tF sT dN TM CM = some (C', P', F', w1, w2, w3, w4, w5, w6, w7, w8, w9, TM + t, CM + cu)) := by
  have ho : OpenC (Cx b) := by rcases hok.1 b hb with z | z; exact absurd z hn; exact z
  obtain ⟨k, hk, ek⟩ := cell_nI ho
  have hbi : bIn (nI b) 3 := bIn_nI (by omega) (by decide)
  have hcl : (nI b).toNatClampNeg = b := nI_clamp (by omega)
  obtain ⟨b', τ', C', Cx', g', l', cu', cT', tF', sT', dN', r', c', d', i', a1, a2, a3, a4, a5, a6, a7, a8, -⟩ := stroke_sim (nI b) (nI j) (nI f) (nI b) (nI j) (nI f) f b j k 0 0 (-6) (-6) (-6) Cx C hb hj hk ek he hok (by omega) (Or.inl ⟨rfl, rfl⟩)
  have hFU : f < FU := by have : FU = 200000 := rfl; omega
  have a1 : fX3_send_L49 (nI b) (nI j) (nI f) FU C (nI b) (nI j) (nI f) 0 0 (-6) (-6) (-6) (-6) = _ := a1 FU hFU
  refine ⟨Cx', C', P + p2 (nI τ') + cP dN' b, F + ff (nI τ') cT' + cF dN' b, nI τ', cu', a5, a6, fun T U r c d i q => ?_, fun mv go lf to cu0 cT tF sT dN TM CM => ?_⟩
  · have a2 : fX1_stroke_L34 (nI b) (nI j) (nI f) FU (nI b) 0 (nI f) Cx P (F + 0) T U (PR k) (PC k) (dn j) (ac j) 0 = _ := a2 P T U F FU hFU
    rw [Int32.add_zero, exit_eq _ _ hb a3 _ _ _ _ _ _ _ _ _ _ _ a6 a7 (a8 b hb hn)] at a2
    unfold fX1_stroke
    simp only [if_pos hbi, hcl, if_pos ho.1, send_s hj, Option.bind_some]
    rw [ek]
    exact ⟨_, _, _, _, _, a2⟩
  · unfold fX3_stroke fX3_send
    rw [a1]
    simp only [Option.bind_some]
    unfold p2
    by_cases q : nI τ' ≤ 1
    · simp only [if_pos q, endM]
      exact ⟨_, _, _, _, _, _, _, _, _, by rw [add_rc F]⟩
    · simp only [if_neg q, endM]
      exact ⟨_, _, _, _, _, _, _, _, _, by rw [add_rc F]⟩
