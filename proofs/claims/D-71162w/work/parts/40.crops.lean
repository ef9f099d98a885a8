set_option maxRecDepth 100000
/-! PURE: what is asked of crises -/
def hd (C : Nat → Int32) (P F E : Int32) (had : Nat → Int32) : Nat → Int32 := upd (upd (upd (upd (upd (upd had 0 (C 0)) 1 (C 1)) 2 (C 2)) 3 P) 4 F) 5 E
def bk (C1 C : Nat → Int32) : Nat → Int32 := upd (upd (upd C1 0 (C 0)) 1 (C 1)) 2 (C 2)
theorem bk_eq (C1 C : Nat → Int32) : ∀ i, i < 3 → bk C1 C i = C i := by
  intro i hi
  have : i = 0 ∨ i = 1 ∨ i = 2 := by omega
  unfold bk
  rcases this with rfl | rfl | rfl
  · rw [upd_n _ _ (by decide), upd_n _ _ (by decide), upd_s]
  · rw [upd_n _ _ (by decide), upd_s]
  · rw [upd_s]
theorem cl345 : (3 : Int32).toNatClampNeg = 3 ∧ (4 : Int32).toNatClampNeg = 4 ∧ (5 : Int32).toNatClampNeg = 5 := by decide
theorem keep_s (C : Nat → Int32) (P F E : Int32) (had : Nat → Int32) : fX3_keepNow C P F E had = some (hd C P F E had) := by
  unfold fX3_keepNow
  obtain ⟨n, hn⟩ : ∃ n, FU = n + 1 + 1 + 1 + 1 := ⟨199996, rfl⟩
  rw [hn]
  simp only [fX3_keepNow_L2, k012.1, k012.2.1, k012.2.2]
  simp only [if_neg (show ¬ (3 : Int32) ≤ 0 by decide), if_neg (show ¬ (3 : Int32) ≤ 1 by decide), if_neg (show ¬ (3 : Int32) ≤ 2 by decide), if_pos (show (3 : Int32) ≤ 3 by decide), if_pos (show bIn 0 3 by decide), if_pos (show bIn 1 3 by decide), if_pos (show bIn 2 3 by decide), if_pos (show bIn 0 6 by decide), if_pos (show bIn 1 6 by decide), if_pos (show bIn 2 6 by decide), if_pos (show bIn 3 6 by decide), if_pos (show bIn 4 6 by decide), if_pos (show bIn 5 6 by decide), cl012.1, cl012.2.1, cl012.2.2, cl345.1, cl345.2.1, cl345.2.2]
  rfl
theorem back_s (v : Int32) (C1 C : Nat → Int32) (P1 F1 E1 P F E : Int32) (had : Nat → Int32) : fX3_back v C1 P1 F1 E1 (hd C P F E had) = some (v, bk C1 C, P, F, E) := by
  unfold fX3_back
  obtain ⟨n, hn⟩ : ∃ n, FU = n + 1 + 1 + 1 + 1 := ⟨199996, rfl⟩
  rw [hn]
  have h0 : hd C P F E had 0 = C 0 := by unfold hd; rw [upd_n _ _ (by decide), upd_n _ _ (by decide), upd_n _ _ (by decide), upd_n _ _ (by decide), upd_n _ _ (by decide), upd_s]
  have h1 : hd C P F E had 1 = C 1 := by unfold hd; rw [upd_n _ _ (by decide), upd_n _ _ (by decide), upd_n _ _ (by decide), upd_n _ _ (by decide), upd_s]
  have h2 : hd C P F E had 2 = C 2 := by unfold hd; rw [upd_n _ _ (by decide), upd_n _ _ (by decide), upd_n _ _ (by decide), upd_s]
  have h3 : hd C P F E had 3 = P := by unfold hd; rw [upd_n _ _ (by decide), upd_n _ _ (by decide), upd_s]
  have h4 : hd C P F E had 4 = F := by unfold hd; rw [upd_n _ _ (by decide), upd_s]
  have h5 : hd C P F E had 5 = E := by unfold hd; rw [upd_s]
  simp only [fX3_back_L2, k012.1, k012.2.1, k012.2.2]
  simp only [if_neg (show ¬ (3 : Int32) ≤ 0 by decide), if_neg (show ¬ (3 : Int32) ≤ 1 by decide), if_neg (show ¬ (3 : Int32) ≤ 2 by decide), if_pos (show (3 : Int32) ≤ 3 by decide), if_pos (show bIn 0 3 by decide), if_pos (show bIn 1 3 by decide), if_pos (show bIn 2 3 by decide), if_pos (show bIn 0 6 by decide), if_pos (show bIn 1 6 by decide), if_pos (show bIn 2 6 by decide), if_pos (show bIn 3 6 by decide), if_pos (show bIn 4 6 by decide), if_pos (show bIn 5 6 by decide), cl012.1, cl012.2.1, cl012.2.2, cl345.1, cl345.2.1, cl345.2.2, h0, h1, h2, h3, h4, h5]
  rfl
theorem OkC_congr {c c' : Nat → Int32} (h : OkC c) (h1 : ∀ i, i < 3 → c' i = c i) : OkC c' := by
  obtain ⟨a, b⟩ := h
  refine ⟨fun i hi => by rw [h1 i hi]; exact a i hi, fun i j hi hj hne he => ?_⟩
  rw [h1 i hi, h1 j hj] at he
  rw [h1 i hi]
  exact b i j hi hj hne he
def cntX (C : Nat → Int32) : Int32 := (if 0 ≤ C 0 then 0 else 1) + (if 0 ≤ C 1 then 0 else 1) + (if 0 ≤ C 2 then 0 else 1)
theorem down_X (C : Nat → Int32) : fX1_countDown C = some (cntX C) := by
  unfold fX1_countDown
  obtain ⟨n, hn⟩ : ∃ n, FU = n + 1 + 1 + 1 + 1 := ⟨199996, rfl⟩
  rw [hn]
  simp only [fX1_countDown_L13, k012.1, k012.2.1, k012.2.2]
  simp only [if_neg (show ¬ (3 : Int32) ≤ 0 by decide), if_neg (show ¬ (3 : Int32) ≤ 1 by decide), if_neg (show ¬ (3 : Int32) ≤ 2 by decide), if_pos (show (3 : Int32) ≤ 3 by decide), if_pos (show bIn 0 3 by decide), if_pos (show bIn 1 3 by decide), if_pos (show bIn 2 3 by decide), cl012.1, cl012.2.1, cl012.2.2]
  unfold cntX
  by_cases h0 : 0 ≤ C 0 <;> by_cases h1 : 0 ≤ C 1 <;> by_cases h2 : 0 ≤ C 2 <;> simp only [h0, h1, h2, if_true, if_false] <;> decide
theorem down_M (C : Nat → Int32) : fX3_downMany C = some (cntX C) := by
  unfold fX3_downMany
  obtain ⟨n, hn⟩ : ∃ n, FU = n + 1 + 1 + 1 + 1 := ⟨199996, rfl⟩
  rw [hn]
  simp only [fX3_downMany_L4, k012.1, k012.2.1, k012.2.2]
  simp only [if_neg (show ¬ (3 : Int32) ≤ 0 by decide), if_neg (show ¬ (3 : Int32) ≤ 1 by decide), if_neg (show ¬ (3 : Int32) ≤ 2 by decide), if_pos (show (3 : Int32) ≤ 3 by decide), if_pos (show bIn 0 3 by decide), if_pos (show bIn 1 3 by decide), if_pos (show bIn 2 3 by decide), cl012.1, cl012.2.1, cl012.2.2]
  unfold cntX
  by_cases h0 : 0 ≤ C 0 <;> by_cases h1 : 0 ≤ C 1 <;> by_cases h2 : 0 ≤ C 2 <;> simp only [h0, h1, h2, if_true, if_false] <;> decide
theorem cnt_eq {A B : Nat → Int32} (h : ∀ i, i < 3 → A i = B i) : cntX A = cntX B := by unfold cntX; rw [h 0 (by decide), h 1 (by decide), h 2 (by decide)]
/-- crises in both worlds -/
theorem cr_all {t_cells m_cell sign pad : Nat → Int32} (hc : ∀ i, i < 3 → t_cells i = m_cell i) (hok : OkC t_cells) (hs : ∀ i, i < 60 → sign i = pad i) {x : Int32} (hx : 0 ≤ x ∧ x ≤ 60) (P F E : Int32) (m_act m_which m_whither m_hard m_were m_had : Nat → Int32) (acts w1 w2 w3 w4 w5 w6 w7 w8 w9 TM CM bA bW fA : Int32) (n_cells ss sc A6 A7 : Nat → Int32) (nP nF nE si nT nU A5 r c d i q rs ac fa : Int32) :
    (∃ (z : Int32) (a1 a2 a3 a4 : Nat → Int32) (a5 : Int32), 0 ≤ z ∧ fX0_faultOf x sign = some z ∧ fX3_refusal m_cell P F E pad x m_act m_which m_whither m_hard acts w1 w2 w3 w4 w5 w6 w7 w8 w9 TM CM m_were m_had bA bW fA = some (-5, m_cell, P, F, E, a1, a2, a3, a4, a5, w1, w2, w3, w4, w5, w6, w7, w8, w9, TM, CM, m_were, hd m_cell P F E m_had, bA, bW, fA)) ∨
    (∃ (bad why : Int32) (a1 a2 a3 a4 Cx' C' were' : Nat → Int32) (P' F' E' T' U' fa' r' c' d' i' q' rs' ac' N x1 x2 x3 x4 x5 x6 x7 x8 x9 : Int32), fX0_faultOf x sign = some (-6) ∧ (∀ i, i < 3 → Cx' i = C' i) ∧ OkC Cx' ∧ ((bad = -6 ∧ why = -6) ∨ (0 ≤ bad ∧ 0 < why)) ∧ (bad = -6 → ac' = N) ∧ (0 ≤ bad → rs' = why) ∧
      fX0_goCrises t_cells P F E A5 A6 A7 n_cells nP nF nE si ss sc nT nU r c d i q x sign rs ac fa = some (bad, Cx', P', F', E', A5, va_cpy A6 ss 0 0 8, va_cpy A7 sc 0 0 8, T', U', r', c', d', i', q', rs', ac', fa') ∧
      fX3_refusal m_cell P F E pad x m_act m_which m_whither m_hard acts w1 w2 w3 w4 w5 w6 w7 w8 w9 TM CM m_were m_had bA bW fA = some (if bad < 0 then -6 else -3, C', P', F', E', a1, a2, a3, a4, N, x1, x2, x3, x4, x5, x6, x7, x8, x9, T', U', were', hd m_cell P F E m_had, bad, why, fa')) := by
  obtain ⟨z, a1, a2, a3, a4, N, K, ex, hK, f1, f2, f3⟩ := fault_eq hs hx m_act m_which m_whither m_hard acts
  rcases f3 with h | ⟨h, q', hA, hq⟩
  · left
    refine ⟨z, a1, a2, a3, a4, nI N, h, f1, ?_⟩
    unfold fX3_refusal
    rw [keep_s]
    simp only [Option.bind_some, f2, if_neg (i_nlt.mpr h)]
  · right
    subst h
    subst ex
    have he : ∀ i, i < 3 → va_cpy t_cells n_cells 0 0 3 i = m_cell i := fun i hi => (cpy_in hi).trans (hc i hi)
    have hok2 : OkC (va_cpy t_cells n_cells 0 0 3) := OkC_congr hok (fun i hi => cpy_in hi)
    obtain ⟨bad, why, Cx', C', P', F', E', T', U', fa', y1, y2, y3, y4, y5⟩ := crises_sim hA hq hK N 0 (by omega) (va_cpy t_cells n_cells 0 0 3) m_cell P F E 0 0 (-6) he hok2
    have hFU : N < FU := by have : FU = 200000 := rfl; have := hA.2.1; omega
    obtain ⟨r', c', d', i', q2, rs', ac', u1, u2, u3⟩ := y4 FU hFU t_cells A6 A7 (va_cpy A6 ss 0 0 8) (va_cpy A7 sc 0 0 8) P F E A5 A5 r c d i q rs
    obtain ⟨x1, x2, x3, x4, x5, x6, x7, x8, x9, were', u4⟩ := y5 FU hFU w1 w2 w3 w4 w5 w6 w7 w8 w9 m_were
    refine ⟨bad, why, a1, a2, a3, a4, Cx', C', were', P', F', E', T', U', fa', r', c', d', i', q2, rs', ac', nI N, x1, x2, x3, x4, x5, x6, x7, x8, x9, f1, y1, y2, y3, u1, u2, ?_, ?_⟩
    · unfold fX0_goCrises fX1_copy
      rw [Option.bind_some]
      rw [hA.1, nI_0] at u3
      exact u3
    · rw [nI_0] at u4
      have hG : fX3_goCrises m_cell P F E a1 a2 a3 a4 (nI N) w1 w2 w3 w4 w5 w6 w7 w8 w9 TM CM m_were bA bW fA = some (C', P', F', E', x1, x2, x3, x4, x5, x6, x7, x8, x9, T', U', were', bad, why, fa') := by
        unfold fX3_goCrises
        exact u4
      unfold fX3_refusal
      rw [keep_s]
      simp only [Option.bind_some, f2, if_pos (show (-6 : Int32) < 0 by decide), hG]
      by_cases hb : bad < 0
      · simp only [if_pos hb]
      · simp only [if_neg hb]
