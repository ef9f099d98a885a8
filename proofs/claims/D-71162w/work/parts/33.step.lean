set_option maxRecDepth 100000
/-! PURE: one step, in both worlds: cell k, way j -/
def tw (k j : Nat) : Nat := (fX3_turned (nI k) (nI j)).toNatClampNeg
def ta (k j : Nat) : Nat := (fX3_ahead (nI k) (nI (tw k j))).toNatClampNeg
def dn (j : Nat) : Int32 := fX3_downwards (nI j)
def ac (j : Nat) : Int32 := fX3_across (nI j)
def PR (k : Nat) : Int32 := nI k / 9
def PC (k : Nat) : Int32 := nI k - nI k / 9 * 9
theorem st_1 : ∀ k, k < 45 → ∀ j, j < 8 → fX3_turned (nI k) (nI j) = nI (tw k j) ∧ tw k j < 8 ∧ fX3_ahead (nI k) (nI (tw k j)) = nI (ta k j) ∧ ta k j < 45 := by decide +kernel
def nx4 (k j : Nat) : Int32 × Int32 × Int32 × Int32 := (fX2_next (PR k) (PC k) (dn j) (ac j) 0).getD (0, 0, 0, 0)
theorem st_20 : ∀ k, k < 45 → ∀ j, j < 8 → (fX2_next (PR k) (PC k) (dn j) (ac j) 0).isSome = true ∧ (nx4 k j).1 = nI (ta k j) ∧ (nx4 k j).2.1 = dn (tw k j) ∧ (nx4 k j).2.2.1 = ac (tw k j) ∧ (nx4 k j).2.2.2 = (if tw k j = j then 0 else 1) := by decide +kernel
theorem opt4 {o : Option (Int32 × Int32 × Int32 × Int32)} {a b c d : Int32} (h : o.isSome = true) (h1 : (o.getD (0, 0, 0, 0)).1 = a) (h2 : (o.getD (0, 0, 0, 0)).2.1 = b) (h3 : (o.getD (0, 0, 0, 0)).2.2.1 = c) (h4 : (o.getD (0, 0, 0, 0)).2.2.2 = d) : o = some (a, b, c, d) := by
  cases o with
  | none => cases h
  | some z =>
    obtain ⟨x, y, z, w⟩ := z
    simp only [Option.getD_some] at h1 h2 h3 h4
    rw [h1, h2, h3, h4]
theorem st_2 {k j : Nat} (hk : k < 45) (hj : j < 8) : fX2_next (PR k) (PC k) (dn j) (ac j) 0 = some (nI (ta k j), dn (tw k j), ac (tw k j), if tw k j = j then 0 else 1) := by
  obtain ⟨h0, h1, h2, h3, h4⟩ := st_20 k hk j hj
  exact opt4 h0 h1 h2 h3 h4
theorem st_3 : ∀ k, k < 45 → ∀ j, j < 8 → PR k + dn (tw k j) = PR (ta k j) ∧ PC k + ac (tw k j) = PC (ta k j) := by decide +kernel
theorem next_c (r c d i cu : Int32) : fX2_next r c d i cu = (fX2_next r c d i 0).map (fun z => (z.1, z.2.1, z.2.2.1, cu + z.2.2.2)) := by
  unfold fX2_next fX2_next_L22 fX2_next_L46 fX2_next_L64 fX2_next_L84 fX2_next_L105
  repeat' split
  all_goals simp only [Option.map_some, Int32.zero_add]
theorem next_s {k j : Nat} (hk : k < 45) (hj : j < 8) (cu : Int32) : fX2_next (PR k) (PC k) (dn j) (ac j) cu = some (nI (ta k j), dn (tw k j), ac (tw k j), cu + if tw k j = j then 0 else 1) := by
  rw [next_c, st_2 hk hj]
  simp only [Option.map_some]
theorem send_s {j : Nat} (hj : j < 8) (v r c d i cu : Int32) : fX2_send v (nI j) r c d i cu = some (v / 9, v - v / 9 * 9, dn j, ac j, 0) := by
  have : j = 0 ∨ j = 1 ∨ j = 2 ∨ j = 3 ∨ j = 4 ∨ j = 5 ∨ j = 6 ∨ j = 7 := by omega
  rcases this with rfl | rfl | rfl | rfl | rfl | rfl | rfl | rfl <;> rfl
theorem go_s {k j : Nat} (hk : k < 45) (hj : j < 8) : fX2_go (PR k) (PC k) (dn (tw k j)) (ac (tw k j)) = some (PR (ta k j), PC (ta k j)) := by
  unfold fX2_go
  rw [(st_3 k hk j hj).1, (st_3 k hk j hj).2]
theorem goFrom_s (k : Nat) (r c : Int32) : fX2_goFrom (nI k) r c = some (PR k, PC k) := rfl
theorem cell_s : ∀ k, k < 45 → fX2_cell (PR k) (PC k) = some (nI k) := by decide +kernel
theorem way_s : ∀ j, j < 8 → fX2_way (dn j) (ac j) = some (nI j) := by decide +kernel
theorem nI_n6 {k : Nat} (h : k < 2 ^ 31) : ¬ nI k = -6 := fun e => absurd (nI_pos (n := k) h) (by rw [e]; decide)
theorem turned_ne {k j : Nat} (hk : k < 45) (hj : j < 8) : (fX3_turned (nI k) (nI j) = nI j) ↔ tw k j = j := by
  rw [(st_1 k hk j hj).1]
  exact nI_eq (by have := (st_1 k hk j hj).2.1; omega) (by omega)
/-- a stroke's end, in the class -/
def exitX (v1 v2 v3 v4 v5 : Int32) (cells : Nat → Int32) (points fouls touches cushions r c d i q : Int32) : Option (Int32 × (Nat → Int32) × Int32 × Int32 × Int32 × Int32 × Int32 × Int32 × Int32 × Int32 × Int32) := if v5 ≤ 1 then fX1_stroke_L179 v1 v2 v3 v4 v5 points 0 cells points fouls touches cushions r c d i q else fX1_stroke_L179 v1 v2 v3 v4 v5 points 2 cells points fouls touches cushions r c d i q
def ff (t cT : Int32) : Int32 := if t ≤ 0 then 0 else if cT = 0 then 1 else 0
theorem exit_s (v1 v2 v3 : Int32) (n : Nat) (v4 v5 v6 : Int32) (cells : Nat → Int32) (P F T U r c d i q : Int32) (h : v6 ≤ 0) : fX1_stroke_L34 v1 v2 v3 (n + 1) v4 v5 v6 cells P F T U r c d i q = exitX v1 v2 v3 v4 v5 cells P F T U r c d i q := by
  unfold fX1_stroke_L34 exitX
  rw [if_pos h]
theorem sent_end (u1 u2 u3 : Int32) (n : Nat) (C : Nat → Int32) (b g lf t cu cT tF sT dN : Int32) (h : lf ≤ 0 ∨ 0 ≤ dN) : fX3_send_L49 u1 u2 u3 (n + 1) C b g lf t cu cT tF sT dN = some (C, b, g, lf, t, cu, cT, tF, sT, dN) := by
  unfold fX3_send_L49
  by_cases h1 : lf ≤ 0
  · rw [if_pos h1]
  · rw [if_neg h1, if_pos (h.resolve_left h1)]
theorem open_of {cells : Nat → Int32} {b k : Nat} (hok : OkC cells) (hb : b < 3) (hk : k < 45) (h : cells b = nI k) : OpenC (cells b) := by
  rcases hok.1 b hb with q | q
  · rw [h] at q; exact absurd q (nI_n6 (by omega))
  · exact q
theorem openC_ta {k : Nat} (hk : k < 45) (h : fX0_isPocket (nI k) = 0) : OpenC (nI k) := ⟨nI_pos' (by omega), nI_le (a := k) (b := 44) (by omega) (by decide), h⟩
theorem m_1 {lf : Nat} : nI (lf + 1) - 1 = nI lf := nI_pred lf
theorem m_m1 {lf : Nat} : nI (lf + 1) + (-1) = nI lf := pk_m1 lf
/-- the model's step -/
theorem step_M (u3 : Int32) {b j k lf : Nat} (hb : b < 3) (hj : j < 8) (hk : k < 45) (Cx C : Nat → Int32) (hC : Cx b = nI k) (he : ∀ i, i < 3 → Cx i = C i) (hok : OkC Cx) (t cu cT tF sT dN : Int32) :
    fX3_step u3 C (nI b) (nI j) (nI (lf + 1)) t cu cT tF sT dN = (if bo (nI (ta k j)) Cx < 0 then (if fX0_isPocket (nI (ta k j)) = 0 then some (upd C b (nI (ta k j)), nI b, nI (tw k j), nI lf, t, cu + (if tw k j = j then 0 else 1), cT, tF, sT, dN) else some (upd (upd C b (nI (ta k j))) b (-6), nI b, nI (tw k j), nI lf, t, cu + (if tw k j = j then 0 else 1), cT, tF, sT, nI b)) else (if 0 ≤ tF then some (C, bo (nI (ta k j)) Cx, nI (tw k j), nI lf, t + 1, cu + (if tw k j = j then 0 else 1), cT, tF, sT, dN) else some (C, bo (nI (ta k j)) Cx, nI (tw k j), nI lf, t + 1, cu + (if tw k j = j then 0 else 1), cu + (if tw k j = j then 0 else 1), bo (nI (ta k j)) Cx, u3 - nI lf, dN))) := by
  have hbi : bIn (nI b) 3 := bIn_nI (by omega) (by decide)
  have hcl : (nI b).toNatClampNeg = b := nI_clamp (by omega)
  obtain ⟨s1, s2, s3, s4⟩ := st_1 k hk j hj
  have hCb : C b = nI k := (he b hb).symm.trans hC
  have hne : ¬ nI (ta k j) = -6 := nI_n6 (by omega)
  have key : ∀ k2 : Int32, fX3_step_L35 u3 (nI (tw k j)) cu k2 C (nI b) (nI j) (nI (lf + 1)) t cu cT tF sT dN = (if bo (nI (ta k j)) Cx < 0 then (if fX0_isPocket (nI (ta k j)) = 0 then some (upd C b (nI (ta k j)), nI b, nI (tw k j), nI lf, t, cu + k2, cT, tF, sT, dN) else some (upd (upd C b (nI (ta k j))) b (-6), nI b, nI (tw k j), nI lf, t, cu + k2, cT, tF, sT, nI b)) else (if 0 ≤ tF then some (C, bo (nI (ta k j)) Cx, nI (tw k j), nI lf, t + 1, cu + k2, cT, tF, sT, dN) else some (C, bo (nI (ta k j)) Cx, nI (tw k j), nI lf, t + 1, cu + k2, cu + k2, bo (nI (ta k j)) Cx, u3 - nI lf, dN))) := by
    intro k2
    unfold fX3_step_L35
    simp only [if_pos hbi, hcl, hCb, s3, X3_ballOn, bo_eq he hok hne, Option.bind_some, m_1, isPocket_eq]
    by_cases q : bo (nI (ta k j)) Cx < 0
    · simp only [if_pos q]
    · simp only [if_neg q]
      unfold fX3_touch
      by_cases q2 : (0 : Int32) ≤ tF
      · simp only [if_pos q2, Option.bind_some]
      · simp only [if_neg q2, Option.bind_some]
  unfold fX3_step
  simp only [if_pos hbi, hcl, hCb, s1]
  by_cases q : tw k j = j
  · rw [if_pos (by rw [q]), key 0]
    simp only [if_pos q]
  · rw [if_neg (fun h => q ((nI_eq (by omega) (by omega)).mp h)), key 1]
    simp only [if_neg q]
