set_option maxRecDepth 100000
/-! PURE: crises, act by act, in both worlds -/
theorem Acts_mono {sign act which whither hard : Nat → Int32} {q : Nat → Nat} {N : Nat} (h : Acts sign act which whither hard q N) : ∀ (d e : Nat), e + d = N → q e + d ≤ q N := by
  intro d
  induction d with
  | zero => intro e he; rw [show e = N by omega]; omega
  | succ d ih =>
    intro e he
    have h1 := ih (e + 1) (by omega)
    have h2 : q e < q (e + 1) := by
      rcases h.2.2 e (by omega) with ⟨-, x, -⟩ | ⟨-, x, -⟩ | ⟨-, x, -⟩ | ⟨-, x, -⟩ <;> omega
    omega
def CSim (act which whither hard sign : Nat → Int32) (q : Nat → Nat) (N K d e : Nat) (Cx C : Nat → Int32) (P F E T U fa : Int32) : Prop :=
  ∃ (bad why : Int32) (Cx' C' : Nat → Int32) (P' F' E' T' U' fa' : Int32), (∀ i, i < 3 → Cx' i = C' i) ∧ OkC Cx' ∧ ((bad = -6 ∧ why = -6) ∨ (0 ≤ bad ∧ 0 < why)) ∧
    (∀ n, d < n → ∀ (A1 A6 A7 ss sc : Nat → Int32) (A2 A3 A4 A5 si r c dd i qq rs : Int32), ∃ r' c' dd' i' qq' rs' ac', (bad = -6 → ac' = nI N) ∧ (0 ≤ bad → rs' = why) ∧ fX0_goCrises_L24 A1 A2 A3 A4 A5 A6 A7 (nI K) sign n (nI (q e)) Cx P F E si ss sc T U r c dd i qq rs (nI e) fa = some (bad, Cx', P', F', E', si, ss, sc, T', U', r', c', dd', i', qq', rs', ac', fa')) ∧
    (∀ n, d < n → ∀ (w1 w2 w3 w4 w5 w6 w7 w8 w9 : Int32) (were : Nat → Int32), ∃ x1 x2 x3 x4 x5 x6 x7 x8 x9 were', fX3_goCrises_L30 act which whither hard (nI N) n (nI e) C P F E w1 w2 w3 w4 w5 w6 w7 w8 w9 T U were (-6) (-6) fa = some (C', P', F', E', x1, x2, x3, x4, x5, x6, x7, x8, x9, T', U', were', bad, why, fa'))
theorem gM_end (act which whither hard : Nat → Int32) (N : Int32) (n : Nat) (v : Int32) (C : Nat → Int32) (P F E w1 w2 w3 w4 w5 w6 w7 w8 w9 T U : Int32) (were : Nat → Int32) (bad why fa : Int32) (h : 0 ≤ bad) : fX3_goCrises_L30 act which whither hard N (n + 1) v C P F E w1 w2 w3 w4 w5 w6 w7 w8 w9 T U were bad why fa = some (C, P, F, E, w1, w2, w3, w4, w5, w6, w7, w8, w9, T, U, were, bad, why, fa) := by
  unfold fX3_goCrises_L30
  by_cases h1 : N ≤ v
  · rw [if_pos h1]
  · rw [if_neg h1, if_pos h]
def fa1 (F F' fa : Int32) (e : Nat) : Int32 := if F' ≤ F then fa else if 0 ≤ fa then fa else nI e
set_option maxHeartbeats 4000000 in
theorem crises_sim {sign act which whither hard : Nat → Int32} {q : Nat → Nat} {N K : Nat} (hA : Acts sign act which whither hard q N) (hq : q N = K) (hK : K ≤ 60) : ∀ (d e : Nat), e + d = N → ∀ (Cx C : Nat → Int32) (P F E T U fa : Int32), (∀ i, i < 3 → Cx i = C i) → OkC Cx → CSim act which whither hard sign q N K d e Cx C P F E T U fa := by
  have hN : N ≤ 60 := by have := hA.2.1; omega
  intro d
  induction d with
  | zero =>
    intro e he Cx C P F E T U fa heq hok
    obtain rfl : e = N := by omega
    refine ⟨-6, -6, Cx, C, P, F, E, T, U, fa, heq, hok, Or.inl ⟨rfl, rfl⟩, fun n hn A1 A6 A7 ss sc A2 A3 A4 A5 si r c dd i qq rs => ⟨r, c, dd, i, qq, rs, nI e, fun _ => rfl, fun h => absurd h (by decide), ?_⟩, fun n hn w1 w2 w3 w4 w5 w6 w7 w8 w9 were => ⟨w1, w2, w3, w4, w5, w6, w7, w8, w9, were, ?_⟩⟩
    · obtain ⟨n, rfl⟩ : ∃ m, n = m + 1 := ⟨n - 1, by omega⟩
      unfold fX0_goCrises_L24
      rw [if_pos (nI_le (by omega) (by omega))]
    · obtain ⟨n, rfl⟩ : ∃ m, n = m + 1 := ⟨n - 1, by omega⟩
      unfold fX3_goCrises_L30
      rw [if_pos (nI_le (by omega) (by omega))]
  | succ d ih =>
    intro e he Cx C P F E T U fa heq hok
    have hm := Acts_mono hA (d + 1) e (by omega)
    have hm1 := Acts_mono hA d (e + 1) (by omega)
    have hXlt : ¬ nI K ≤ nI (q e) := nI_ge (by omega) (by omega)
    have hMlt : ¬ nI N ≤ nI e := nI_ge (by omega) (by omega)
    have hbe : bIn (nI e) 60 := bIn_nI (by omega) (by decide)
    have hce : (nI e).toNatClampNeg = e := nI_clamp (by omega)
    obtain ⟨aN, b, j, g, ha, hb, hj, hg, ea, ew, ehf, hpp, hXact⟩ := act_X (hA.2.2 e (by omega)) (by omega)
    obtain ⟨rs, Cx1, C1, P1, F1, E1, t, cu, hrs, y1, y2, y3, y4, y5⟩ := act_sim ha hb hj hg heq hok P F E
    -- what the model does with it: 'happen' sees way and force only of a stroke
    have hhap : rs = 0 → ∀ (mv go lf to cu0 cT tF sT dN TM CM : Int32) (were : Nat → Int32), ∃ w1 w2 w3 w4 w5 w6 w7 w8 w9 were', fX3_happen (act e) (which e) (whither e) (hard e) C P F E mv go lf to cu0 cT tF sT dN TM CM were = some (C1, P1, F1, E1, w1, w2, w3, w4, w5, w6, w7, w8, w9, TM + t, CM + cu, were') := by
      intro h0 mv go lf to cu0 cT tF sT dN TM CM were
      obtain ⟨w1, w2, w3, w4, w5, w6, w7, w8, w9, were', ee⟩ := y5 h0 mv go lf to cu0 cT tF sT dN TM CM were
      refine ⟨w1, w2, w3, w4, w5, w6, w7, w8, w9, were', ?_⟩
      rw [← ee, ea, ew]
      by_cases a0 : aN = 0
      · rw [(ehf a0).1, (ehf a0).2]
      · have n0 : ¬ nI aN = 0 := nI_ne0 (by omega) (by omega)
        unfold fX3_happen
        rw [if_neg n0, if_neg n0]
    rcases hrs with h0 | ⟨h0, rfl, rfl, rfl, rfl, rfl, rfl, rfl⟩
    · -- done
      subst h0
      obtain ⟨bad, why, Cx', C', P', F', E', T', U', fa', i1, i2, i3, i4, i5⟩ := ih (e + 1) (by omega) Cx1 C1 P1 F1 E1 (T + t) (U + cu) (fa1 F F1 fa e) y1 y2
      refine ⟨bad, why, Cx', C', P', F', E', T', U', fa', i1, i2, i3, fun n hn A1 A6 A7 ss sc A2 A3 A4 A5 si r c dd i qq rs => ?_, fun n hn w1 w2 w3 w4 w5 w6 w7 w8 w9 were => ?_⟩
      · obtain ⟨n, rfl⟩ : ∃ m, n = m + 1 := ⟨n - 1, by omega⟩
        obtain ⟨r1, c1, d1, k1, q1, ex⟩ := y3 T U r c dd i qq
        obtain ⟨r', c', dd', k', qq', rs', ac', z1, z2, z3⟩ := i4 n (by omega) A1 A6 A7 ss sc A2 A3 A4 A5 si r1 c1 d1 k1 q1 0
        refine ⟨r', c', dd', k', qq', rs', ac', z1, z2, ?_⟩
        rw [← z3]
        conv => lhs; unfold fX0_goCrises_L24
        rw [if_neg hXlt, hXact, ex]
        simp only [Option.bind_some, nI_1]
        rw [if_pos (by decide)]
        unfold fa1
        by_cases g1 : F1 ≤ F
        · simp only [if_pos g1]
        · by_cases g2 : 0 ≤ fa
          · simp only [if_neg g1, if_pos g2]
          · simp only [if_neg g1, if_neg g2]
      · obtain ⟨n, rfl⟩ : ∃ m, n = m + 1 := ⟨n - 1, by omega⟩
        obtain ⟨u1, u2, u3, u4, u5, u6, u7, u8, u9, were1, ex⟩ := hhap rfl w1 w2 w3 w4 w5 w6 w7 w8 w9 T U were
        obtain ⟨x1, x2, x3, x4, x5, x6, x7, x8, x9, were', z3⟩ := i5 n (by omega) u1 u2 u3 u4 u5 u6 u7 u8 u9 were1
        refine ⟨x1, x2, x3, x4, x5, x6, x7, x8, x9, were', ?_⟩
        rw [← z3]
        conv => lhs; unfold fX3_goCrises_L30
        rw [if_neg hMlt, if_neg (by decide), if_pos hbe, if_pos hbe, hce, ea, ew, y4]
        simp only [Option.bind_some]
        rw [if_pos (by decide)]
        unfold fX3_goCrises_L78
        rw [if_pos (by decide)]
        unfold fX3_goCrises_L92
        rw [if_pos rfl]
        simp only [if_pos hbe, hce]
        rw [ex]
        simp only [Option.bind_some]
        unfold fX3_goCrises_L127 fa1
        by_cases g1 : F1 ≤ F
        · simp only [if_pos g1, nI_1]
        · by_cases g2 : 0 ≤ fa
          · simp only [if_neg g1, if_pos g2, nI_1]
          · simp only [if_neg g1, if_neg g2, nI_1]
    · -- refused
      have hr0 : ¬ rs ≤ 0 := i_nle.mpr h0
      have hrn : ¬ rs = 0 := fun z => by rw [z] at h0; exact absurd h0 (by decide)
      refine ⟨nI e, rs, Cx1, C1, P1, F1, E1, T, U, fa, heq, hok, Or.inr ⟨nI_pos' (by omega), h0⟩, fun n hn A1 A6 A7 ss sc A2 A3 A4 A5 si r c dd i qq rs0 => ?_, fun n hn w1 w2 w3 w4 w5 w6 w7 w8 w9 were => ⟨w1, w2, w3, w4, w5, w6, w7, w8, w9, were, ?_⟩⟩
      · obtain ⟨n, rfl⟩ : ∃ m, n = m + 1 := ⟨n - 1, by omega⟩
        obtain ⟨r1, c1, d1, k1, q1, ex⟩ := y3 T U r c dd i qq
        refine ⟨r1, c1, d1, k1, q1, rs, nI e, fun h => absurd h (nI_n6 (by omega)), fun _ => rfl, ?_⟩
        conv => lhs; unfold fX0_goCrises_L24
        rw [if_neg hXlt, hXact, ex]
        simp only [Option.bind_some, Int32.add_zero]
        rw [if_neg hr0]
      · obtain ⟨n, rfl⟩ : ∃ m, n = m + 1 + 1 := ⟨n - 2, by omega⟩
        conv => lhs; unfold fX3_goCrises_L30
        rw [if_neg hMlt, if_neg (by decide), if_pos hbe, if_pos hbe, hce, ea, ew, y4]
        simp only [Option.bind_some]
        rw [if_neg hr0]
        unfold fX3_goCrises_L78
        rw [if_neg hr0]
        unfold fX3_goCrises_L92
        rw [if_neg hrn]
        unfold fX3_goCrises_L127
        rw [if_pos (Int32.le_refl F1)]
        exact gM_end _ _ _ _ _ _ _ _ _ _ _ _ _ _ _ _ _ _ _ _ _ _ _ _ _ _ (nI_pos' (by omega))
