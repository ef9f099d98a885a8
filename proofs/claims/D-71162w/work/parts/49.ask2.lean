set_option maxRecDepth 100000
def cd (c s : Nat) : Nat := 10 * (it (c / 10) (c % 10) s).1 + (it (c / 10) (c % 10) s).2
def ce (c s : Nat) : Nat := (it (c / 10) (c % 10) s).1
theorem cd_lt {c s : Nat} (hc : c < 450) (hj : c % 10 < 8) : cd c s < 450 ∧ ce c s < 45 := by
  obtain ⟨a, b⟩ := it_lt (k := c / 10) (j := c % 10) (by omega) hj s
  unfold cd ce
  omega
theorem cd_div {c s : Nat} (hc : c < 450) (hj : c % 10 < 8) : nI (cd c s) / 10 = nI (ce c s) := by
  obtain ⟨a, b⟩ := it_lt (k := c / 10) (j := c % 10) (by omega) hj s
  unfold cd ce
  exact div10 a b
theorem cd_next {c s : Nat} (hc : c < 450) (hj : c % 10 < 8) : fX3_next (nI (cd c s)) = nI (cd c (s + 1)) := by
  obtain ⟨a, b⟩ := it_lt (k := c / 10) (j := c % 10) (by omega) hj s
  unfold cd
  rw [next_M _ a _ b, it_s]
/-- the counts of a step -/
def Cnt (i : Nat) (by0 : Nat → Int32) : Prop := ∀ c, c < 45 → ∃ β, β ≤ i ∧ by0 c = nI β
set_option maxHeartbeats 4000000 in
theorem ask_in (v1 : Int32) (S : Int32) (step cell : Nat → Int32) {F s : Nat} (hF : F ≤ 360) (hs : s ≤ 60) {C : Nat → Nat} (hC : ∀ i, i < F → C i < 450 ∧ C i % 10 < 8) {fit : Nat → Int32} (hfit : ∀ i, i < F → fit i = nI (C i)) :
    ∀ (d i ω : Nat), i + d = F → ω ≤ i → ∀ (byX byM now : Nat → Int32), (∀ c, c < 45 → byX c = byM c) → Cnt i byX → (∀ e, e < i → now e = nI (cd (C e) (s + 1))) → (∀ e, i ≤ e → e < F → now e = nI (cd (C e) s)) →
    ∃ (ω' : Nat) (byX' byM' now' : Nat → Int32), ω' ≤ F ∧ (∀ e, e < F → now' e = nI (cd (C e) (s + 1))) ∧
      (∀ n, d < n → ∀ k57 which least r cc dd ii q, ∃ r' c' d' i' q', fX0_ask_L82 v1 S step cell k57 n (nI F) which least (nI s) (nI ω) (nI i) r cc dd ii q fit byX = if least ≤ nI ω' then k57 (nI F) which (if nI ω' < least then nI ω' else least) (nI (s + 1)) r' c' d' i' q' fit byX' else k57 (nI F) (nI s) (if nI ω' < least then nI ω' else least) (nI (s + 1)) r' c' d' i' q' fit byX') ∧
      (∀ n, d < n → fX3_mostNow_L25 (nI F) n (nI ω) (nI i) now byM = some (nI ω', now', byM')) := by
  intro d
  induction d with
  | zero =>
    intro i ω hi hω byX byM now hb hcn h1 h2
    obtain rfl : i = F := by omega
    refine ⟨ω, byX, byM, now, hω, h1, fun n hn k57 which least r cc dd ii q => ⟨r, cc, dd, ii, q, ?_⟩, fun n hn => ?_⟩
    · obtain ⟨n, rfl⟩ : ∃ m, n = m + 1 := ⟨n - 1, by omega⟩
      conv => lhs; unfold fX0_ask_L82
      rw [if_pos (nI_le (Nat.le_refl i) (by omega)), nI_1]
    · obtain ⟨n, rfl⟩ : ∃ m, n = m + 1 := ⟨n - 1, by omega⟩
      conv => lhs; unfold fX3_mostNow_L25
      rw [if_pos (nI_le (Nat.le_refl i) (by omega))]
  | succ d ih =>
    intro i ω hi hω byX byM now hb hcn h1 h2
    obtain ⟨hc, hj⟩ := hC i (by omega)
    have hnow := h2 i (Nat.le_refl i) (by omega)
    have hlt : ¬ nI F ≤ nI i := nI_ge (by omega) (by omega)
    have hce := (cd_lt (s := s) hc hj).2
    obtain ⟨β, hβ, eβ⟩ := hcn (ce (C i) s) hce
    have eβM : byM (ce (C i) s) = nI β := by rw [← hb _ hce]; exact eβ
    have b45 : bIn (nI (ce (C i) s)) 45 := bIn_nI hce (by decide)
    have c45 : (nI (ce (C i) s)).toNatClampNeg = ce (C i) s := nI_clamp (by omega)
    have b450 : bIn (nI i) 450 := bIn_nI (by omega) (by decide)
    have b360 : bIn (nI i) 360 := bIn_nI (by omega) (by decide)
    have ci : (nI i).toNatClampNeg = i := nI_clamp (by omega)
    obtain ⟨ω1, hω1, hX1, hM1⟩ : ∃ ω1 : Nat, ω1 ≤ i + 1 ∧ (if nI ω < nI (β + 1) then nI (β + 1) else nI ω) = nI ω1 ∧ (nI (β + 1) ≤ nI ω ∧ ω1 = ω ∨ ¬ nI (β + 1) ≤ nI ω ∧ ω1 = β + 1) := by
      by_cases z : nI (β + 1) ≤ nI ω
      · exact ⟨ω, by omega, by rw [if_neg (i_nlt.mpr z)], Or.inl ⟨z, rfl⟩⟩
      · exact ⟨β + 1, by omega, by rw [if_pos (i_nle.mp z)], Or.inr ⟨z, rfl⟩⟩
    obtain ⟨ω', byX', byM', now', g1, g2, g3, g4⟩ := ih (i + 1) ω1 (by omega) hω1 (upd byX (ce (C i) s) (nI (β + 1))) (upd byM (ce (C i) s) (nI (β + 1))) (upd now i (nI (cd (C i) (s + 1)))) (upd_eq hb) (by
        intro c hc45
        by_cases e : c = ce (C i) s
        · subst e; rw [upd_s]; exact ⟨β + 1, by omega, rfl⟩
        · rw [upd_n _ _ e]
          obtain ⟨γ, hγ, eγ⟩ := hcn c hc45
          exact ⟨γ, by omega, eγ⟩) (by
        intro e he
        by_cases ee : e = i
        · subst ee; rw [upd_s]
        · rw [upd_n _ _ ee]; exact h1 e (by omega)) (by
        intro e he1 he2
        rw [upd_n _ _ (by omega)]
        exact h2 e (by omega) he2)
    refine ⟨ω', byX', byM', now', g1, g2, fun n hn k57 which least r cc dd ii q => ?_, fun n hn => ?_⟩
    · obtain ⟨n, rfl⟩ : ∃ m, n = m + 1 := ⟨n - 1, by omega⟩
      obtain ⟨r1, c1, d1, i1, q1, e⟩ := cellAfter_s hc hj (M := s) (by omega) r cc dd ii q
      obtain ⟨r', c', d', i', q', ex⟩ := g3 n (by omega) k57 which least r1 c1 d1 i1 q1
      refine ⟨r', c', d', i', q', ?_⟩
      rw [← ex]
      have e : fX0_cellAfter (nI (C i)) (nI s) r cc dd ii q = some (nI (ce (C i) s), r1, c1, d1, i1, q1) := e
      conv => lhs; unfold fX0_ask_L82
      rw [if_neg hlt, if_pos b450]
      simp only [ci, hfit i (by omega), e, Option.bind_some, if_pos b45, c45, eβ, nI_1, upd_s, hX1]
    · obtain ⟨n, rfl⟩ : ∃ m, n = m + 1 := ⟨n - 1, by omega⟩
      rw [← g4 n (by omega)]
      conv => lhs; unfold fX3_mostNow_L25
      rw [if_neg hlt, if_pos b360]
      simp only [ci, hnow, cd_div hc hj, if_pos b45, c45, eβM, nI_1, upd_s]
      unfold fX3_mostNow_L73
      simp only [if_pos b360, ci, hnow, cd_next hc hj, nI_1]
      rcases hM1 with ⟨z1, z2⟩ | ⟨z1, z2⟩
      · rw [if_pos z1, z2]
      · rw [if_neg z1, z2]
