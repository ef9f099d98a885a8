set_option maxRecDepth 100000
/-! PURE: which codes fit the sights -/
/-- the sights i, i + 1, .. (d of them) agree -/
def fitR (step cell : Nat → Int32) (c : Nat) : Nat → Nat → Bool
  | 0, _ => true
  | d + 1, i => if nI (it (c / 10) (c % 10) (step i).toNatClampNeg).1 = cell i then fitR step cell c d (i + 1) else false
def fitB (S : Nat) (step cell : Nat → Int32) (c : Nat) : Bool := if c % 10 < 8 then (if fX0_isPocket (nI (c / 10)) = 0 then fitR step cell c S 0 else false) else false
def b2i (b : Bool) : Int32 := if b = true then 1 else 0
theorem fitR_congr {step cell step' cell' : Nat → Int32} (c : Nat) (h1 : ∀ i, i < 8 → step i = step' i) (h2 : ∀ i, i < 8 → cell i = cell' i) : ∀ d i, i + d ≤ 8 → fitR step cell c d i = fitR step' cell' c d i := by
  intro d
  induction d with
  | zero => intro i _; simp only [fitR]
  | succ d ih =>
    intro i hi
    simp only [fitR]
    rw [h1 i (by omega), h2 i (by omega), ih (i + 1) (by omega)]
theorem c10 {c : Nat} (hc : c < 450) : nI c - nI c / 10 * 10 = nI (c % 10) ∧ nI c / 10 = nI (c / 10) := ⟨pk_rem (d := 10) (by omega) (by decide) (by decide), pk_div (d := 10) (by omega) (by decide) (by decide)⟩
theorem cellAfter_s {c M : Nat} (hc : c < 450) (hj : c % 10 < 8) (hM : M ≤ 99999) (r cc d i q : Int32) : ∃ r' c' d' i' q', fX0_cellAfter (nI c) (nI M) r cc d i q = some (nI (it (c / 10) (c % 10) M).1, r', c', d', i', q') := by
  unfold fX0_cellAfter
  rw [(c10 hc).1, (c10 hc).2]
  obtain ⟨q', e⟩ := walkAlone_s (k := c / 10) (j := c % 10) (by omega) hj hM r cc d i q
  rw [e, Option.bind_some]
  simp only
  rw [cell_s _ (it_lt (by omega) hj M).1, Option.bind_some]
  exact ⟨_, _, _, _, _, rfl⟩
theorem canBe_L {c S : Nat} (hc : c < 450) (hj : c % 10 < 8) (hS : S ≤ 8) {step cell : Nat → Int32} (hst : ∀ i, i < 8 → 0 ≤ step i ∧ step i ≤ 60) : ∀ (d i n : Nat), i + d = S → d + 1 < n → ∀ r cc dd ii q : Int32, ∃ r' c' d' i' q', fX0_canBe_L27 (nI c) (nI S) step cell n 1 (nI i) r cc dd ii q = some (b2i (fitR step cell c d i), r', c', d', i', q') := by
  intro d
  induction d with
  | zero =>
    intro i n hi hn r cc dd ii q
    obtain ⟨n, rfl⟩ : ∃ m, n = m + 1 := ⟨n - 1, by omega⟩
    refine ⟨r, cc, dd, ii, q, ?_⟩
    unfold fX0_canBe_L27
    rw [if_pos (nI_le (by omega) (by omega)), if_pos (Or.inr rfl)]
    simp only [fitR, b2i, if_true]
  | succ d ih =>
    intro i n hi hn r cc dd ii q
    obtain ⟨n, rfl⟩ : ∃ m, n = m + 1 + 1 := ⟨n - 2, by omega⟩
    obtain ⟨M, hM, eM⟩ := i_of8 (n := 60) (M := 60) rfl (hst i (by omega))
    have hbi : bIn (nI i) 8 := bIn_nI (by omega) (by decide)
    have hcl : (nI i).toNatClampNeg = i := nI_clamp (by omega)
    obtain ⟨r1, c1, d1, i1, q1, e⟩ := cellAfter_s hc hj (M := M) (by omega) r cc dd ii q
    have eMn : (step i).toNatClampNeg = M := by rw [eM]; exact nI_clamp (by omega)
    have hU : ∀ n, fX0_canBe_L27 (nI c) (nI S) step cell (n + 1) 1 (nI i) r cc dd ii q = if nI (it (c / 10) (c % 10) M).1 = cell i then fX0_canBe_L27 (nI c) (nI S) step cell n 1 (nI (i + 1)) r1 c1 d1 i1 q1 else fX0_canBe_L27 (nI c) (nI S) step cell n 0 (nI (i + 1)) r1 c1 d1 i1 q1 := by
      intro n
      conv => lhs; unfold fX0_canBe_L27
      rw [if_neg (nI_ge (by omega) (by omega)), if_neg (by decide), if_pos hbi]
      simp only [if_pos hbi, hcl, eM, e, Option.bind_some, nI_1]
    rw [hU (n + 1)]
    simp only [fitR, eMn]
    by_cases z : nI (it (c / 10) (c % 10) M).1 = cell i
    · rw [if_pos z, if_pos z]
      exact ih (i + 1) (n + 1) (by omega) (by omega) r1 c1 d1 i1 q1
    · rw [if_neg z, if_neg z]
      refine ⟨r1, c1, d1, i1, q1, ?_⟩
      unfold fX0_canBe_L27
      by_cases w : nI S ≤ nI (i + 1)
      · rw [if_pos w, if_pos (Or.inl rfl)]
        rfl
      · rw [if_neg w, if_pos rfl, if_pos (Or.inl rfl)]
        rfl
theorem canBe_0 (v1 S : Int32) (step cell : Nat → Int32) (n : Nat) (v3 r cc dd ii q : Int32) : fX0_canBe_L27 v1 S step cell (n + 1) 0 v3 r cc dd ii q = some (0, r, cc, dd, ii, q) := by
  unfold fX0_canBe_L27
  by_cases w : S ≤ v3
  · rw [if_pos w, if_pos (Or.inl rfl)]
  · rw [if_neg w, if_pos rfl, if_pos (Or.inl rfl)]
theorem isFit_0 (v1 S : Int32) (step cell : Nat → Int32) (n : Nat) (v3 : Int32) : fX3_isFit_L27 v1 step cell S (n + 1) 0 v3 = some 0 := by
  unfold fX3_isFit_L27
  by_cases w : S ≤ v3
  · rw [if_pos w, if_pos (Or.inl rfl)]
  · rw [if_neg w, if_pos rfl, if_pos (Or.inl rfl)]
theorem isFit_L {c S : Nat} (hc : c < 450) (hj : c % 10 < 8) (hS : S ≤ 8) {step cell : Nat → Int32} (hst : ∀ i, i < 8 → 0 ≤ step i ∧ step i ≤ 60) : ∀ (d i n : Nat), i + d = S → d + 1 < n → fX3_isFit_L27 (nI c) step cell (nI S) n 1 (nI i) = some (b2i (fitR step cell c d i)) := by
  intro d
  induction d with
  | zero =>
    intro i n hi hn
    obtain ⟨n, rfl⟩ : ∃ m, n = m + 1 := ⟨n - 1, by omega⟩
    unfold fX3_isFit_L27
    rw [if_pos (nI_le (by omega) (by omega)), if_pos (Or.inr rfl)]
    simp only [fitR, b2i, if_true]
  | succ d ih =>
    intro i n hi hn
    obtain ⟨n, rfl⟩ : ∃ m, n = m + 1 + 1 := ⟨n - 2, by omega⟩
    obtain ⟨M, hM, eM⟩ := i_of8 (n := 60) (M := 60) rfl (hst i (by omega))
    have hbi : bIn (nI i) 8 := bIn_nI (by omega) (by decide)
    have hcl : (nI i).toNatClampNeg = i := nI_clamp (by omega)
    have hk : c / 10 < 45 := by omega
    have e : fX3_behindSteps (nI c) (nI M) = some (nI (10 * (it (c / 10) (c % 10) M).1 + (it (c / 10) (c % 10) M).2)) := by
      have := behindSteps_s (k := c / 10) (j := c % 10) hk hj (M := M) (by omega)
      rw [show 10 * (c / 10) + c % 10 = c by omega] at this
      exact this
    have eMn : (step i).toNatClampNeg = M := by rw [eM]; exact nI_clamp (by omega)
    have hU : ∀ n, fX3_isFit_L27 (nI c) step cell (nI S) (n + 1) 1 (nI i) = if nI (it (c / 10) (c % 10) M).1 = cell i then fX3_isFit_L27 (nI c) step cell (nI S) n 1 (nI (i + 1)) else fX3_isFit_L27 (nI c) step cell (nI S) n 0 (nI (i + 1)) := by
      intro n
      conv => lhs; unfold fX3_isFit_L27
      rw [if_neg (nI_ge (by omega) (by omega)), if_neg (by decide), if_pos hbi]
      simp only [if_pos hbi, hcl, eM, e, Option.bind_some, nI_1, div10 (it_lt hk hj M).1 (it_lt hk hj M).2]
    rw [hU (n + 1)]
    simp only [fitR, eMn]
    by_cases z : nI (it (c / 10) (c % 10) M).1 = cell i
    · rw [if_pos z, if_pos z]
      exact ih (i + 1) (n + 1) (by omega) (by omega)
    · rw [if_neg z, if_neg z, isFit_0]
      rfl
