set_option maxRecDepth 100000
/-! PURE: the codes that fit, one behind another -/
theorem canBe_s {c S : Nat} (hc : c < 450) (hS : S ≤ 8) {step cell : Nat → Int32} (hst : ∀ i, i < 8 → 0 ≤ step i ∧ step i ≤ 60) (r cc dd ii q : Int32) : ∃ r' c' d' i' q', fX0_canBe (nI c) (nI S) step cell r cc dd ii q = some (b2i (fitB S step cell c), r', c', d', i', q') := by
  have hFU : FU = 199999 + 1 := rfl
  unfold fX0_canBe fitB
  rw [(c10 hc).1, (c10 hc).2]
  by_cases hj : c % 10 < 8
  · rw [if_neg (show ¬ (8 : Int32) ≤ nI (c % 10) from nI_ge (a := c % 10) (b := 8) hj (by decide)), if_pos hj]
    have ho : fX0_isOpen (nI (c / 10)) = if fX0_isPocket (nI (c / 10)) = 0 then 1 else 0 := by
      unfold fX0_isOpen
      have : fX0_isCell (nI (c / 10)) = 1 := isIn_1 (nI_pos' (by omega)) (nI_le (a := c / 10) (b := 44) (by omega) (by decide))
      rw [this, if_neg (by decide)]
    rw [ho]
    by_cases z : fX0_isPocket (nI (c / 10)) = 0
    · rw [if_pos z, if_neg (by decide), if_pos z]
      exact canBe_L hc hj hS hst S 0 FU (by omega) (by have : FU = 200000 := rfl; omega) r cc dd ii q
    · rw [if_neg z, if_pos rfl, if_neg z, hFU, canBe_0]
      exact ⟨_, _, _, _, _, rfl⟩
  · rw [if_pos (show (8 : Int32) ≤ nI (c % 10) from nI_le (a := 8) (b := c % 10) (by omega) (by omega)), if_neg hj, hFU, canBe_0]
    exact ⟨_, _, _, _, _, rfl⟩
theorem isFit_s {c S : Nat} (hc : c < 450) (hS : S ≤ 8) {step cell : Nat → Int32} (hst : ∀ i, i < 8 → 0 ≤ step i ∧ step i ≤ 60) : fX3_isFit (nI c) step cell (nI S) = some (b2i (fitB S step cell c)) := by
  have hFU : FU = 199999 + 1 := rfl
  unfold fX3_isFit fitB
  rw [(c10 hc).1, (c10 hc).2, isPocket_eq]
  by_cases hj : c % 10 < 8
  · rw [if_neg (show ¬ (8 : Int32) ≤ nI (c % 10) from nI_ge (a := c % 10) (b := 8) hj (by decide)), if_pos hj]
    by_cases z : fX0_isPocket (nI (c / 10)) = 0
    · rw [if_pos z, if_pos z]
      exact isFit_L hc hj hS hst S 0 FU (by omega) (by have : FU = 200000 := rfl; omega)
    · rw [if_neg z, if_neg z, hFU, isFit_0]
      rfl
  · rw [if_pos (show (8 : Int32) ≤ nI (c % 10) from nI_le (a := 8) (b := c % 10) (by omega) (by omega)), if_neg hj, hFU, isFit_0]
    rfl
/-- how many codes below c fit -/
def fc (B : Nat → Bool) : Nat → Nat
  | 0 => 0
  | c + 1 => if B c = true then fc B c + 1 else fc B c
theorem fc_1 {B : Nat → Bool} {c : Nat} (h : B c = true) : fc B (c + 1) = fc B c + 1 := by simp only [fc, if_pos h]
theorem fc_0 {B : Nat → Bool} {c : Nat} (h : ¬ B c = true) : fc B (c + 1) = fc B c := by simp only [fc, if_neg h]
theorem fc_le (B : Nat → Bool) : ∀ d c, fc B c ≤ fc B (c + d) := by
  intro d
  induction d with
  | zero => intro c; exact Nat.le_refl _
  | succ d ih =>
    intro c
    have h1 := ih c
    by_cases h : B (c + d) = true
    · have := fc_1 h; rw [show c + (d + 1) = c + d + 1 by omega]; omega
    · have := fc_0 h; rw [show c + (d + 1) = c + d + 1 by omega]; omega
theorem fc_b (B : Nat → Bool) (hB : ∀ c, B c = true → c % 10 < 8) : ∀ c, fc B c ≤ 8 * (c / 10) + (if c % 10 < 8 then c % 10 else 8) := by
  intro c
  induction c with
  | zero => exact Nat.zero_le _
  | succ c ih =>
    by_cases h : B c = true
    · have h8 := hB c h
      rw [fc_1 h]
      rw [if_pos h8] at ih
      by_cases h9 : (c + 1) % 10 < 8
      · rw [if_pos h9]; omega
      · rw [if_neg h9]; omega
    · rw [fc_0 h]
      by_cases h8 : c % 10 < 8
      · rw [if_pos h8] at ih
        by_cases h9 : (c + 1) % 10 < 8
        · rw [if_pos h9]; omega
        · rw [if_neg h9]; omega
      · rw [if_neg h8] at ih
        by_cases h9 : (c + 1) % 10 < 8
        · rw [if_pos h9]; omega
        · rw [if_neg h9]; omega
theorem fitB_8 {S : Nat} {step cell : Nat → Int32} (c : Nat) (h : fitB S step cell c = true) : c % 10 < 8 := by
  unfold fitB at h
  by_cases z : c % 10 < 8
  · exact z
  · rw [if_neg z] at h; cases h
theorem fc_360 {S : Nat} {step cell : Nat → Int32} {c : Nat} (hc : c < 450) (h : fitB S step cell c = true) : fc (fitB S step cell) c < 360 := by
  have h1 := fc_b (fitB S step cell) (fun c => fitB_8 c) c
  have h8 := fitB_8 c h
  rw [if_pos h8] at h1
  omega
theorem fc_all {S : Nat} {step cell : Nat → Int32} : fc (fitB S step cell) 450 ≤ 360 := by
  have h1 := fc_b (fitB S step cell) (fun c => fitB_8 c) 450
  rw [if_pos (by decide)] at h1
  omega
theorem b2i_0 {b : Bool} : b2i b = 0 ↔ ¬ b = true := by
  cases b
  · simp [b2i]
  · simp [b2i]
/-- the model's list of codes -/
theorem fits_s {S : Nat} (hS : S ≤ 8) {step cell : Nat → Int32} (hst : ∀ i, i < 8 → 0 ≤ step i ∧ step i ≤ 60) : ∀ (d c n : Nat) (fit now : Nat → Int32), c + d = 450 → d < n → (∀ e, e < c → fitB S step cell e = true → fit (fc (fitB S step cell) e) = nI e ∧ now (fc (fitB S step cell) e) = nI e) → ∃ fit' now' : Nat → Int32, fX3_findFits_L7 step cell (nI S) n (nI c) fit now (nI (fc (fitB S step cell) c)) = some (fit', now', nI (fc (fitB S step cell) 450)) ∧ ∀ e, e < 450 → fitB S step cell e = true → fit' (fc (fitB S step cell) e) = nI e ∧ now' (fc (fitB S step cell) e) = nI e := by
  intro d
  induction d with
  | zero =>
    intro c n fit now hc hn hI
    obtain ⟨n, rfl⟩ : ∃ m, n = m + 1 := ⟨n - 1, by omega⟩
    obtain rfl : c = 450 := by omega
    refine ⟨fit, now, ?_, hI⟩
    unfold fX3_findFits_L7
    rw [if_pos (show (450 : Int32) ≤ nI 450 by decide)]
  | succ d ih =>
    intro c n fit now hc hn hI
    obtain ⟨n, rfl⟩ : ∃ m, n = m + 1 := ⟨n - 1, by omega⟩
    have hlt : ¬ (450 : Int32) ≤ nI c := nI_ge (a := c) (b := 450) (by omega) (by decide)
    by_cases h : fitB S step cell c = true
    · have h360 := fc_360 (by omega) h
      have hbi : bIn (nI (fc (fitB S step cell) c)) 360 := bIn_nI h360 (by decide)
      have hcl : (nI (fc (fitB S step cell) c)).toNatClampNeg = fc (fitB S step cell) c := nI_clamp (by omega)
      have hlow : ∀ e, e < c → fitB S step cell e = true → fc (fitB S step cell) e ≠ fc (fitB S step cell) c := by
        intro e he hf
        have h1 := fc_1 hf
        have h2 := fc_le (fitB S step cell) (c - (e + 1)) (e + 1)
        rw [show e + 1 + (c - (e + 1)) = c by omega] at h2
        omega
      obtain ⟨fit', now', e1, e2⟩ := ih (c + 1) n (upd fit (fc (fitB S step cell) c) (nI c)) (upd now (fc (fitB S step cell) c) (nI c)) (by omega) (by omega) (by
        intro e he hf
        by_cases ec : e = c
        · subst ec; rw [upd_s, upd_s]; exact ⟨rfl, rfl⟩
        · rw [upd_n _ _ (hlow e (by omega) hf), upd_n _ _ (hlow e (by omega) hf)]
          exact hI e (by omega) hf)
      refine ⟨fit', now', ?_, e2⟩
      rw [← e1, fc_1 h]
      conv => lhs; unfold fX3_findFits_L7
      rw [if_neg hlt, isFit_s (by omega) hS hst, Option.bind_some, if_neg (fun z => absurd h (b2i_0.mp z)), if_pos hbi, if_pos hbi, hcl, nI_1, nI_1]
    · obtain ⟨fit', now', e1, e2⟩ := ih (c + 1) n fit now (by omega) (by omega) (by
        intro e he hf
        by_cases ec : e = c
        · subst ec; exact absurd hf h
        · exact hI e (by omega) hf)
      refine ⟨fit', now', ?_, e2⟩
      rw [← e1, fc_0 h]
      conv => lhs; unfold fX3_findFits_L7
      rw [if_neg hlt, isFit_s (by omega) hS hst, Option.bind_some, if_pos (b2i_0.mpr h), nI_1]
