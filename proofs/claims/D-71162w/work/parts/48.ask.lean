set_option maxRecDepth 100000
/-! PURE: ask -/
/-- the class's list of codes, and what follows it -/
theorem ask16 (v1 : Int32) {S : Nat} (hS : S ≤ 8) {step cell : Nat → Int32} (hst : ∀ i, i < 8 → 0 ≤ step i ∧ step i ≤ 60) (by0 : Nat → Int32) : ∀ (d c n : Nat) (fit : Nat → Int32), c + d = 450 → d < n → (∀ e, e < c → fitB S step cell e = true → fit (fc (fitB S step cell) e) = nI e) → ∀ r cc dd ii q : Int32, ∃ (fit' : Nat → Int32) (r' c' d' i' q' : Int32), fX0_ask_L16 v1 (nI S) step cell n (nI (fc (fitB S step cell) c)) (nI c) r cc dd ii q fit by0 = fX0_ask_L57 v1 (nI S) step cell FU (nI (fc (fitB S step cell) 450)) (-6) 1000000 0 r' c' d' i' q' fit' by0 ∧ ∀ e, e < 450 → fitB S step cell e = true → fit' (fc (fitB S step cell) e) = nI e := by
  intro d
  induction d with
  | zero =>
    intro c n fit hc hn hI r cc dd ii q
    obtain ⟨n, rfl⟩ : ∃ m, n = m + 1 := ⟨n - 1, by omega⟩
    obtain rfl : c = 450 := by omega
    refine ⟨fit, r, cc, dd, ii, q, ?_, hI⟩
    conv => lhs; unfold fX0_ask_L16
    rw [if_pos (show (450 : Int32) ≤ nI 450 by decide)]
  | succ d ih =>
    intro c n fit hc hn hI r cc dd ii q
    obtain ⟨n, rfl⟩ : ∃ m, n = m + 1 := ⟨n - 1, by omega⟩
    have hlt : ¬ (450 : Int32) ≤ nI c := nI_ge (a := c) (b := 450) (by omega) (by decide)
    obtain ⟨r1, c1, d1, i1, q1, e⟩ := canBe_s (c := c) (by omega) hS hst (cell := cell) r cc dd ii q
    by_cases h : fitB S step cell c = true
    · have h360 := fc_360 (by omega) h
      have hbi : bIn (nI (fc (fitB S step cell) c)) 450 := bIn_nI (by omega) (by decide)
      have hcl : (nI (fc (fitB S step cell) c)).toNatClampNeg = fc (fitB S step cell) c := nI_clamp (by omega)
      have hlow : ∀ e, e < c → fitB S step cell e = true → fc (fitB S step cell) e ≠ fc (fitB S step cell) c := by
        intro e he hf
        have h1 := fc_1 hf
        have h2 := fc_le (fitB S step cell) (c - (e + 1)) (e + 1)
        rw [show e + 1 + (c - (e + 1)) = c by omega] at h2
        omega
      obtain ⟨fit', r', c', d', i', q', e1, e2⟩ := ih (c + 1) n (upd fit (fc (fitB S step cell) c) (nI c)) (by omega) (by omega) (by
        intro e he hf
        by_cases ec : e = c
        · subst ec; rw [upd_s]
        · rw [upd_n _ _ (hlow e (by omega) hf)]
          exact hI e (by omega) hf) r1 c1 d1 i1 q1
      refine ⟨fit', r', c', d', i', q', ?_, e2⟩
      rw [← e1, fc_1 h]
      conv => lhs; unfold fX0_ask_L16
      rw [if_neg hlt, e, Option.bind_some, if_neg (fun z => absurd h (b2i_0.mp z)), if_pos hbi, hcl, nI_1, nI_1]
    · obtain ⟨fit', r', c', d', i', q', e1, e2⟩ := ih (c + 1) n fit (by omega) (by omega) (by
        intro e he hf
        by_cases ec : e = c
        · subst ec; exact absurd hf h
        · exact hI e (by omega) hf) r1 c1 d1 i1 q1
      refine ⟨fit', r', c', d', i', q', ?_, e2⟩
      rw [← e1, fc_0 h]
      conv => lhs; unfold fX0_ask_L16
      rw [if_neg hlt, e, Option.bind_some, if_pos (b2i_0.mpr h), nI_1]
/-- one more in a cell, the most of all -/
def bump (w : Int32) (by0 : Nat → Int32) (c : Nat) : Int32 × (Nat → Int32) := (if w < by0 c + 1 then by0 c + 1 else w, upd by0 c (by0 c + 1))
