set_option maxRecDepth 100000
/-- zeros in forty-five places -/
theorem fill_s (v : Int32) : ∀ (d i n : Nat) (a : Nat → Int32), i + d = 45 → d < n → (∀ c, c < i → a c = v) → ∃ a' : Nat → Int32, fJ1_fill_2_L5 v n (nI i) 45 a = some a' ∧ ∀ c, c < 45 → a' c = v := by
  intro d
  induction d with
  | zero =>
    intro i n a hi hn h
    obtain ⟨n, rfl⟩ : ∃ m, n = m + 1 := ⟨n - 1, by omega⟩
    obtain rfl : i = 45 := by omega
    refine ⟨a, ?_, h⟩
    unfold fJ1_fill_2_L5
    rw [if_pos (show (45 : Int32) ≤ nI 45 by decide)]
  | succ d ih =>
    intro i n a hi hn h
    obtain ⟨n, rfl⟩ : ∃ m, n = m + 1 := ⟨n - 1, by omega⟩
    obtain ⟨a', e1, e2⟩ := ih (i + 1) n (upd a i v) (by omega) (by omega) (fun c hc => by
      by_cases e : c = i
      · subst e; rw [upd_s]
      · rw [upd_n _ _ e]; exact h c (by omega))
    refine ⟨a', ?_, e2⟩
    rw [← e1]
    conv => lhs; unfold fJ1_fill_2_L5
    rw [if_neg (show ¬ (45 : Int32) ≤ nI i from nI_ge (a := i) (b := 45) (by omega) (by decide)), if_pos (bIn_nI (k := i) (n := 45) (by omega) (by decide)), nI_clamp (by omega), nI_1]
theorem fill_2 (v : Int32) (a : Nat → Int32) : ∃ a' : Nat → Int32, fJ1_fill_2 v a = some a' ∧ ∀ c, c < 45 → a' c = v := by
  obtain ⟨a', e1, e2⟩ := fill_s v 45 0 FU a (by omega) (by have : FU = 200000 := rfl; omega) (fun c h => absurd h (by omega))
  exact ⟨a', by unfold fJ1_fill_2; rw [← e1]; rfl, e2⟩
theorem most0 (F : Int32) (now : Nat → Int32) : ∀ (d i n : Nat) (a : Nat → Int32), i + d = 45 → d < n → (∀ c, c < i → a c = 0) → ∃ a' : Nat → Int32, fX3_mostNow_L4 F n 0 (nI i) now a = fX3_mostNow_L25 F FU 0 0 now a' ∧ ∀ c, c < 45 → a' c = 0 := by
  intro d
  induction d with
  | zero =>
    intro i n a hi hn h
    obtain ⟨n, rfl⟩ : ∃ m, n = m + 1 := ⟨n - 1, by omega⟩
    obtain rfl : i = 45 := by omega
    refine ⟨a, ?_, h⟩
    conv => lhs; unfold fX3_mostNow_L4
    rw [if_pos (show (45 : Int32) ≤ nI 45 by decide)]
  | succ d ih =>
    intro i n a hi hn h
    obtain ⟨n, rfl⟩ : ∃ m, n = m + 1 := ⟨n - 1, by omega⟩
    obtain ⟨a', e1, e2⟩ := ih (i + 1) n (upd a i 0) (by omega) (by omega) (fun c hc => by
      by_cases e : c = i
      · subst e; rw [upd_s]
      · rw [upd_n _ _ e]; exact h c (by omega))
    refine ⟨a', ?_, e2⟩
    rw [← e1]
    conv => lhs; unfold fX3_mostNow_L4
    rw [if_neg (show ¬ (45 : Int32) ≤ nI i from nI_ge (a := i) (b := 45) (by omega) (by decide)), if_pos (bIn_nI (k := i) (n := 45) (by omega) (by decide)), nI_clamp (by omega), nI_1]
