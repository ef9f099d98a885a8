set_option maxRecDepth 100000
/-! PURE: a nap, in both worlds -/
def NInv (col b : Nat) (w : Nat → Nat) (C : Nat → Int32) : Prop := ∀ i, i < 3 → (C i = -6 ∧ w i = 9) ∨ ∃ k, k < 45 ∧ C i = nI k ∧ (k % 9 = w i ∨ (k % 9 ≤ w i ∧ (w i < col ∨ (w i = col ∧ i < b))))
theorem rem9 {k : Nat} (hk : k < 2 ^ 31) : nI k - nI k / 9 * 9 = nI (k % 9) := pk_rem (d := 9) hk (by decide) (by decide)
theorem sub1 {k : Nat} (h : 1 ≤ k) : nI k - 1 = nI (k - 1) := pk_sub (a := k) (b := 1) h
theorem nI_lt0 {k : Nat} (hk : k < 2 ^ 31) : ¬ nI k < 0 := nI_pos hk
theorem bo_neg {c : Int32} {cells : Nat → Int32} (h : bo c cells < 0) : ∀ b, b < 3 → ¬ cells b = c := by
  rcases bo_cases c cells with ⟨b, hb, e, -⟩ | ⟨-, e⟩
  · rw [e] at h; exact absurd h (nI_pos (by omega))
  · exact e
theorem L58_0 (k2 : Int32 → (Nat → Int32) → Option (Nat → Int32)) (k10 : Int32 → Int32 → (Nat → Int32) → Option (Nat → Int32)) (v1 : Int32) {b : Nat} (hb : b < 3) (cells : Nat → Int32) : fX1_nap_L58 k2 k10 v1 (nI b) (cells b) 0 cells = k10 v1 (nI (b + 1)) cells := by
  unfold fX1_nap_L58
  rw [if_pos rfl, if_pos (bIn_nI (k := b) (n := 3) hb (by decide)), nI_clamp (by omega), upd_self, nI_1]
theorem L58_1 (k2 : Int32 → (Nat → Int32) → Option (Nat → Int32)) (k10 : Int32 → Int32 → (Nat → Int32) → Option (Nat → Int32)) (v1 : Int32) {b : Nat} (hb : b < 3) (cells : Nat → Int32) : fX1_nap_L58 k2 k10 v1 (nI b) (cells b) 1 cells = k10 v1 (nI (b + 1)) (upd cells b (cells b - 1)) := by
  unfold fX1_nap_L58
  rw [if_neg (by decide), if_pos (bIn_nI (k := b) (n := 3) hb (by decide)), nI_clamp (by omega), nI_1]
theorem nap_step {col b : Nat} (hcol : col ≤ 8) (hb : b < 3) {w : Nat → Nat} (hw : ∀ i, i < 3 → w i ≤ 9) {Cx C : Nat → Int32} (he : ∀ i, i < 3 → Cx i = C i) (hok : OkC Cx) (hI : NInv col b w Cx) :
    ∃ Cx' C' : Nat → Int32, (∀ i, i < 3 → Cx' i = C' i) ∧ OkC Cx' ∧ NInv col (b + 1) w Cx' ∧ (col = 0 → Cx' = Cx) ∧
      (∀ k2 n, 1 ≤ col → fX1_nap_L10 k2 (n + 1) (nI col) (nI b) Cx = fX1_nap_L10 k2 n (nI col) (nI (b + 1)) Cx') ∧
      (∀ were : Nat → Int32, (∀ i, i < 3 → were i = nI (w i)) → ∀ k2 n, fX3_nap_L38 k2 (n + 1) (nI col) (nI b) C were = fX3_nap_L38 k2 n (nI col) (nI (b + 1)) C' were) := by
  have hbi : bIn (nI b) 3 := bIn_nI (by omega) (by decide)
  have hcl : (nI b).toNatClampNeg = b := nI_clamp (by omega)
  have h3 : ¬ (3 : Int32) ≤ nI b := nI_ge (a := b) (b := 3) (by omega) (by decide)
  have hIw : ∀ Cx', (∀ i, i < 3 → i ≠ b → Cx' i = Cx i) → ((Cx' b = -6 ∧ w b = 9) ∨ ∃ k, k < 45 ∧ Cx' b = nI k ∧ (k % 9 = w b ∨ (k % 9 ≤ w b ∧ (w b < col ∨ (w b = col ∧ b < b + 1))))) → NInv col (b + 1) w Cx' := by
    intro Cx' h1 h2 i hi
    by_cases e : i = b
    · subst e; exact h2
    · rw [h1 i hi e]
      rcases hI i hi with q | ⟨k, q1, q2, q3⟩
      · exact Or.inl q
      · refine Or.inr ⟨k, q1, q2, ?_⟩
        rcases q3 with q | ⟨q, r | r⟩
        · exact Or.inl q
        · exact Or.inr ⟨q, Or.inl r⟩
        · exact Or.inr ⟨q, Or.inr ⟨r.1, by omega⟩⟩
  have hM0 : ∀ were : Nat → Int32, (∀ i, i < 3 → were i = nI (w i)) → ∀ k2 n, ¬ w b = col → fX3_nap_L38 k2 (n + 1) (nI col) (nI b) C were = fX3_nap_L38 k2 n (nI col) (nI (b + 1)) C were := by
    intro were hww k2 n hne
    conv => lhs; unfold fX3_nap_L38
    rw [if_neg h3, if_pos hbi, hcl, hww b hb, if_neg (fun z => hne ((nI_eq (by have := hw b hb; omega) (by omega)).mp z)), nI_1]
  rcases hI b hb with ⟨q1, q2⟩ | ⟨k, hk, q2, q3⟩
  · -- it is down
    refine ⟨Cx, C, he, hok, hIw Cx (fun _ _ _ => rfl) (Or.inl ⟨q1, q2⟩), fun _ => rfl, fun k2 n _ => ?_, fun were hww k2 n => hM0 were hww k2 n (by omega)⟩
    conv => lhs; unfold fX1_nap_L10
    rw [if_neg h3, if_pos hbi]
    simp only [hcl]
    rw [if_pos (by rw [q1]; decide), L58_0 _ _ _ hb]
  · have hr : Cx b - Cx b / 9 * 9 = nI (k % 9) := by rw [q2]; exact rem9 (by omega)
    have h0 : ¬ Cx b < 0 := by rw [q2]; exact nI_pos (by omega)
    by_cases hwc : w b = col
    · have hkc : k % 9 = col := by
        rcases q3 with q | ⟨q, r | r⟩
        · omega
        · omega
        · omega
      have hCb : C b = nI k := (he b hb).symm.trans q2
      by_cases hc0 : col = 0
      · refine ⟨Cx, C, he, hok, hIw Cx (fun _ _ _ => rfl) (Or.inr ⟨k, hk, q2, Or.inr ⟨by omega, Or.inr ⟨hwc, by omega⟩⟩⟩), fun _ => rfl, fun k2 n h => absurd h (by omega), fun were hww k2 n => ?_⟩
        conv => lhs; unfold fX3_nap_L38
        rw [if_neg h3, if_pos hbi, hcl, hww b hb, if_pos (by rw [hwc])]
        unfold fX3_drift
        simp only [if_pos hbi, hcl, hCb]
        rw [if_neg (nI_pos (by omega)), rem9 (by omega), if_pos (by rw [hkc, hc0]; decide)]
        simp only [Option.bind_some, nI_1]
      · have hk1 : 1 ≤ k := by omega
        have hs1 : nI k - 1 = nI (k - 1) := sub1 hk1
        have hX : ∀ k2 n, fX1_nap_L10 k2 (n + 1) (nI col) (nI b) Cx = (if fX0_isPocket (nI (k - 1)) = 0 then (if 0 ≤ bo (nI (k - 1)) Cx then fX1_nap_L10 k2 n (nI col) (nI (b + 1)) Cx else fX1_nap_L10 k2 n (nI col) (nI (b + 1)) (upd Cx b (nI (k - 1)))) else fX1_nap_L10 k2 n (nI col) (nI (b + 1)) Cx) := by
          intro k2 n
          conv => lhs; unfold fX1_nap_L10
          rw [if_neg h3, if_pos hbi]
          simp only [hcl]
          rw [if_neg h0, if_pos (by rw [hr, hkc])]
          simp only [X1_ballOn, Option.bind_some]
          rw [L58_0 _ _ _ hb, L58_1 _ _ _ hb, q2, hs1]
        have hM : ∀ were : Nat → Int32, (∀ i, i < 3 → were i = nI (w i)) → ∀ k2 n, fX3_nap_L38 k2 (n + 1) (nI col) (nI b) C were = (if fX0_isPocket (nI (k - 1)) = 0 then (if 0 ≤ bo (nI (k - 1)) Cx then fX3_nap_L38 k2 n (nI col) (nI (b + 1)) C were else fX3_nap_L38 k2 n (nI col) (nI (b + 1)) (upd C b (nI (k - 1))) were) else fX3_nap_L38 k2 n (nI col) (nI (b + 1)) C were) := by
          intro were hww k2 n
          conv => lhs; unfold fX3_nap_L38
          rw [if_neg h3, if_pos hbi, hcl, hww b hb, if_pos (by rw [hwc])]
          unfold fX3_drift
          simp only [if_pos hbi, hcl, hCb]
          rw [if_neg (nI_pos (by omega)), rem9 (by omega), hkc, if_neg (nI_nle (by omega) (by omega)), hs1, isPocket_eq]
          simp only [X3_ballOn, bo_eq he hok (nI_n6 (k := k - 1) (by omega)), Option.bind_some, nI_1]
          by_cases z1 : fX0_isPocket (nI (k - 1)) = 0
          · by_cases z2 : 0 ≤ bo (nI (k - 1)) Cx
            · simp only [if_pos z1, if_pos z2, Option.bind_some]
            · simp only [if_pos z1, if_neg z2, Option.bind_some]
          · simp only [if_neg z1, Option.bind_some]
        by_cases z1 : fX0_isPocket (nI (k - 1)) = 0
        · by_cases z2 : 0 ≤ bo (nI (k - 1)) Cx
          · refine ⟨Cx, C, he, hok, hIw Cx (fun _ _ _ => rfl) (Or.inr ⟨k, hk, q2, Or.inl (by omega)⟩), fun _ => rfl, fun k2 n _ => ?_, fun were hww k2 n => ?_⟩
            · rw [hX, if_pos z1, if_pos z2]
            · rw [hM were hww, if_pos z1, if_pos z2]
          · refine ⟨upd Cx b (nI (k - 1)), upd C b (nI (k - 1)), upd_eq he, OkC_upd hok hb (Or.inr ⟨openC_ta (by omega) z1, fun i hi _ => bo_neg (i_nle.mp z2) i hi⟩), hIw _ (fun i _ h => upd_n _ _ h) (Or.inr ⟨k - 1, by omega, upd_s _ _ _, Or.inr ⟨by omega, Or.inr ⟨hwc, by omega⟩⟩⟩), fun h => absurd h hc0, fun k2 n _ => ?_, fun were hww k2 n => ?_⟩
            · rw [hX, if_pos z1, if_neg z2]
            · rw [hM were hww, if_pos z1, if_neg z2]
        · refine ⟨Cx, C, he, hok, hIw Cx (fun _ _ _ => rfl) (Or.inr ⟨k, hk, q2, Or.inl (by omega)⟩), fun _ => rfl, fun k2 n _ => ?_, fun were hww k2 n => ?_⟩
          · rw [hX, if_neg z1]
          · rw [hM were hww, if_neg z1]
    · refine ⟨Cx, C, he, hok, hIw Cx (fun _ _ _ => rfl) (Or.inr ⟨k, hk, q2, ?_⟩), fun _ => rfl, fun k2 n _ => ?_, fun were hww k2 n => hM0 were hww k2 n hwc⟩
      · rcases q3 with q | ⟨q, r | r⟩
        · exact Or.inl q
        · exact Or.inr ⟨q, Or.inl r⟩
        · exact Or.inr ⟨q, Or.inr ⟨r.1, by omega⟩⟩
      · conv => lhs; unfold fX1_nap_L10
        rw [if_neg h3, if_pos hbi]
        simp only [hcl]
        have hne : ¬ nI (k % 9) = nI col := fun z => by
          have := (nI_eq (by omega) (by omega)).mp z
          rcases q3 with q | ⟨q, r | r⟩ <;> omega
        rw [if_neg h0, if_neg (by rw [hr]; exact hne), L58_0 _ _ _ hb]
theorem nap_in {col : Nat} (hcol : col ≤ 8) {w : Nat → Nat} (hw : ∀ i, i < 3 → w i ≤ 9) {Cx C : Nat → Int32} (he : ∀ i, i < 3 → Cx i = C i) (hok : OkC Cx) (hI : NInv col 0 w Cx) :
    ∃ Cx' C' : Nat → Int32, (∀ i, i < 3 → Cx' i = C' i) ∧ OkC Cx' ∧ NInv (col + 1) 0 w Cx' ∧ (col = 0 → Cx' = Cx) ∧
      (∀ k2, 1 ≤ col → fX1_nap_L10 k2 FU (nI col) 0 Cx = k2 (nI (col + 1)) Cx') ∧
      (∀ were : Nat → Int32, (∀ i, i < 3 → were i = nI (w i)) → ∀ k2, fX3_nap_L38 k2 FU (nI col) 0 C were = k2 (nI (col + 1)) C' were) := by
  obtain ⟨X1, C1, a1, a2, a3, a4, a5, a6⟩ := nap_step hcol (b := 0) (by decide) hw he hok hI
  obtain ⟨X2, C2, b1, b2, b3, b4, b5, b6⟩ := nap_step hcol (b := 1) (by decide) hw a1 a2 a3
  obtain ⟨X3, C3, c1, c2, c3, c4, c5, c6⟩ := nap_step hcol (b := 2) (by decide) hw b1 b2 b3
  obtain ⟨n, hn⟩ : ∃ n, FU = n + 1 + 1 + 1 + 1 := ⟨199996, rfl⟩
  refine ⟨X3, C3, c1, c2, ?_, fun h => (c4 h).trans ((b4 h).trans (a4 h)), fun k2 h => ?_, fun were hww k2 => ?_⟩
  · intro i hi
    rcases c3 i hi with q | ⟨k, q1, q2, q3⟩
    · exact Or.inl q
    · refine Or.inr ⟨k, q1, q2, ?_⟩
      rcases q3 with q | ⟨q, r⟩
      · exact Or.inl q
      · exact Or.inr ⟨q, Or.inl (by omega)⟩
  · rw [hn]
    refine (a5 k2 _ h).trans ((b5 k2 _ h).trans ((c5 k2 _ h).trans ?_))
    unfold fX1_nap_L10
    rw [if_pos (by decide), nI_1]
  · rw [hn]
    refine (a6 were hww k2 _).trans ((b6 were hww k2 _).trans ((c6 were hww k2 _).trans ?_))
    unfold fX3_nap_L38
    rw [if_pos (by decide), nI_1]
theorem nap_out {w : Nat → Nat} (hw : ∀ i, i < 3 → w i ≤ 9) : ∀ (d col : Nat), col + d = 9 → 1 ≤ col → ∀ (Cx C : Nat → Int32), (∀ i, i < 3 → Cx i = C i) → OkC Cx → NInv col 0 w Cx → ∃ Cx' C' : Nat → Int32, (∀ i, i < 3 → Cx' i = C' i) ∧ OkC Cx' ∧ (∀ n, d < n → fX1_nap_L2 n (nI col) Cx = some Cx') ∧ (∀ were : Nat → Int32, (∀ i, i < 3 → were i = nI (w i)) → ∀ n, d < n → fX3_nap_L30 n (nI col) C were = some (C', were)) := by
  intro d
  induction d with
  | zero =>
    intro col hc h1 Cx C he hok hI
    refine ⟨Cx, C, he, hok, fun n hn => ?_, fun were hww n hn => ?_⟩
    · obtain ⟨n, rfl⟩ : ∃ m, n = m + 1 := ⟨n - 1, by omega⟩
      unfold fX1_nap_L2
      rw [if_pos (show (9 : Int32) ≤ nI col from nI_le (a := 9) (b := col) (by omega) (by omega))]
    · obtain ⟨n, rfl⟩ : ∃ m, n = m + 1 := ⟨n - 1, by omega⟩
      unfold fX3_nap_L30
      rw [if_pos (show (9 : Int32) ≤ nI col from nI_le (a := 9) (b := col) (by omega) (by omega))]
  | succ d ih =>
    intro col hc h1 Cx C he hok hI
    obtain ⟨X1, C1, a1, a2, a3, -, a5, a6⟩ := nap_in (col := col) (by omega) hw he hok hI
    obtain ⟨X2, C2, b1, b2, b3, b4⟩ := ih (col + 1) (by omega) (by omega) X1 C1 a1 a2 a3
    have h9 : ¬ (9 : Int32) ≤ nI col := nI_ge (a := col) (b := 9) (by omega) (by decide)
    refine ⟨X2, C2, b1, b2, fun n hn => ?_, fun were hww n hn => ?_⟩
    · obtain ⟨n, rfl⟩ : ∃ m, n = m + 1 := ⟨n - 1, by omega⟩
      conv => lhs; unfold fX1_nap_L2
      rw [if_neg h9, a5 _ h1]
      exact b3 n (by omega)
    · obtain ⟨n, rfl⟩ : ∃ m, n = m + 1 := ⟨n - 1, by omega⟩
      conv => lhs; unfold fX3_nap_L30
      rw [if_neg h9, a6 were hww _]
      exact b4 were hww n (by omega)
theorem nap_eq {Cx C : Nat → Int32} (he : ∀ i, i < 3 → Cx i = C i) (hok : OkC Cx) : ∃ Cx' C' : Nat → Int32, (∀ i, i < 3 → Cx' i = C' i) ∧ OkC Cx' ∧ fX1_nap Cx = some Cx' ∧ ∀ were, ∃ were', fX3_nap C were = some (C', were') := by
  -- the columns
  have hcols : ∀ i, i < 3 → ∃ wi : Nat, wi ≤ 9 ∧ fX3_columnOf (C i) = nI wi ∧ ((Cx i = -6 ∧ wi = 9) ∨ ∃ k, k < 45 ∧ Cx i = nI k ∧ k % 9 = wi) := by
    intro i hi
    rw [← he i hi]
    rcases hok.1 i hi with q | q
    · exact ⟨9, by omega, by rw [q]; rfl, Or.inl ⟨q, rfl⟩⟩
    · obtain ⟨k, hk, e⟩ := cell_nI q
      refine ⟨k % 9, by omega, ?_, Or.inr ⟨k, hk, e, rfl⟩⟩
      rw [e]
      unfold fX3_columnOf
      rw [if_pos (nI_pos' (by omega)), rem9 (by omega)]
  obtain ⟨w0, l0, e0, f0⟩ := hcols 0 (by decide)
  obtain ⟨w1, l1, e1, f1⟩ := hcols 1 (by decide)
  obtain ⟨w2, l2, e2, f2⟩ := hcols 2 (by decide)
  have hI : NInv 0 0 (fun i => if i = 0 then w0 else if i = 1 then w1 else w2) Cx := by
    intro i hi
    have : i = 0 ∨ i = 1 ∨ i = 2 := by omega
    rcases this with rfl | rfl | rfl
    · rcases f0 with q | ⟨k, a, b, c⟩
      · exact Or.inl q
      · exact Or.inr ⟨k, a, b, Or.inl c⟩
    · rcases f1 with q | ⟨k, a, b, c⟩
      · exact Or.inl q
      · exact Or.inr ⟨k, a, b, Or.inl c⟩
    · rcases f2 with q | ⟨k, a, b, c⟩
      · exact Or.inl q
      · exact Or.inr ⟨k, a, b, Or.inl c⟩
  have hws : ∀ were : Nat → Int32, ∀ i, i < 3 → (upd (upd (upd were 0 (fX3_columnOf (C 0))) 1 (fX3_columnOf (C 1))) 2 (fX3_columnOf (C 2))) i = nI ((fun i => if i = 0 then w0 else if i = 1 then w1 else w2) i) := by
    intro were i hi
    have : i = 0 ∨ i = 1 ∨ i = 2 := by omega
    rcases this with rfl | rfl | rfl
    · rw [upd_n _ _ (by decide), upd_n _ _ (by decide), upd_s, e0]; rfl
    · rw [upd_n _ _ (by decide), upd_s, e1]; rfl
    · rw [upd_s, e2]; rfl
  have hw9 : ∀ i, i < 3 → ((fun i => if i = 0 then w0 else if i = 1 then w1 else w2) i) ≤ 9 := by
    intro i hi
    have : i = 0 ∨ i = 1 ∨ i = 2 := by omega
    rcases this with rfl | rfl | rfl
    · exact l0
    · exact l1
    · exact l2
  have h9 : 8 < FU := by decide
  obtain ⟨Y1, D1, y1, y2, y3, y4, -, y6⟩ := nap_in (col := 0) (by decide) hw9 he hok hI
  obtain ⟨X1, C1, x1, x2, x3, x4⟩ := nap_out hw9 8 1 (by decide) (by decide) Y1 D1 y1 y2 y3
  refine ⟨X1, C1, x1, x2, ?_, fun were => ?_⟩
  · have := x3 FU h9
    rw [y4 rfl] at this
    exact this
  · refine ⟨(upd (upd (upd were 0 (fX3_columnOf (C 0))) 1 (fX3_columnOf (C 1))) 2 (fX3_columnOf (C 2))), ?_⟩
    · unfold fX3_nap
      obtain ⟨n, hn⟩ : ∃ n, FU = n + 1 + 1 + 1 + 1 := ⟨199996, rfl⟩
      rw [hn]
      simp only [fX3_nap_L2, k012.1, k012.2.1, k012.2.2]
      simp only [if_neg (show ¬ (3 : Int32) ≤ 0 by decide), if_neg (show ¬ (3 : Int32) ≤ 1 by decide), if_neg (show ¬ (3 : Int32) ≤ 2 by decide), if_pos (show (3 : Int32) ≤ 3 by decide), if_pos (show bIn 0 3 by decide), if_pos (show bIn 1 3 by decide), if_pos (show bIn 2 3 by decide), cl012.1, cl012.2.1, cl012.2.2]
      have hFU : FU = 199999 + 1 := rfl
      have e : fX3_nap_L30 FU 0 C (upd (upd (upd were 0 (fX3_columnOf (C 0))) 1 (fX3_columnOf (C 1))) 2 (fX3_columnOf (C 2))) = some (C1, (upd (upd (upd were 0 (fX3_columnOf (C 0))) 1 (fX3_columnOf (C 1))) 2 (fX3_columnOf (C 2)))) := by
        rw [hFU]
        unfold fX3_nap_L30
        rw [if_neg (by decide)]
        refine (y6 _ (hws were) _).trans ?_
        exact x4 _ (hws were) 199999 (by decide)
      exact e
