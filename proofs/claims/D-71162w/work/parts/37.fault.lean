set_option maxRecDepth 100000
/-! PURE: the pad, read in both worlds -/
/-- signs p .. p' are the act (a, w, h, f) -/
def AOv (sign : Nat → Int32) (a w h f : Int32) (p p' : Nat) : Prop :=
  (a = 0 ∧ p' = p + 3 ∧ ∃ b j g : Nat, b < 3 ∧ j < 8 ∧ 1 ≤ g ∧ g ≤ 9 ∧ w = nI b ∧ h = nI j ∧ f = nI g ∧ sign p = nI (65 + b) ∧ sign (p + 1) = nI (48 + j) ∧ sign (p + 2) = nI (48 + g)) ∨
  (a = 1 ∧ p' = p + 2 ∧ ∃ b : Nat, b < 3 ∧ w = nI b ∧ sign p = nI (65 + b) ∧ sign (p + 1) = 94) ∨
  (a = 2 ∧ p' = p + 1 ∧ w = 0 ∧ sign p = 126) ∨ (a = 3 ∧ p' = p + 1 ∧ w = 0 ∧ sign p = 46)
def Acts (sign act which whither hard : Nat → Int32) (q : Nat → Nat) (e : Nat) : Prop := q 0 = 0 ∧ e ≤ q e ∧ ∀ i, i < e → AOv sign (act i) (which i) (whither i) (hard i) (q i) (q (i + 1))
theorem Acts_upd {sign act which whither hard act' which' whither' hard' : Nat → Int32} {q : Nat → Nat} {e : Nat} (h : Acts sign act which whither hard q e) (h1 : ∀ i, i < e → act' i = act i) (h2 : ∀ i, i < e → which' i = which i) (h3 : ∀ i, i < e → whither' i = whither i) (h4 : ∀ i, i < e → hard' i = hard i) : Acts sign act' which' whither' hard' q e :=
  ⟨h.1, h.2.1, fun i hi => by rw [h1 i hi, h2 i hi, h3 i hi, h4 i hi]; exact h.2.2 i hi⟩
theorem Acts_add {sign act which whither hard : Nat → Int32} {q : Nat → Nat} {e p : Nat} (h : Acts sign act which whither hard q e) (ha : AOv sign (act e) (which e) (whither e) (hard e) (q e) p) (hp : q e < p) : ∃ q' : Nat → Nat, Acts sign act which whither hard q' (e + 1) ∧ q' (e + 1) = p := by
  refine ⟨fun i => if i ≤ e then q i else p, ⟨by simp only [Nat.zero_le, if_true]; exact h.1, ?_, fun i hi => ?_⟩, ?_⟩
  · show e + 1 ≤ if e + 1 ≤ e then q (e + 1) else p
    rw [if_neg (by omega)]
    have := h.2.1
    omega
  · show AOv sign _ _ _ _ (if i ≤ e then q i else p) (if i + 1 ≤ e then q (i + 1) else p)
    rw [if_pos (by omega)]
    by_cases e1 : i = e
    · subst e1
      rw [if_neg (by omega)]
      exact ha
    · rw [if_pos (by omega)]
      exact h.2.2 i (by omega)
  · show (if e + 1 ≤ e then q (e + 1) else p) = p
    rw [if_neg (by omega)]
theorem in_range (v : Int32) {lo hi : Int32} {l d : Nat} (hlo : lo = nI l) (hhi : hi = nI (l + d)) (hl : l + d < 1000) (h : ¬ fX0_isIn v lo hi = 0) : ∃ b : Nat, b ≤ d ∧ v = nI (l + b) := by
  obtain ⟨a, b⟩ := isIn_ne h
  have h0 : ¬ v < 0 := fun z => by
    have : lo < 0 := Int32.lt_of_le_of_lt a z
    rw [hlo] at this
    exact nI_pos (by omega) this
  obtain ⟨k, hk, e⟩ := nI_of h0
  subst e
  rw [hlo] at a
  rw [hhi] at b
  have a' := (nI_leI (by omega) hk).mp a
  have b' := (nI_leI hk (by omega)).mp b
  exact ⟨k - l, by omega, by congr 1; omega⟩
theorem isIn_65 (c : Int32) : fX0_isIn (c - 65) 0 2 = fX0_isIn c 65 67 := by
  by_cases h : fX0_isIn (c - 65) 0 2 = 0
  · by_cases h2 : fX0_isIn c 65 67 = 0
    · rw [h, h2]
    · exfalso
      obtain ⟨b, hb, e⟩ := in_range c (l := 65) (d := 2) rfl rfl (by decide) h2
      subst e
      have : ∀ b, b ≤ 2 → ¬ fX0_isIn (nI (65 + b) - 65) 0 2 = 0 := by decide
      exact this b hb h
  · obtain ⟨k, hk, e⟩ := isIn_nI (n := 2) rfl h
    have e : c = nI k + 65 := by rw [← e]; exact (Int32.sub_add_cancel c 65).symm
    subst e
    have : ∀ k, k ≤ 2 → fX0_isIn (nI k + 65 - 65) 0 2 = fX0_isIn (nI k + 65) 65 67 := by decide
    exact this k hk
theorem upd_o {f : Nat → Int32} {e : Nat} {x : Int32} : ∀ i, i < e → upd f e x i = f i := fun i hi => upd_n _ _ (by omega)
theorem close_s (v : Int32) (act : Nat → Int32) {e : Nat} (he : e < 60) : fX3_close v act (nI e) = some (0, upd act e v, nI (e + 1)) := by
  unfold fX3_close
  rw [if_pos (bIn_nI (k := e) (n := 60) he (by decide)), nI_clamp (by omega), nI_1]
/-- what the pad's reader knows at sign i -/
def FInv (sign act which whither hard : Nat → Int32) (q : Nat → Nat) (e i : Nat) (due : Int32) : Prop := Acts sign act which whither hard q e ∧
  ((due = 0 ∧ q e = i) ∨ (due = 1 ∧ q e + 1 = i ∧ ∃ b : Nat, b < 3 ∧ which e = nI b ∧ sign (q e) = nI (65 + b)) ∨ (due = 2 ∧ q e + 2 = i ∧ ∃ b j : Nat, b < 3 ∧ j < 8 ∧ which e = nI b ∧ whither e = nI j ∧ sign (q e) = nI (65 + b) ∧ sign (q e + 1) = nI (48 + j)))
set_option maxHeartbeats 4000000 in
theorem fault_sim {sign pad : Nat → Int32} (hs : ∀ i, i < 60 → sign i = pad i) {K : Nat} (hK : K ≤ 60) : ∀ (d i e : Nat) (due : Int32) (act which whither hard : Nat → Int32) (q : Nat → Nat), i + d = K → FInv sign act which whither hard q e i due →
    ∃ (r : Int32) (act' which' whither' hard' : Nat → Int32) (N : Nat), (∀ n, d < n → fX0_faultOf_L4 (nI K) sign n due (nI i) = some r) ∧ (∀ n, d < n → fX3_fault_L9 pad (nI K) n due (nI i) act which whither hard (nI e) = some (r, act', which', whither', hard', nI N)) ∧ (0 ≤ r ∨ (r = -6 ∧ ∃ q', Acts sign act' which' whither' hard' q' N ∧ q' N = K)) := by
  intro d
  induction d with
  | zero =>
    intro i e due act which whither hard q hi hI
    have hle : nI K ≤ nI i := nI_le (by omega) (by omega)
    by_cases hd : due = 0
    · refine ⟨-6, act, which, whither, hard, e, fun n hn => ?_, fun n hn => ?_, Or.inr ⟨rfl, q, hI.1, ?_⟩⟩
      · obtain ⟨n, rfl⟩ : ∃ m, n = m + 1 := ⟨n - 1, by omega⟩
        unfold fX0_faultOf_L4
        rw [if_pos hle, if_pos hd]
      · obtain ⟨n, rfl⟩ : ∃ m, n = m + 1 := ⟨n - 1, by omega⟩
        unfold fX3_fault_L9
        rw [if_pos hle, if_pos hd]
      · rcases hI.2 with h | h | h
        · omega
        · exact absurd (h.1.symm.trans hd) (by decide)
        · exact absurd (h.1.symm.trans hd) (by decide)
    · refine ⟨nI K, act, which, whither, hard, e, fun n hn => ?_, fun n hn => ?_, Or.inl (nI_pos' (by omega))⟩
      · obtain ⟨n, rfl⟩ : ∃ m, n = m + 1 := ⟨n - 1, by omega⟩
        unfold fX0_faultOf_L4
        rw [if_pos hle, if_neg hd]
      · obtain ⟨n, rfl⟩ : ∃ m, n = m + 1 := ⟨n - 1, by omega⟩
        unfold fX3_fault_L9
        rw [if_pos hle, if_neg hd]
  | succ d ih =>
    intro i e due act which whither hard q hi hI
    have hlt : ¬ nI K ≤ nI i := nI_ge (by omega) (by omega)
    have hbi : bIn (nI i) 60 := bIn_nI (by omega) (by decide)
    have hcl : (nI i).toNatClampNeg = i := nI_clamp (by omega)
    have hei : e < 60 := by
      have := hI.1.2.1
      rcases hI.2 with h | h | h <;> omega
    have hbe : bIn (nI e) 60 := bIn_nI hei (by decide)
    have hce : (nI e).toNatClampNeg = e := nI_clamp (by omega)
    have hpad : pad i = sign i := (hs i (by omega)).symm
    -- how both loops go on
    have goX : ∀ n due', fX0_step due (sign i) = due' → 0 ≤ due' → fX0_faultOf_L4 (nI K) sign (n + 1) due (nI i) = fX0_faultOf_L4 (nI K) sign n due' (nI (i + 1)) := by
      intro n due' h1 h2
      conv => lhs; unfold fX0_faultOf_L4
      rw [if_neg hlt, if_pos hbi, hcl, h1, if_pos h2, nI_1]
    have noX : ∀ n, fX0_step due (sign i) = -6 → fX0_faultOf_L4 (nI K) sign (n + 1) due (nI i) = some (nI i) := by
      intro n h1
      conv => lhs; unfold fX0_faultOf_L4
      rw [if_neg hlt, if_pos hbi, hcl, h1, if_neg (by decide)]
    have goM : ∀ n due' a' w' h' f' (e' : Nat), fX3_readOn due (sign i) act which whither hard (nI e) = some (due', a', w', h', f', nI e') → 0 ≤ due' → fX3_fault_L9 pad (nI K) (n + 1) due (nI i) act which whither hard (nI e) = fX3_fault_L9 pad (nI K) n due' (nI (i + 1)) a' w' h' f' (nI e') := by
      intro n due' a' w' h' f' e' h1 h2
      conv => lhs; unfold fX3_fault_L9
      rw [if_neg hlt, if_pos hbi, hcl, hpad, h1]
      simp only [Option.bind_some]
      rw [if_pos h2, nI_1]
    have noM : ∀ n a' w' h' f' (e' : Nat), fX3_readOn due (sign i) act which whither hard (nI e) = some (-6, a', w', h', f', nI e') → fX3_fault_L9 pad (nI K) (n + 1) due (nI i) act which whither hard (nI e) = some (nI i, a', w', h', f', nI e') := by
      intro n a' w' h' f' e' h1
      conv => lhs; unfold fX3_fault_L9
      rw [if_neg hlt, if_pos hbi, hcl, hpad, h1]
      simp only [Option.bind_some]
      rw [if_neg (by decide)]
    have step : ∀ due' a' w' h' f' (e' : Nat) (q' : Nat → Nat), fX0_step due (sign i) = due' → 0 ≤ due' → fX3_readOn due (sign i) act which whither hard (nI e) = some (due', a', w', h', f', nI e') → FInv sign a' w' h' f' q' e' (i + 1) due' → ∃ (r : Int32) (act' which' whither' hard' : Nat → Int32) (N : Nat), (∀ n, d + 1 < n → fX0_faultOf_L4 (nI K) sign n due (nI i) = some r) ∧ (∀ n, d + 1 < n → fX3_fault_L9 pad (nI K) n due (nI i) act which whither hard (nI e) = some (r, act', which', whither', hard', nI N)) ∧ (0 ≤ r ∨ (r = -6 ∧ ∃ q', Acts sign act' which' whither' hard' q' N ∧ q' N = K)) := by
      intro due' a' w' h' f' e' q' h1 h2 h3 h4
      obtain ⟨r, A, B, C, D, N, x1, x2, x3⟩ := ih (i + 1) e' due' a' w' h' f' q' (by omega) h4
      refine ⟨r, A, B, C, D, N, fun n hn => ?_, fun n hn => ?_, x3⟩
      · obtain ⟨n, rfl⟩ : ∃ m, n = m + 1 := ⟨n - 1, by omega⟩
        rw [goX n due' h1 h2]
        exact x1 n (by omega)
      · obtain ⟨n, rfl⟩ : ∃ m, n = m + 1 := ⟨n - 1, by omega⟩
        rw [goM n due' a' w' h' f' e' h3 h2]
        exact x2 n (by omega)
    have stop : ∀ a' w' h' f' (e' : Nat), fX0_step due (sign i) = -6 → fX3_readOn due (sign i) act which whither hard (nI e) = some (-6, a', w', h', f', nI e') → ∃ (r : Int32) (act' which' whither' hard' : Nat → Int32) (N : Nat), (∀ n, d + 1 < n → fX0_faultOf_L4 (nI K) sign n due (nI i) = some r) ∧ (∀ n, d + 1 < n → fX3_fault_L9 pad (nI K) n due (nI i) act which whither hard (nI e) = some (r, act', which', whither', hard', nI N)) ∧ (0 ≤ r ∨ (r = -6 ∧ ∃ q', Acts sign act' which' whither' hard' q' N ∧ q' N = K)) := by
      intro a' w' h' f' e' h1 h3
      refine ⟨nI i, a', w', h', f', e', fun n hn => ?_, fun n hn => ?_, Or.inl (nI_pos' (by omega))⟩
      · obtain ⟨n, rfl⟩ : ∃ m, n = m + 1 := ⟨n - 1, by omega⟩
        exact noX n h1
      · obtain ⟨n, rfl⟩ : ∃ m, n = m + 1 := ⟨n - 1, by omega⟩
        exact noM n a' w' h' f' e' h3
    generalize hc : sign i = c at *
    rcases hI with ⟨hA, ⟨rfl, hq⟩ | ⟨rfl, hq, b, hb, hw, hsb⟩ | ⟨rfl, hq, b, j, hb, hj, hw, hh, hsb, hsj⟩⟩
    · -- an act begins
      have hM : fX3_readOn 0 c act which whither hard (nI e) = fX3_begin c act which whither hard (nI e) := by
        unfold fX3_readOn
        rw [if_pos rfl]
        cases fX3_begin c act which whither hard (nI e) <;> rfl
      have hin : fX3_in c.toInt64 65 67 = fX0_isIn c 65 67 := in0 c 65 67 (by decide) (by decide)
      have hX : fX0_step 0 c = if fX0_isIn c 65 67 = 0 then (if c = 126 then 0 else if c = 46 then 0 else -6) else 1 := by
        unfold fX0_step
        rw [if_pos rfl]
        have : fX0_isBall (c - 65) = fX0_isIn c 65 67 := isIn_65 c
        rw [this]
      by_cases z : fX0_isIn c 65 67 = 0
      · rw [if_pos z] at hX
        have hB : fX3_begin c act which whither hard (nI e) = if c = 126 then some (0, upd act e 2, upd which e 0, upd whither e 0, upd hard e 0, nI (e + 1)) else if c = 46 then some (0, upd act e 3, upd which e 0, upd whither e 0, upd hard e 0, nI (e + 1)) else some (-6, act, upd which e 0, upd whither e 0, upd hard e 0, nI e) := by
          unfold fX3_begin
          rw [hin, if_pos z, z]
          unfold fX3_begin_L32
          simp only [if_pos hbe, hce, close_s _ _ hei, Option.bind_some, if_true]
        by_cases z1 : c = 126
        · rw [if_pos z1] at hX hB
          obtain ⟨q', hq', hq2⟩ := Acts_add (p := i + 1) (Acts_upd (act' := upd act e 2) (which' := upd which e 0) (whither' := upd whither e 0) (hard' := upd hard e 0) hA upd_o upd_o upd_o upd_o) (Or.inr (Or.inr (Or.inl ⟨upd_s _ _ _, by omega, upd_s _ _ _, by rw [hq, hc]; exact z1⟩))) (by omega)
          exact step 0 _ _ _ _ (e + 1) q' hX (by decide) (hM.trans hB) ⟨hq', Or.inl ⟨rfl, hq2⟩⟩
        · by_cases z2 : c = 46
          · rw [if_neg z1, if_pos z2] at hX hB
            obtain ⟨q', hq', hq2⟩ := Acts_add (p := i + 1) (Acts_upd (act' := upd act e 3) (which' := upd which e 0) (whither' := upd whither e 0) (hard' := upd hard e 0) hA upd_o upd_o upd_o upd_o) (Or.inr (Or.inr (Or.inr ⟨upd_s _ _ _, by omega, upd_s _ _ _, by rw [hq, hc]; exact z2⟩))) (by omega)
            exact step 0 _ _ _ _ (e + 1) q' hX (by decide) (hM.trans hB) ⟨hq', Or.inl ⟨rfl, hq2⟩⟩
          · rw [if_neg z1, if_neg z2] at hX hB
            exact stop _ _ _ _ e hX (hM.trans hB)
      · rw [if_neg z] at hX
        obtain ⟨b, hb, eb⟩ := in_range c (l := 65) (d := 2) rfl rfl (by decide) z
        have e65 : c - 65 = nI b := by
          subst eb
          have : ∀ b, b ≤ 2 → nI (65 + b) - 65 = nI b := by decide
          exact this b hb
        have hB : fX3_begin c act which whither hard (nI e) = some (1, act, upd which e (nI b), upd whither e 0, upd hard e 0, nI e) := by
          unfold fX3_begin
          rw [hin, if_neg z, e65]
          unfold fX3_begin_L32
          simp only [if_pos hbe, hce, if_neg z]
        exact step 1 _ _ _ _ e q hX (by decide) (hM.trans hB) ⟨Acts_upd hA (fun _ _ => rfl) upd_o upd_o upd_o, Or.inr (Or.inl ⟨rfl, by omega, b, by omega, upd_s _ _ _, by rw [hq, hc]; exact eb⟩)⟩
    · -- a way, or brought up
      have hM : fX3_readOn 1 c act which whither hard (nI e) = (fX3_deed c act whither (nI e)).bind fun z2 => some (z2.1, z2.2.1, which, z2.2.2.1, hard, z2.2.2.2) := by
        unfold fX3_readOn
        rw [if_neg (by decide), if_pos rfl]
      have hin : fX3_in c.toInt64 48 55 = fX0_isIn c 48 55 := in0 c 48 55 (by decide) (by decide)
      have hX : fX0_step 1 c = if fX0_isIn c 48 55 = 0 then (if c = 94 then 0 else -6) else 2 := by
        unfold fX0_step
        rw [if_neg (by decide), if_pos rfl]
      by_cases z1 : c = 94
      · have hB : fX3_deed c act whither (nI e) = some (0, upd act e 1, whither, nI (e + 1)) := by
          unfold fX3_deed
          rw [if_pos z1, close_s _ _ hei]
          rfl
        rw [hB] at hM
        rw [if_pos (by rw [z1]; decide), if_pos z1] at hX
        obtain ⟨q', hq', hq2⟩ := Acts_add (p := i + 1) (Acts_upd (act' := upd act e 1) hA upd_o (fun _ _ => rfl) (fun _ _ => rfl) (fun _ _ => rfl)) (Or.inr (Or.inl ⟨upd_s _ _ _, by omega, b, hb, hw, hsb, by rw [show q e + 1 = i from hq, hc]; exact z1⟩)) (by omega)
        exact step 0 _ _ _ _ (e + 1) q' hX (by decide) hM ⟨hq', Or.inl ⟨rfl, hq2⟩⟩
      · by_cases z : fX0_isIn c 48 55 = 0
        · have hB : fX3_deed c act whither (nI e) = some (-6, act, upd whither e (c - 48), nI e) := by
            unfold fX3_deed
            rw [if_neg z1, if_pos hbe, hin, if_pos z, hce]
          rw [hB] at hM
          rw [if_pos z, if_neg z1] at hX
          exact stop _ _ _ _ e hX hM
        · obtain ⟨j, hj, ej⟩ := in_range c (l := 48) (d := 7) rfl rfl (by decide) z
          have e48 : c - 48 = nI j := by
            subst ej
            have : ∀ j, j ≤ 7 → nI (48 + j) - 48 = nI j := by decide
            exact this j hj
          have hB : fX3_deed c act whither (nI e) = some (2, act, upd whither e (nI j), nI e) := by
            unfold fX3_deed
            rw [if_neg z1, if_pos hbe, hin, if_neg z, hce, e48]
          rw [hB] at hM
          rw [if_neg z] at hX
          exact step 2 _ _ _ _ e q hX (by decide) hM ⟨Acts_upd hA (fun _ _ => rfl) (fun _ _ => rfl) upd_o (fun _ _ => rfl), Or.inr (Or.inr ⟨rfl, by omega, b, j, hb, by omega, hw, upd_s _ _ _, hsb, by rw [show q e + 1 = i from hq, hc]; exact ej⟩)⟩
    · -- a force
      have hM : fX3_readOn 2 c act which whither hard (nI e) = (fX3_force c act hard (nI e)).bind fun z1 => some (z1.1, z1.2.1, which, whither, z1.2.2.1, z1.2.2.2) := by
        unfold fX3_readOn
        rw [if_neg (by decide), if_neg (by decide)]
      have hin : fX3_in c.toInt64 49 57 = fX0_isIn c 49 57 := in0 c 49 57 (by decide) (by decide)
      have hX : fX0_step 2 c = if fX0_isIn c 49 57 = 0 then -6 else 0 := by
        unfold fX0_step
        rw [if_neg (by decide), if_neg (by decide)]
      by_cases z : fX0_isIn c 49 57 = 0
      · have hB : fX3_force c act hard (nI e) = some (-6, act, upd hard e (c - 48), nI e) := by
          unfold fX3_force
          rw [if_pos hbe, hin, if_pos z, hce]
        rw [hB] at hM
        rw [if_pos z] at hX
        exact stop _ _ _ _ e hX hM
      · obtain ⟨g, hg, eg⟩ := in_range c (l := 49) (d := 8) rfl rfl (by decide) z
        have e48 : c - 48 = nI (g + 1) := by
          subst eg
          have : ∀ g, g ≤ 8 → nI (49 + g) - 48 = nI (g + 1) := by decide
          exact this g hg
        have hB : fX3_force c act hard (nI e) = some (0, upd act e 0, upd hard e (nI (g + 1)), nI (e + 1)) := by
          unfold fX3_force
          rw [if_pos hbe, hin, if_neg z, close_s _ _ hei, hce, e48]
          rfl
        rw [hB] at hM
        rw [if_neg z] at hX
        obtain ⟨q', hq', hq2⟩ := Acts_add (p := i + 1) (Acts_upd (act' := upd act e 0) (hard' := upd hard e (nI (g + 1))) hA upd_o (fun _ _ => rfl) (fun _ _ => rfl) upd_o) (Or.inl ⟨upd_s _ _ _, by omega, b, j, g + 1, hb, hj, by omega, by omega, hw, hh, upd_s _ _ _, hsb, hsj, by rw [show q e + 2 = i from hq, hc, eg]; congr 1; omega⟩) (by omega)
        exact step 0 _ _ _ _ (e + 1) q' hX (by decide) hM ⟨hq', Or.inl ⟨rfl, hq2⟩⟩
theorem fault_eq {sign pad : Nat → Int32} (hs : ∀ i, i < 60 → sign i = pad i) {x : Int32} (hx : 0 ≤ x ∧ x ≤ 60) (act which whither hard : Nat → Int32) (acts : Int32) : ∃ (r : Int32) (act' which' whither' hard' : Nat → Int32) (N K : Nat), x = nI K ∧ K ≤ 60 ∧ fX0_faultOf x sign = some r ∧ fX3_fault pad x act which whither hard acts = some (r, act', which', whither', hard', nI N) ∧ (0 ≤ r ∨ (r = -6 ∧ ∃ q', Acts sign act' which' whither' hard' q' N ∧ q' N = K)) := by
  obtain ⟨K, hK, e⟩ := i_of8 (n := 60) (M := 60) rfl hx
  subst e
  obtain ⟨r, A, B, C, D, N, x1, x2, x3⟩ := fault_sim hs hK K 0 0 0 act which whither hard (fun i => i) (by omega) ⟨⟨rfl, Nat.le_refl _, fun i hi => absurd hi (by omega)⟩, Or.inl ⟨rfl, rfl⟩⟩
  have hFU : K < FU := by have : FU = 200000 := rfl; omega
  exact ⟨r, A, B, C, D, N, K, rfl, hK, x1 FU hFU, x2 FU hFU, x3⟩
theorem op_fault : Op_fault := by
  intro t_cells t_points t_fouls t_evening t_sights t_seenStep t_seenCell i_cells i_points i_fouls i_evening i_sights i_seenStep i_seenCell i_isKept j_cells j_points j_fouls j_evening j_sights j_seenStep j_seenCell j_isKept x_signs x_sign m_cell m_points m_fouls m_evening m_sightStep m_sightCell m_sights m_pad m_padMany m_kept m_isKept m_act m_which m_whither m_hard m_acts hR _
  have hR0 := hR
  obtain ⟨ht, ⟨hsg, hr, hsn⟩, hi, hj⟩ := hR
  subst hsg
  obtain ⟨r, A, B, C, D, N, K, e, hK, x1, x2, x3⟩ := fault_eq hsn hr m_act m_which m_whither m_hard m_acts
  refine ⟨r, _, ?_, x2, rfl, hR0⟩
  unfold fX0_fault
  rw [x1]
  rfl
