set_option maxRecDepth 100000
/-! PURE: one that is alone: what comes round -/
def it (k j : Nat) : Nat → Nat × Nat
  | 0 => (k, j)
  | n + 1 => (ta (it k j n).1 (it k j n).2, tw (it k j n).1 (it k j n).2)
theorem it_0 (k j : Nat) : it k j 0 = (k, j) := by rw [it]
theorem it_s (k j n : Nat) : it k j (n + 1) = (ta (it k j n).1 (it k j n).2, tw (it k j n).1 (it k j n).2) := by rw [it]
theorem it_lt {k j : Nat} (hk : k < 45) (hj : j < 8) : ∀ n, (it k j n).1 < 45 ∧ (it k j n).2 < 8 := by
  intro n
  induction n with
  | zero =>
    simp only [it_0]
    exact ⟨hk, hj⟩
  | succ n ih =>
    obtain ⟨-, s2, -, s4⟩ := st_1 _ ih.1 _ ih.2
    simp only [it_s]
    exact ⟨s4, s2⟩
theorem it_add (k j a : Nat) : ∀ b, it k j (a + b) = it (it k j a).1 (it k j a).2 b := by
  intro b
  induction b with
  | zero => rfl
  | succ b ih => rw [← Nat.add_assoc, it_s, it_s, ih]
/-- the table of steps, once and for all: code 10 k + j -/
def TN : Nat := 38465215561021372856511228122728865509702939614855801676577375166695993822609504567912143825163941379648305310148565647937332938015858138201435115007248039869897134848107218504021845084006482499718405588407449138868455511253543336090352750372825649376426130914313579587234756341822610499164609874457042528589967117492086437428849195563056419782813503867995150087571897498925088052116316500546090787871859326367752701477731939019237426579763832558806653415883670098797376465723686493484874803287394160742712870931615490537988017431475510062237262963109996857601425783193438419666904196878141339577887171982910832132812062572027413759532684230908926258155876101103172186246129520437928417641325123798282068611301369763926167868531190399318164132355766312606504600751324034156311114788322903139280459662487038875114763904303068258466470626333924662226715230566379335572906673580148218527506237967095569603571059642269903904904222832503057699748118236438447284298956730419419660856828156729824197907962503702903241626455184235751515382652885534314227071828628279626562080549022022503360889036407384757770750502404078609882786765523415005088008223675100149759165560048597217896652247037000062428654708508469831656328798
def stp (c : Nat) : Nat := (TN >>> (9 * c)) % 512
theorem stp_s : ∀ k, k < 45 → ∀ j, j < 8 → 10 * ta k j + tw k j = stp (10 * k + j) := by decide +kernel
def stps : Nat → Nat → Nat
  | 0, c => c
  | n + 1, c => stps n (stp c)
theorem stps_it {k j : Nat} (hk : k < 45) (hj : j < 8) : ∀ n, 10 * (it k j n).1 + (it k j n).2 = stps n (10 * k + j) := by
  intro n
  have key : ∀ n c, stps (n + 1) c = stp (stps n c) := by
    intro n
    induction n with
    | zero => intro c; rfl
    | succ n ih => intro c; exact ih (stp c)
  induction n with
  | zero => simp only [it_0, stps]
  | succ n ih =>
    simp only [key, ← ih, it_s]
    exact stp_s _ (it_lt hk hj n).1 _ (it_lt hk hj n).2
theorem per0 : ∀ k, k < 45 → ∀ j, j < 8 → stps 17 (10 * k + j) = stps 1 (10 * k + j) := by decide +kernel
theorem code_inj {a b c d : Nat} (hb : b < 8) (hd : d < 8) (h : 10 * a + b = 10 * c + d) : a = c ∧ b = d := by omega
theorem it_17 {k j : Nat} (hk : k < 45) (hj : j < 8) : it k j 17 = it k j 1 := by
  have h := per0 k hk j hj
  rw [← stps_it hk hj, ← stps_it hk hj] at h
  obtain ⟨h1, h2⟩ := code_inj (it_lt hk hj 17).2 (it_lt hk hj 1).2 h
  exact Prod.ext h1 h2
theorem it_per {k j : Nat} (hk : k < 45) (hj : j < 8) {n : Nat} (hn : 1 ≤ n) : it k j (16 + n) = it k j n := by
  obtain ⟨m, rfl⟩ : ∃ m, n = 1 + m := ⟨n - 1, by omega⟩
  rw [show 16 + (1 + m) = 17 + m by omega, it_add, it_17 hk hj, ← it_add]
theorem it_mul {k j : Nat} (hk : k < 45) (hj : j < 8) (n : Nat) (hn : 1 ≤ n) : ∀ q, it k j (16 * q + n) = it k j n := by
  intro q
  induction q with
  | zero => rw [Nat.mul_zero, Nat.zero_add]
  | succ q ih =>
    rw [show 16 * (q + 1) + n = 16 + (16 * q + n) by omega, it_per hk hj (by omega), ih]
/-- sixteen and the rest are as good as any number above -/
theorem it_fold {k j : Nat} (hk : k < 45) (hj : j < 8) {n : Nat} (hn : 32 < n) : it k j (16 + n % 16) = it k j n := by
  have h1 := it_mul hk hj (16 + n % 16) (by omega) (n / 16 - 1)
  rw [← h1]
  congr 1
  omega
theorem next_M : ∀ k, k < 45 → ∀ j, j < 8 → fX3_next (nI (10 * k + j)) = nI (10 * ta k j + tw k j) := by decide +kernel
theorem behind_s (v0 : Int32) {k j : Nat} (hk : k < 45) (hj : j < 8) {M : Nat} (hM : M < 200000) : ∀ (d i n : Nat), i + d = M → d < n → fX3_behindSteps_L4 v0 (nI M) n (nI (10 * (it k j i).1 + (it k j i).2)) (nI i) = some (nI (10 * (it k j M).1 + (it k j M).2)) := by
  intro d
  induction d with
  | zero =>
    intro i n hi hn
    obtain ⟨n, rfl⟩ : ∃ m, n = m + 1 := ⟨n - 1, by omega⟩
    obtain rfl : i = M := by omega
    unfold fX3_behindSteps_L4
    rw [if_pos (nI_le (Nat.le_refl i) (by omega))]
  | succ d ih =>
    intro i n hi hn
    obtain ⟨n, rfl⟩ : ∃ m, n = m + 1 := ⟨n - 1, by omega⟩
    unfold fX3_behindSteps_L4
    rw [if_neg (nI_ge (by omega) (by omega)), next_M _ (it_lt hk hj i).1 _ (it_lt hk hj i).2, nI_1]
    have := ih (i + 1) n (by omega) (by omega)
    simp only [it_s] at this
    exact this
theorem behindSteps_s {k j : Nat} (hk : k < 45) (hj : j < 8) {M : Nat} (hM : M ≤ 99999) : fX3_behindSteps (nI (10 * k + j)) (nI M) = some (nI (10 * (it k j M).1 + (it k j M).2)) := by
  unfold fX3_behindSteps
  exact behind_s _ hk hj (by omega) M 0 FU (by omega) (by have : FU = 200000 := rfl; omega)
theorem walk_L (v1 v2 v3 : Int32) {k j : Nat} (hk : k < 45) (hj : j < 8) {M : Nat} (hM : M < 200000) : ∀ (d i n : Nat) (cu : Int32), i + d = M → d < n → ∃ cu', fX0_walkAlone_L31 v1 v2 v3 n (nI M) (nI i) (PR (it k j i).1) (PC (it k j i).1) (dn (it k j i).2) (ac (it k j i).2) cu = some (PR (it k j M).1, PC (it k j M).1, dn (it k j M).2, ac (it k j M).2, cu') := by
  intro d
  induction d with
  | zero =>
    intro i n cu hi hn
    obtain ⟨n, rfl⟩ : ∃ m, n = m + 1 := ⟨n - 1, by omega⟩
    obtain rfl : i = M := by omega
    refine ⟨cu, ?_⟩
    unfold fX0_walkAlone_L31
    rw [if_pos (nI_le (Nat.le_refl i) (by omega))]
  | succ d ih =>
    intro i n cu hi hn
    obtain ⟨n, rfl⟩ : ∃ m, n = m + 1 := ⟨n - 1, by omega⟩
    obtain ⟨h1, h2⟩ := it_lt hk hj i
    obtain ⟨cu', e⟩ := ih (i + 1) n (cu + if tw (it k j i).1 (it k j i).2 = (it k j i).2 then 0 else 1) (by omega) (by omega)
    refine ⟨cu', ?_⟩
    simp only [it_s] at e
    rw [← e]
    conv => lhs; unfold fX0_walkAlone_L31
    rw [if_neg (nI_ge (by omega) (by omega)), next_s h1 h2, Option.bind_some, go_s h1 h2, Option.bind_some, nI_1]
theorem walkAlone_s {k j : Nat} (hk : k < 45) (hj : j < 8) {M : Nat} (hM : M ≤ 99999) (r c d i q : Int32) : ∃ q', fX0_walkAlone (nI k) (nI j) (nI M) r c d i q = some (PR (it k j M).1, PC (it k j M).1, dn (it k j M).2, ac (it k j M).2, q') := by
  unfold fX0_walkAlone
  rw [send_s hj, Option.bind_some]
  by_cases h : M ≤ 32
  · rw [if_pos (show nI M ≤ 32 from nI_le (a := M) (b := 32) h (by decide))]
    exact walk_L (nI k) (nI j) (nI M) hk hj (by omega) M 0 FU 0 (by omega) (by have : FU = 200000 := rfl; omega)
  · rw [if_neg (show ¬ nI M ≤ 32 from nI_ge (a := 32) (b := M) (by omega) (by omega))]
    have e : (16 : Int32) + (nI M - nI M / 16 * 16) = nI (16 + M % 16) := by
      have : nI M - nI M / 16 * 16 = nI (M % 16) := pk_rem (d := 16) (by omega) (by decide) (by decide)
      rw [this]
      exact nI_add 16 _
    rw [e, ← it_fold hk hj (n := M) (by omega)]
    exact walk_L (nI k) (nI j) (nI M) hk hj (by omega) (16 + M % 16) 0 FU 0 (by omega) (by have : FU = 200000 := rfl; omega)
theorem div10 {k j : Nat} (hk : k < 45) (hj : j < 8) : nI (10 * k + j) / 10 = nI k := by
  have : nI (10 * k + j) / 10 = nI ((10 * k + j) / 10) := pk_div (d := 10) (by omega) (by decide) (by decide)
  rw [this]
  congr 1
  omega
