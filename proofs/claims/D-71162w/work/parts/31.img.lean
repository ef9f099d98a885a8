set_option maxRecDepth 100000
/-! PURE: images -/
theorem upd_self (f : Nat → Int32) (k : Nat) : upd f k (f k) = f := by
  funext j
  by_cases h : j = k
  · subst h; rw [upd_s]
  · rw [upd_n _ _ h]
theorem pass_w (v : Int32) (kept : Nat → Int32) {p : Nat} (hp : p < 60) : fX3_pass v kept (nI p) 1 = some (v, upd kept p v, nI (p + 1)) := by
  unfold fX3_pass fX3_pass_L20
  rw [if_neg (by decide), if_pos (bIn_nI hp (by decide)), nI_clamp (by omega), nI_1]
theorem pass_r (v : Int32) (kept : Nat → Int32) {p : Nat} (hp : p < 60) : fX3_pass v kept (nI p) 0 = some (kept p, kept, nI (p + 1)) := by
  unfold fX3_pass fX3_pass_L20
  rw [if_pos rfl, if_pos (bIn_nI hp (by decide)), if_pos (bIn_nI hp (by decide)), nI_clamp (by omega), nI_1, upd_self]
theorem cpy0 {f g : Nat → Int32} {a b : Nat} : va_cpy f g a b 0 = g := by
  funext j
  unfold va_cpy
  rw [if_neg (by omega)]
theorem cpy_s {f g : Nat → Int32} {a b d : Nat} : va_cpy f (upd g b (f a)) (a + 1) (b + 1) d = va_cpy f g a b (d + 1) := by
  funext j
  unfold va_cpy
  by_cases h : b + 1 ≤ j ∧ j < b + 1 + d
  · rw [if_pos h, if_pos (by omega)]
    congr 1
    omega
  · rw [if_neg h]
    by_cases e : j = b
    · subst e
      rw [upd_s, if_pos (by omega)]
      congr 1
      omega
    · rw [upd_n _ _ e, if_neg (by omega)]
theorem row_w_m_cell (row : Nat → Int32) : ∀ (d k p : Nat) (kept : Nat → Int32) (n : Nat), k + d = 3 → p + d ≤ 60 → d < n → fX3_passRow_m_cell_L2 3 1 n (nI k) row kept (nI p) = some (row, va_cpy row kept k p d, nI (p + d)) := by
  intro d
  induction d with
  | zero =>
    intro k p kept n hk hp hn
    obtain ⟨n, rfl⟩ : ∃ m, n = m + 1 := ⟨n - 1, by omega⟩
    unfold fX3_passRow_m_cell_L2
    rw [if_pos (show (3 : Int32) ≤ nI k from nI_le (a := 3) (b := k) (by omega) (by omega)), cpy0]
    rfl
  | succ d ih =>
    intro k p kept n hk hp hn
    obtain ⟨n, rfl⟩ : ∃ m, n = m + 1 := ⟨n - 1, by omega⟩
    unfold fX3_passRow_m_cell_L2
    rw [if_neg (show ¬ (3 : Int32) ≤ nI k from nI_ge (a := k) (b := 3) (by omega) (by omega)), if_pos (bIn_nI (k := k) (n := 3) (by omega) (by decide))]
    simp only [if_pos (bIn_nI (k := k) (n := 3) (by omega) (by decide))]
    rw [nI_clamp (by omega), pass_w _ _ (by omega)]
    simp only [Option.bind_some]
    rw [nI_1, upd_self, ih (k + 1) (p + 1) _ n (by omega) (by omega) (by omega), cpy_s]
    simp only [Nat.add_assoc, Nat.add_comm 1 d]
theorem row_r_m_cell (kept : Nat → Int32) : ∀ (d k p : Nat) (row : Nat → Int32) (n : Nat), k + d = 3 → p + d ≤ 60 → d < n → fX3_passRow_m_cell_L2 3 0 n (nI k) row kept (nI p) = some (va_cpy kept row p k d, kept, nI (p + d)) := by
  intro d
  induction d with
  | zero =>
    intro k p row n hk hp hn
    obtain ⟨n, rfl⟩ : ∃ m, n = m + 1 := ⟨n - 1, by omega⟩
    unfold fX3_passRow_m_cell_L2
    rw [if_pos (show (3 : Int32) ≤ nI k from nI_le (a := 3) (b := k) (by omega) (by omega)), cpy0]
    rfl
  | succ d ih =>
    intro k p row n hk hp hn
    obtain ⟨n, rfl⟩ : ∃ m, n = m + 1 := ⟨n - 1, by omega⟩
    unfold fX3_passRow_m_cell_L2
    rw [if_neg (show ¬ (3 : Int32) ≤ nI k from nI_ge (a := k) (b := 3) (by omega) (by omega)), if_pos (bIn_nI (k := k) (n := 3) (by omega) (by decide))]
    simp only [if_pos (bIn_nI (k := k) (n := 3) (by omega) (by decide))]
    rw [nI_clamp (by omega), pass_r _ _ (by omega)]
    simp only [Option.bind_some]
    rw [nI_1, ih (k + 1) (p + 1) _ n (by omega) (by omega) (by omega), cpy_s]
    simp only [Nat.add_assoc, Nat.add_comm 1 d]
theorem rowW_m_cell (row kept : Nat → Int32) {p : Nat} (hp : p + 3 ≤ 60) : fX3_passRow_m_cell 3 row kept (nI p) 1 = some (row, va_cpy row kept 0 p 3, nI (p + 3)) := by
  unfold fX3_passRow_m_cell
  exact row_w_m_cell row 3 0 p kept FU (by omega) hp (by decide)
theorem rowR_m_cell (row kept : Nat → Int32) {p : Nat} (hp : p + 3 ≤ 60) : fX3_passRow_m_cell 3 row kept (nI p) 0 = some (va_cpy kept row p 0 3, kept, nI (p + 3)) := by
  unfold fX3_passRow_m_cell
  exact row_r_m_cell kept 3 0 p row FU (by omega) hp (by decide)
theorem row_w_m_sightStep (row : Nat → Int32) : ∀ (d k p : Nat) (kept : Nat → Int32) (n : Nat), k + d = 8 → p + d ≤ 60 → d < n → fX3_passRow_m_sightStep_L2 8 1 n (nI k) row kept (nI p) = some (row, va_cpy row kept k p d, nI (p + d)) := by
  intro d
  induction d with
  | zero =>
    intro k p kept n hk hp hn
    obtain ⟨n, rfl⟩ : ∃ m, n = m + 1 := ⟨n - 1, by omega⟩
    unfold fX3_passRow_m_sightStep_L2
    rw [if_pos (show (8 : Int32) ≤ nI k from nI_le (a := 8) (b := k) (by omega) (by omega)), cpy0]
    rfl
  | succ d ih =>
    intro k p kept n hk hp hn
    obtain ⟨n, rfl⟩ : ∃ m, n = m + 1 := ⟨n - 1, by omega⟩
    unfold fX3_passRow_m_sightStep_L2
    rw [if_neg (show ¬ (8 : Int32) ≤ nI k from nI_ge (a := k) (b := 8) (by omega) (by omega)), if_pos (bIn_nI (k := k) (n := 8) (by omega) (by decide))]
    simp only [if_pos (bIn_nI (k := k) (n := 8) (by omega) (by decide))]
    rw [nI_clamp (by omega), pass_w _ _ (by omega)]
    simp only [Option.bind_some]
    rw [nI_1, upd_self, ih (k + 1) (p + 1) _ n (by omega) (by omega) (by omega), cpy_s]
    simp only [Nat.add_assoc, Nat.add_comm 1 d]
theorem row_r_m_sightStep (kept : Nat → Int32) : ∀ (d k p : Nat) (row : Nat → Int32) (n : Nat), k + d = 8 → p + d ≤ 60 → d < n → fX3_passRow_m_sightStep_L2 8 0 n (nI k) row kept (nI p) = some (va_cpy kept row p k d, kept, nI (p + d)) := by
  intro d
  induction d with
  | zero =>
    intro k p row n hk hp hn
    obtain ⟨n, rfl⟩ : ∃ m, n = m + 1 := ⟨n - 1, by omega⟩
    unfold fX3_passRow_m_sightStep_L2
    rw [if_pos (show (8 : Int32) ≤ nI k from nI_le (a := 8) (b := k) (by omega) (by omega)), cpy0]
    rfl
  | succ d ih =>
    intro k p row n hk hp hn
    obtain ⟨n, rfl⟩ : ∃ m, n = m + 1 := ⟨n - 1, by omega⟩
    unfold fX3_passRow_m_sightStep_L2
    rw [if_neg (show ¬ (8 : Int32) ≤ nI k from nI_ge (a := k) (b := 8) (by omega) (by omega)), if_pos (bIn_nI (k := k) (n := 8) (by omega) (by decide))]
    simp only [if_pos (bIn_nI (k := k) (n := 8) (by omega) (by decide))]
    rw [nI_clamp (by omega), pass_r _ _ (by omega)]
    simp only [Option.bind_some]
    rw [nI_1, ih (k + 1) (p + 1) _ n (by omega) (by omega) (by omega), cpy_s]
    simp only [Nat.add_assoc, Nat.add_comm 1 d]
theorem rowW_m_sightStep (row kept : Nat → Int32) {p : Nat} (hp : p + 8 ≤ 60) : fX3_passRow_m_sightStep 8 row kept (nI p) 1 = some (row, va_cpy row kept 0 p 8, nI (p + 8)) := by
  unfold fX3_passRow_m_sightStep
  exact row_w_m_sightStep row 8 0 p kept FU (by omega) hp (by decide)
theorem rowR_m_sightStep (row kept : Nat → Int32) {p : Nat} (hp : p + 8 ≤ 60) : fX3_passRow_m_sightStep 8 row kept (nI p) 0 = some (va_cpy kept row p 0 8, kept, nI (p + 8)) := by
  unfold fX3_passRow_m_sightStep
  exact row_r_m_sightStep kept 8 0 p row FU (by omega) hp (by decide)
theorem row_w_m_sightCell (row : Nat → Int32) : ∀ (d k p : Nat) (kept : Nat → Int32) (n : Nat), k + d = 8 → p + d ≤ 60 → d < n → fX3_passRow_m_sightCell_L2 8 1 n (nI k) row kept (nI p) = some (row, va_cpy row kept k p d, nI (p + d)) := by
  intro d
  induction d with
  | zero =>
    intro k p kept n hk hp hn
    obtain ⟨n, rfl⟩ : ∃ m, n = m + 1 := ⟨n - 1, by omega⟩
    unfold fX3_passRow_m_sightCell_L2
    rw [if_pos (show (8 : Int32) ≤ nI k from nI_le (a := 8) (b := k) (by omega) (by omega)), cpy0]
    rfl
  | succ d ih =>
    intro k p kept n hk hp hn
    obtain ⟨n, rfl⟩ : ∃ m, n = m + 1 := ⟨n - 1, by omega⟩
    unfold fX3_passRow_m_sightCell_L2
    rw [if_neg (show ¬ (8 : Int32) ≤ nI k from nI_ge (a := k) (b := 8) (by omega) (by omega)), if_pos (bIn_nI (k := k) (n := 8) (by omega) (by decide))]
    simp only [if_pos (bIn_nI (k := k) (n := 8) (by omega) (by decide))]
    rw [nI_clamp (by omega), pass_w _ _ (by omega)]
    simp only [Option.bind_some]
    rw [nI_1, upd_self, ih (k + 1) (p + 1) _ n (by omega) (by omega) (by omega), cpy_s]
    simp only [Nat.add_assoc, Nat.add_comm 1 d]
theorem row_r_m_sightCell (kept : Nat → Int32) : ∀ (d k p : Nat) (row : Nat → Int32) (n : Nat), k + d = 8 → p + d ≤ 60 → d < n → fX3_passRow_m_sightCell_L2 8 0 n (nI k) row kept (nI p) = some (va_cpy kept row p k d, kept, nI (p + d)) := by
  intro d
  induction d with
  | zero =>
    intro k p row n hk hp hn
    obtain ⟨n, rfl⟩ : ∃ m, n = m + 1 := ⟨n - 1, by omega⟩
    unfold fX3_passRow_m_sightCell_L2
    rw [if_pos (show (8 : Int32) ≤ nI k from nI_le (a := 8) (b := k) (by omega) (by omega)), cpy0]
    rfl
  | succ d ih =>
    intro k p row n hk hp hn
    obtain ⟨n, rfl⟩ : ∃ m, n = m + 1 := ⟨n - 1, by omega⟩
    unfold fX3_passRow_m_sightCell_L2
    rw [if_neg (show ¬ (8 : Int32) ≤ nI k from nI_ge (a := k) (b := 8) (by omega) (by omega)), if_pos (bIn_nI (k := k) (n := 8) (by omega) (by decide))]
    simp only [if_pos (bIn_nI (k := k) (n := 8) (by omega) (by decide))]
    rw [nI_clamp (by omega), pass_r _ _ (by omega)]
    simp only [Option.bind_some]
    rw [nI_1, ih (k + 1) (p + 1) _ n (by omega) (by omega) (by omega), cpy_s]
    simp only [Nat.add_assoc, Nat.add_comm 1 d]
theorem rowW_m_sightCell (row kept : Nat → Int32) {p : Nat} (hp : p + 8 ≤ 60) : fX3_passRow_m_sightCell 8 row kept (nI p) 1 = some (row, va_cpy row kept 0 p 8, nI (p + 8)) := by
  unfold fX3_passRow_m_sightCell
  exact row_w_m_sightCell row 8 0 p kept FU (by omega) hp (by decide)
theorem rowR_m_sightCell (row kept : Nat → Int32) {p : Nat} (hp : p + 8 ≤ 60) : fX3_passRow_m_sightCell 8 row kept (nI p) 0 = some (va_cpy kept row p 0 8, kept, nI (p + 8)) := by
  unfold fX3_passRow_m_sightCell
  exact row_r_m_sightCell kept 8 0 p row FU (by omega) hp (by decide)
theorem all_w (c : Nat → Int32) (a b e : Int32) (st sc : Nat → Int32) (si : Int32) (kept : Nat → Int32) {p : Nat} (hp : p + 23 ≤ 60) : fX3_passAll c a b e st sc si kept (nI p) 1 = some (c, a, b, e, st, sc, si, va_cpy sc (va_cpy st (va_cpy c (upd (upd (upd (upd kept p a) (p + 1) b) (p + 2) e) (p + 3) si) 0 (p + 4) 3) 0 (p + 7) 8) 0 (p + 15) 8, nI (p + 23)) := by
  unfold fX3_passAll
  rw [pass_w _ _ (by omega)]
  simp only [Option.bind_some]
  rw [pass_w _ _ (by omega)]
  simp only [Option.bind_some]
  rw [pass_w _ _ (by omega)]
  simp only [Option.bind_some]
  rw [pass_w _ _ (by omega)]
  simp only [Option.bind_some]
  rw [rowW_m_cell _ _ (by omega)]
  simp only [Option.bind_some]
  rw [rowW_m_sightStep _ _ (by omega)]
  simp only [Option.bind_some]
  rw [rowW_m_sightCell _ _ (by omega)]
  simp only [Option.bind_some, Nat.add_assoc, Nat.reduceAdd]
theorem all_r (c : Nat → Int32) (a b e : Int32) (st sc : Nat → Int32) (si : Int32) (kept : Nat → Int32) {p : Nat} (hp : p + 23 ≤ 60) : fX3_passAll c a b e st sc si kept (nI p) 0 = some (va_cpy kept c (p + 4) 0 3, kept p, kept (p + 1), kept (p + 2), va_cpy kept st (p + 7) 0 8, va_cpy kept sc (p + 15) 0 8, kept (p + 3), kept, nI (p + 23)) := by
  unfold fX3_passAll
  rw [pass_r _ _ (by omega)]
  simp only [Option.bind_some]
  rw [pass_r _ _ (by omega)]
  simp only [Option.bind_some]
  rw [pass_r _ _ (by omega)]
  simp only [Option.bind_some]
  rw [pass_r _ _ (by omega)]
  simp only [Option.bind_some]
  rw [rowR_m_cell _ _ (by omega)]
  simp only [Option.bind_some]
  rw [rowR_m_sightStep _ _ (by omega)]
  simp only [Option.bind_some]
  rw [rowR_m_sightCell _ _ (by omega)]
  simp only [Option.bind_some, Nat.add_assoc, Nat.reduceAdd]
theorem cpy_in {f g : Nat → Int32} {n j : Nat} (h : j < n) : va_cpy f g 0 0 n j = f j := by
  unfold va_cpy
  rw [if_pos (by omega)]
  simp
theorem cpy_lo {f g : Nat → Int32} {a b n j : Nat} (h : j < b) : va_cpy f g a b n j = g j := by
  unfold va_cpy
  rw [if_neg (by omega)]
theorem cpy_hi {f g : Nat → Int32} {a b n j : Nat} (h : b + n ≤ j) : va_cpy f g a b n j = g j := by
  unfold va_cpy
  rw [if_neg (by omega)]
theorem cpy_at {f g : Nat → Int32} {b n i : Nat} (h : i < n) : va_cpy f g 0 b n (b + i) = f i := by
  unfold va_cpy
  rw [if_pos (by omega)]
  congr 1
  omega
theorem cpy_rd {f g : Nat → Int32} {a n i : Nat} (h : i < n) : va_cpy f g a 0 n i = f (a + i) := by
  unfold va_cpy
  rw [if_pos (by omega)]
  congr 1
theorem OkT_congr {c c' st st' : Nat → Int32} {s : Int32} (h : OkT c s st) (h1 : ∀ i, i < 3 → c' i = c i) (h2 : ∀ i, i < 8 → st' i = st i) : OkT c' s st' := by
  obtain ⟨⟨a, b⟩, r, g⟩ := h
  refine ⟨⟨fun i hi => by rw [h1 i hi]; exact a i hi, fun i j hi hj hne he => ?_⟩, r, fun i hi => by rw [h2 i hi]; exact g i hi⟩
  rw [h1 i hi, h1 j hj] at he
  rw [h1 i hi]
  exact b i j hi hj hne he
/-- what a written image holds -/
theorem img_w {k : Nat} (hk : k < 2) {c : Nat → Int32} {a b e si : Int32} {st sc kept : Nat → Int32} {ic ist isc : Nat → Int32} {iK mK : Nat → Int32} {P : Nat} (hP : 30 * k = P) (hok : OkT c si st) (h1 : ∀ i, i < 3 → ic i = c i) (h2 : ∀ i, i < 8 → ist i = st i) (h3 : ∀ i, i < 8 → isc i = sc i) (hm : mK k = 1) :
    Img k ic a b e si ist isc 1 (va_cpy sc (va_cpy st (va_cpy c (upd (upd (upd (upd kept P a) (P + 1) b) (P + 2) e) (P + 3) si) 0 (P + 4) 3) 0 (P + 7) 8) 0 (P + 15) 8) mK := by
  subst hP
  refine ⟨hm.symm, Or.inr rfl, fun _ => ⟨OkT_congr hok h1 h2, ?_, ?_, ?_, ?_, fun i hi => ?_, fun i hi => ?_, fun i hi => ?_⟩⟩
  · rw [cpy_lo (by omega), cpy_lo (by omega), cpy_lo (by omega), upd_n _ _ (by omega), upd_n _ _ (by omega), upd_n _ _ (by omega), upd_s]
  · rw [cpy_lo (by omega), cpy_lo (by omega), cpy_lo (by omega), upd_n _ _ (by omega), upd_n _ _ (by omega), upd_s]
  · rw [cpy_lo (by omega), cpy_lo (by omega), cpy_lo (by omega), upd_n _ _ (by omega), upd_s]
  · rw [cpy_lo (by omega), cpy_lo (by omega), cpy_lo (by omega), upd_s]
  · rw [cpy_lo (by omega), cpy_lo (by omega), cpy_at hi, h1 i hi]
  · rw [cpy_lo (by omega), cpy_at hi, h2 i hi]
  · rw [cpy_at hi, h3 i hi]
theorem img_o {k k' : Nat} (hk : k < 2) (hk' : k' < 2) (hne : k ≠ k') {c : Nat → Int32} {a b e si : Int32} {st sc kept : Nat → Int32} {ic ist isc : Nat → Int32} {ia ib ie isi iK : Int32} {mK mK' : Nat → Int32} {P : Nat} (hP : 30 * k' = P) (hm : mK' k = mK k) (h : Img k ic ia ib ie isi ist isc iK kept mK) :
    Img k ic ia ib ie isi ist isc iK (va_cpy sc (va_cpy st (va_cpy c (upd (upd (upd (upd kept P a) (P + 1) b) (P + 2) e) (P + 3) si) 0 (P + 4) 3) 0 (P + 7) 8) 0 (P + 15) 8) mK' := by
  subst hP
  have key : ∀ j, 30 * k ≤ j → j < 30 * k + 23 → va_cpy sc (va_cpy st (va_cpy c (upd (upd (upd (upd kept (30 * k') a) (30 * k' + 1) b) (30 * k' + 2) e) (30 * k' + 3) si) 0 (30 * k' + 4) 3) 0 (30 * k' + 7) 8) 0 (30 * k' + 15) 8 j = kept j := by
    intro j h1 h2
    rcases Nat.lt_or_ge j (30 * k') with q | q
    · rw [cpy_lo (by omega), cpy_lo (by omega), cpy_lo (by omega), upd_n _ _ (by omega), upd_n _ _ (by omega), upd_n _ _ (by omega), upd_n _ _ (by omega)]
    · rw [cpy_hi (by omega), cpy_hi (by omega), cpy_hi (by omega), upd_n _ _ (by omega), upd_n _ _ (by omega), upd_n _ _ (by omega), upd_n _ _ (by omega)]
  obtain ⟨h1, h2, h3⟩ := h
  refine ⟨h1.trans hm.symm, h2, fun z => ?_⟩
  obtain ⟨g0, g1, g2, g3, g4, g5, g6, g7⟩ := h3 z
  refine ⟨g0, ?_, ?_, ?_, ?_, fun i hi => ?_, fun i hi => ?_, fun i hi => ?_⟩
  · rw [key _ (by omega) (by omega)]; exact g1
  · rw [key _ (by omega) (by omega)]; exact g2
  · rw [key _ (by omega) (by omega)]; exact g3
  · rw [key _ (by omega) (by omega)]; exact g4
  · rw [key _ (by omega) (by omega)]; exact g5 i hi
  · rw [key _ (by omega) (by omega)]; exact g6 i hi
  · rw [key _ (by omega) (by omega)]; exact g7 i hi
theorem op_image : Op_image := by
  intro t_cells t_points t_fouls t_evening t_sights t_seenStep t_seenCell i_cells i_points i_fouls i_evening i_sights i_seenStep i_seenCell i_isKept j_cells j_points j_fouls j_evening j_sights j_seenStep j_seenCell j_isKept x_signs x_sign m_cell m_points m_fouls m_evening m_sightStep m_sightCell m_sights m_pad m_padMany m_kept m_isKept i_touches i_cushions j_touches j_cushions m_keptAt m_isWriting hR v1
  have hR0 := hR
  obtain ⟨⟨hc, hp, hf, he, hs, hss, hsc, hok⟩, hsg, hi, hj⟩ := hR
  subst hp hf he hs
  unfold fX0_image fX3_image
  rw [in0 v1 0 1 (by decide) (by decide)]
  by_cases a : fX0_isIn v1 0 1 = 0
  · simp only [if_pos a]; exact ⟨_, _, rfl, rfl, rfl, hR0⟩
  have hOk : OkT m_cell t_sights m_sightStep := OkT_congr hok (fun i h => (hc i h).symm) (fun i h => (hss i h).symm)
  obtain ⟨k, hk, e⟩ := isIn_nI (n := 1) rfl a
  have hk2 : k = 0 ∨ k = 1 := by omega
  rcases hk2 with rfl | rfl
  · have e : v1 = 0 := e
    subst e
    have e1 : fX3_passAll m_cell t_points t_fouls t_evening m_sightStep m_sightCell t_sights m_kept (30 * (0 : Int32)) 1 = _ := all_w m_cell t_points t_fouls t_evening m_sightStep m_sightCell t_sights m_kept (p := 0) (by decide)
    simp only [if_neg a, e1, Option.bind_some, if_pos, fX1_copy, if_pos (show bIn 0 2 by decide)]
    refine ⟨_, _, rfl, rfl, rfl, ⟨hc, rfl, rfl, rfl, rfl, hss, hsc, hok⟩, hsg, ?_, ?_⟩
    · exact img_w (k := 0) (by decide) rfl hOk (fun i h => (cpy_in h).trans (hc i h)) (fun i h => (cpy_in h).trans (hss i h)) (fun i h => (cpy_in h).trans (hsc i h)) rfl (iK := fun _ => 0)
    · exact img_o (k := 1) (k' := 0) (by decide) (by decide) (by decide) rfl rfl hj
  · have e : v1 = 1 := e
    subst e
    have e1 : fX3_passAll m_cell t_points t_fouls t_evening m_sightStep m_sightCell t_sights m_kept (30 * (1 : Int32)) 1 = _ := all_w m_cell t_points t_fouls t_evening m_sightStep m_sightCell t_sights m_kept (p := 30) (by decide)
    simp only [if_neg a, e1, Option.bind_some, if_neg (show ¬ (1 : Int32) = 0 by decide), if_pos, fX1_copy, if_pos (show bIn 1 2 by decide)]
    refine ⟨_, _, rfl, rfl, rfl, ⟨hc, rfl, rfl, rfl, rfl, hss, hsc, hok⟩, hsg, ?_, ?_⟩
    · exact img_o (k := 0) (k' := 1) (by decide) (by decide) (by decide) rfl rfl hi
    · exact img_w (k := 1) (by decide) rfl hOk (fun i h => (cpy_in h).trans (hc i h)) (fun i h => (cpy_in h).trans (hss i h)) (fun i h => (cpy_in h).trans (hsc i h)) rfl (iK := fun _ => 0)
theorem op_restore : Op_restore := by
  intro t_cells t_points t_fouls t_evening t_sights t_seenStep t_seenCell i_cells i_points i_fouls i_evening i_sights i_seenStep i_seenCell i_isKept j_cells j_points j_fouls j_evening j_sights j_seenStep j_seenCell j_isKept x_signs x_sign m_cell m_points m_fouls m_evening m_sightStep m_sightCell m_sights m_pad m_padMany m_kept m_isKept t_touches t_cushions m_keptAt m_isWriting hR v1
  have hR0 := hR
  obtain ⟨⟨hc, hp, hf, he, hs, hss, hsc, hok⟩, hsg, hi, hj⟩ := hR
  subst hp hf he hs
  unfold fX0_restore fX3_restore
  rw [in0 v1 0 1 (by decide) (by decide)]
  by_cases a : fX0_isIn v1 0 1 = 0
  · simp only [if_pos a]; exact ⟨_, _, rfl, rfl, rfl, hR0⟩
  obtain ⟨k, hk, e⟩ := isIn_nI (n := 1) rfl a
  have hk2 : k = 0 ∨ k = 1 := by omega
  have rd : ∀ (k : Nat) (ic : Nat → Int32) (ia ib ie isi : Int32) (ist isc : Nat → Int32), Img k ic ia ib ie isi ist isc 1 m_kept m_isKept → ∀ (tc ts tl : Nat → Int32), ((∀ i, i < 3 → va_cpy ic t_cells 0 0 3 i = va_cpy m_kept m_cell (30 * k + 4) 0 3 i) ∧ ia = m_kept (30 * k) ∧ ib = m_kept (30 * k + 1) ∧ ie = m_kept (30 * k + 2) ∧ isi = m_kept (30 * k + 3) ∧ (∀ i, i < 8 → va_cpy ist t_seenStep 0 0 8 i = va_cpy m_kept m_sightStep (30 * k + 7) 0 8 i) ∧ (∀ i, i < 8 → va_cpy isc t_seenCell 0 0 8 i = va_cpy m_kept m_sightCell (30 * k + 15) 0 8 i) ∧ OkT (va_cpy ic t_cells 0 0 3) isi (va_cpy ist t_seenStep 0 0 8)) := by
    intro k ic ia ib ie isi ist isc h tc ts tl
    obtain ⟨g0, g1, g2, g3, g4, g5, g6, g7⟩ := h.2.2 rfl
    exact ⟨fun i h => by rw [cpy_in h, cpy_rd h, g5 i h], g1.symm, g2.symm, g3.symm, g4.symm, fun i h => by rw [cpy_in h, cpy_rd h, g6 i h], fun i h => by rw [cpy_in h, cpy_rd h, g7 i h], OkT_congr g0 (fun i h => cpy_in h) (fun i h => cpy_in h)⟩
  rcases hk2 with rfl | rfl
  · have e : v1 = 0 := e
    subst e
    have em : m_isKept (0 : Int32).toNatClampNeg = i_isKept := hi.1.symm
    rcases hi.2.1 with q | q
    · subst q
      simp only [if_neg a, em, if_pos (show bIn 0 2 by decide), if_true]
      exact ⟨_, _, rfl, rfl, rfl, hR0⟩
    · subst q
      have e1 : fX3_passAll m_cell t_points t_fouls t_evening m_sightStep m_sightCell t_sights m_kept (30 * (0 : Int32)) 0 = _ := all_r m_cell t_points t_fouls t_evening m_sightStep m_sightCell t_sights m_kept (p := 0) (by decide)
      simp only [if_neg a, em, if_neg (show ¬ (1 : Int32) = 0 by decide), if_pos (show bIn 0 2 by decide), if_true, e1, Option.bind_some, fX1_copy]
      exact ⟨_, _, rfl, rfl, rfl, rd 0 _ _ _ _ _ _ _ hi t_cells t_cells t_cells, hsg, hi, hj⟩
  · have e : v1 = 1 := e
    subst e
    have em : m_isKept (1 : Int32).toNatClampNeg = j_isKept := hj.1.symm
    rcases hj.2.1 with q | q
    · subst q
      simp only [if_neg a, em, if_neg (show ¬ (1 : Int32) = 0 by decide), if_pos (show bIn 1 2 by decide), if_true]
      exact ⟨_, _, rfl, rfl, rfl, hR0⟩
    · subst q
      have e1 : fX3_passAll m_cell t_points t_fouls t_evening m_sightStep m_sightCell t_sights m_kept (30 * (1 : Int32)) 0 = _ := all_r m_cell t_points t_fouls t_evening m_sightStep m_sightCell t_sights m_kept (p := 30) (by decide)
      simp only [if_neg a, em, if_neg (show ¬ (1 : Int32) = 0 by decide), if_pos (show bIn 1 2 by decide), if_true, e1, Option.bind_some, fX1_copy]
      exact ⟨_, _, rfl, rfl, rfl, rd 1 _ _ _ _ _ _ _ hj t_cells t_cells t_cells, hsg, hi, hj⟩
