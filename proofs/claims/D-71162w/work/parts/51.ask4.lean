set_option maxRecDepth 100000
def lst (least : Int32) (ω : Nat) : Int32 := if nI ω < least then nI ω else least
theorem lst_M (few : Int32) (ω : Nat) : lst few ω = if few ≤ nI ω then few else nI ω := by
  unfold lst
  by_cases z : few ≤ nI ω
  · rw [if_pos z, if_neg (i_nlt.mpr z)]
  · rw [if_neg z, if_pos (i_nle.mp z)]
set_option maxHeartbeats 4000000 in
theorem ask_out (v1 : Int32) (S : Int32) (step cell mstep mcell : Nat → Int32) {F : Nat} (hF1 : 1 ≤ F) (hF : F ≤ 360) {C : Nat → Nat} (hC : ∀ i, i < F → C i < 450 ∧ C i % 10 < 8) {fit : Nat → Int32} (hfit : ∀ i, i < F → fit i = nI (C i)) :
    ∀ (d s : Nat), s + d = 61 → ∀ (wh least few : Int32) (byX byM now : Nat → Int32), ((s = 0 ∧ least = 1000000 ∧ few = nI (F + 1)) ∨ least = few) → (∀ e, e < F → now e = nI (cd (C e) s)) →
    ∃ res : Int32, (∀ n, d < n → ∀ r cc dd ii q, ∃ r' c' d' i' q' byX', fX0_ask_L57 v1 S step cell n (nI F) wh least (nI s) r cc dd ii q fit byX = some (res, r', c', d', i', q', fit, byX')) ∧
      (∀ n, d < n → ∀ mfit, ∃ now' byM', fX3_ask_L30 v1 mstep mcell S n wh few (nI s) mfit now (nI F) byM = some (res, mfit, now', nI F, byM')) := by
  intro d
  induction d with
  | zero =>
    intro s hs wh least few byX byM now hrel hnow
    obtain rfl : s = 61 := by omega
    have hl : least = few := by rcases hrel with ⟨h, -⟩ | h; exact absurd h (by decide); exact h
    subst hl
    refine ⟨if wh < 0 then wh else if v1 = 0 then wh else least, fun n hn r cc dd ii q => ⟨r, cc, dd, ii, q, byX, ?_⟩, fun n hn mfit => ⟨now, byM, ?_⟩⟩
    · obtain ⟨n, rfl⟩ : ∃ m, n = m + 1 := ⟨n - 1, by omega⟩
      unfold fX0_ask_L57 fX0_ask_L163
      rw [if_pos (show (60 : Int32) < nI 61 by decide)]
      by_cases a : wh < 0
      · rw [if_pos a, if_pos a]
      · rw [if_neg a, if_neg a]
        by_cases b : v1 = 0
        · rw [if_pos b, if_pos b]
        · rw [if_neg b, if_neg b]
    · obtain ⟨n, rfl⟩ : ∃ m, n = m + 1 := ⟨n - 1, by omega⟩
      unfold fX3_ask_L30 fX3_ask_L82
      rw [if_pos (show (60 : Int32) < nI 61 by decide)]
      by_cases a : wh < 0
      · rw [if_pos a, if_pos a]
      · rw [if_neg a, if_neg a]
        by_cases b : v1 = 0
        · rw [if_pos b, if_pos b]
        · rw [if_neg b, if_neg b]
  | succ d ih =>
    intro s hs wh least few byX byM now hrel hnow
    have h60 : ¬ (60 : Int32) < nI s := nI_nlt (a := 60) (b := s) (by omega) (by decide)
    have hF0 : ¬ nI F ≤ 0 := nI_nle (by omega) (by omega)
    obtain ⟨bX, f1, f2⟩ := fill_2 0 byX
    obtain ⟨bM, g1, g2⟩ := most0 (nI F) now 45 0 FU byM (by omega) (by have : FU = 200000 := rfl; omega) (fun c h => absurd h (by omega))
    obtain ⟨ω', byX', byM', now', k1, k2, k3, k4⟩ := ask_in v1 S step cell hF (s := s) (by omega) hC hfit F 0 0 (by omega) (Nat.le_refl 0) bX bM now (fun c hc => (f2 c hc).trans (g2 c hc).symm) (fun c hc => ⟨0, Nat.le_refl 0, (f2 c hc).trans nI_0.symm⟩) (fun e h => absurd h (by omega)) (fun e _ h => hnow e h)
    have hFU : F < FU := by have : FU = 200000 := rfl; omega
    have hmost : fX3_mostNow now (nI F) byM = some (nI ω', now', byM') := by
      unfold fX3_mostNow
      rw [nI_0] at g1
      rw [g1]
      have := k4 FU hFU
      rw [nI_0] at this
      exact this
    -- what both keep
    have hkeep : (least ≤ nI ω' ↔ few ≤ nI ω') ∧ lst least ω' = lst few ω' := by
      rcases hrel with ⟨-, h1, h2⟩ | h
      · subst h1 h2
        have a1 : ¬ (1000000 : Int32) ≤ nI ω' := nI_ge (a := ω') (b := 1000000) (by omega) (by decide)
        have a2 : ¬ nI (F + 1) ≤ nI ω' := nI_ge (a := ω') (b := F + 1) (by omega) (by omega)
        refine ⟨⟨fun h => absurd h a1, fun h => absurd h a2⟩, ?_⟩
        rw [lst_M, lst_M, if_neg a1, if_neg a2]
      · subst h; exact ⟨Iff.rfl, rfl⟩
    obtain ⟨res, x1, x2⟩ := ih (s + 1) (by omega) (if least ≤ nI ω' then wh else nI s) (lst least ω') (lst few ω') byX' byM' now' (Or.inr hkeep.2) k2
    refine ⟨res, fun n hn r cc dd ii q => ?_, fun n hn mfit => ?_⟩
    · obtain ⟨n, rfl⟩ : ∃ m, n = m + 1 := ⟨n - 1, by omega⟩
      obtain ⟨r1, c1, d1, i1, q1, e⟩ := k3 FU hFU (fun y0 y1 y2 y3 y4 y5 y6 y7 y8 y9 y10 => fX0_ask_L57 v1 S step cell n y0 y1 y2 y3 y4 y5 y6 y7 y8 y9 y10) wh least r cc dd ii q
      obtain ⟨r', c', d', i', q', byX2, ex⟩ := x1 n (by omega) r1 c1 d1 i1 q1
      refine ⟨r', c', d', i', q', byX2, ?_⟩
      rw [← ex]
      conv => lhs; unfold fX0_ask_L57
      rw [if_neg h60, if_neg hF0, f1, Option.bind_some]
      rw [nI_0] at e
      rw [e]
      unfold lst
      by_cases z : least ≤ nI ω'
      · rw [if_pos z, if_pos z]
      · rw [if_neg z, if_neg z]
    · obtain ⟨n, rfl⟩ : ∃ m, n = m + 1 := ⟨n - 1, by omega⟩
      obtain ⟨now2, byM2, ex⟩ := x2 n (by omega) mfit
      refine ⟨now2, byM2, ?_⟩
      rw [← ex, lst_M]
      conv => lhs; unfold fX3_ask_L30
      rw [if_neg h60, if_neg hF0, hmost, Option.bind_some]
      simp only
      unfold fX3_ask_L62
      by_cases z : few ≤ nI ω'
      · rw [if_pos z, if_pos z, if_pos z, if_pos (hkeep.1.mpr z), nI_1]
      · rw [if_neg z, if_neg z, if_neg z, if_neg (fun h => z (hkeep.1.mp h)), nI_1]
