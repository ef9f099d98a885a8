set_option maxRecDepth 100000
theorem rel0 : Rel tc0 0 0 0 0 (fun _ => 0) (fun _ => 0) tc0 0 0 0 0 (fun _ => 0) (fun _ => 0) 0 tc0 0 0 0 0 (fun _ => 0) (fun _ => 0) 0 0 (fun _ => 0) tc0m 0 0 0 (fun _ => 0) (fun _ => 0) 0 (fun _ => 0) 0 (fun _ => 0) (fun _ => 0) := by
  have hT : ∀ i, i < 3 → tc0 i = tc0m i := by decide +kernel
  have hO : OkT tc0 0 (fun _ => 0) := by
    refine ⟨⟨?_, ?_⟩, ⟨by decide, by decide⟩, fun i _ => ⟨by show (0 : Int32) ≤ 0; decide, by show (0 : Int32) ≤ 60; decide⟩⟩
    · intro b hb
      right
      unfold OpenC
      revert b
      decide +kernel
    · have : ∀ a, a < 3 → ∀ b, b < 3 → a ≠ b → tc0 a = tc0 b → tc0 a = -6 := by decide +kernel
      exact fun a b ha hb h1 h2 => this a ha b hb h1 h2
  exact ⟨⟨hT, rfl, rfl, rfl, rfl, fun _ _ => rfl, fun _ _ => rfl, hO⟩, ⟨rfl, ⟨by decide, by decide⟩, fun _ _ => rfl⟩, ⟨rfl, Or.inl rfl, fun h => absurd h (by decide)⟩, ⟨rfl, Or.inl rfl, fun h => absurd h (by decide)⟩⟩
theorem start_KK {s : State} {b : Nat} (hts0 : ∀ w ∈ lw_tbl, w.before #[Value.ref b] s = true) : ∃ (D : va_G) (E : Nat → ClassId), KK D E s := by
  obtain ⟨c0, iS0, hKn0⟩ := u_known (C := RX0) (T := TX0) (N := 18) (n := 18) hts0 (fun w h => lw_all_tbl (in_X0 w h)) (hts0 _ (lw_all_tbl q51))
  obtain ⟨c1, iS1, hKn1⟩ := u_known (C := RX1) (T := TX1) (N := 11) (n := 11) hts0 (fun w h => lw_all_tbl (in_X1 w h)) (hts0 _ (lw_all_tbl q59))
  obtain ⟨c2, iS2, hKn2⟩ := u_known (C := RX2) (T := TX2) (N := 5) (n := 5) hts0 (fun w h => lw_all_tbl (in_X2 w h)) (hts0 _ (lw_all_tbl q65))
  obtain ⟨c3, iS3, hKn3⟩ := u_known (C := RX3) (T := TX3) (N := 42) (n := 42) hts0 (fun w h => lw_all_tbl (in_X3 w h)) (hts0 _ (lw_all_tbl q447))
  obtain ⟨ai, ki, mi, fi, gi, ei⟩ := Cond.arrayClass_spec (hts0 _ (lw_all_tbl q88))
  obtain ⟨az, kz, mz, fz, gz, ez⟩ := Cond.arrayClass_spec (hts0 _ (lw_all_tbl q194))
  obtain ⟨ac, kc, mc, fc, gc, ec⟩ := Cond.arrayClass_spec (hts0 _ (lw_all_tbl q193))
  obtain ⟨al, kl, ml, fl, gl, el⟩ := Cond.arrayClass_spec (hts0 _ (lw_all_tbl q195))
  obtain ⟨mt, at_, kt, ft, -, gt_, et, ht⟩ := Cond.arrayOver_spec (hts0 _ q135)
  refine ⟨(fun k => if k = 0 then c0 else if k = 1 then c1 else if k = 2 then c2 else c3, fun k => if k = 0 then iS0 else if k = 1 then iS1 else if k = 2 then iS2 else iS3), fun k => if k = 0 then ai else if k = 1 then az else if k = 2 then ac else if k = 3 then al else at_, ⟨?_, ?_⟩, ?_⟩
  · intro k q hq
    match k, hq with
    | 0, hq => cases hq; exact hKn0
    | 1, hq => cases hq; exact hKn1
    | 2, hq => cases hq; exact hKn2
    | 3, hq => cases hq; exact hKn3
    | k + 4, hq => simp [vwCl] at hq
  · intro k q hq
    match k, hq with
    | 0, hq => cases hq; exact ⟨fun n z => ⟨fun k h => (by cases h), ki, gi, mi, ei⟩, fi⟩
    | 1, hq => cases hq; exact ⟨fun n z => ⟨fun k h => (by cases h), kz, gz, mz, ez⟩, fz⟩
    | 2, hq => cases hq; exact ⟨fun n z => ⟨fun k h => (by cases h), kc, gc, mc, ec⟩, fc⟩
    | 3, hq => cases hq; exact ⟨fun n z => ⟨fun k h => (by cases h), kl, gl, ml, el⟩, fl⟩
    | 4, hq => cases hq; exact ⟨fun n z => ⟨fun k h => (by cases h), kt, gt_, mt, et⟩, kt, mt, gt_, et, ft, ht⟩
    | k + 5, hq => simp [Tys] at hq
  · exact ⟨va_Nw.of rfl (hts0 _ q66), va_Nw.of rfl (hts0 _ q75), va_Nw.of rfl (hts0 _ q76), va_Nw.of rfl (hts0 _ q89), va_Nw.of rfl (hts0 _ q93), va_Nw.of rfl (hts0 _ q95), va_Nw.of rfl (hts0 _ q97), va_Nw.of rfl (hts0 _ q99), va_Nw.of rfl (hts0 _ q101), va_Nw.of rfl (hts0 _ q103), va_Nw.of rfl (hts0 _ q105), va_Nw.of rfl (hts0 _ q106), va_Nw.of rfl (hts0 _ q108), va_Nw.of rfl (hts0 _ q110), va_Nw.of rfl (hts0 _ q137), va_Nw.of rfl (hts0 _ q262), va_Nw.of rfl (hts0 _ q284), va_Nw.of rfl (hts0 _ q285), va_Nw.of rfl (hts0 _ q288), va_AO.of (hts0 _ q135)⟩
set_option maxHeartbeats 8000000 in
set_option maxRecDepth 100000 in
theorem law_open (o_ball : Op_ball) (o_score : Op_score) (o_say : Op_say) (o_wipe : Op_wipe) (o_fault : Op_fault) (o_judge : Op_judge) (o_behind : Op_behind) (o_table : Op_table) (o_candour : Op_candour) (o_done : Op_done) (o_hint : Op_hint) (o_alone : Op_alone) (o_strokes : Op_strokes) (o_seen : Op_seen) (o_forget : Op_forget) (o_sent : Op_sent) (o_ask : Op_ask) (o_chalk : Op_chalk) (o_match : Op_match) (o_season : Op_season) (o_image : Op_image) (o_restore : Op_restore) (o_told : Op_told) {p : Program} {e : Env} {s : State} {m : MethodId} {below : List Frame} {meth : Method} {c : Code} (l : Launch) {b L : Nat} {xs : Nat → Int32} (hL : L ≤ 448) (C0 : lw_At p s m meth c b L xs) : W p l e room_1 s m #[Value.ref b] below meth c s.heap [] 0 0 (lw_Z below #[Value.ref b] s) (entryFrame m ([Value.ref b] : List Value).toArray 4) := by
  obtain ⟨hx, hb, hr, hml, hown, hts0, hX, hbl, hlocks, -⟩ := C0
  have hts : ∀ w ∈ lw_all, w.before #[Value.ref b] s = true := fun w h => hts0 w (lw_all_tbl h)
  obtain ⟨D, E, hK⟩ := start_KK hts0
  obtain ⟨A, hAe⟩ : ∃ A : Nat → Prop, A = fun q => s.heap.size ≤ q := ⟨_, rfl⟩
  have hA : ∀ q, s.heap.size ≤ q → A q := fun q h => by rw [hAe]; exact h
  have hbA : ¬ A b := by rw [hAe]; exact Nat.not_le.mpr hbl
  have hC : Cx p m c code 4 s #[Value.ref b] R_law D E A := ⟨⟨hx, hb, hml, hown, hts⟩, hK, hA⟩
  have hw : Wo D A s.heap s.heap [] [] := ⟨fun k q h => by simp at h, ⟨fun i j p q h => by simp at h, fun k q h => by simp at h⟩, va_S.rf⟩
  have hl := lv_entry ([Value.ref b]) (n := 4) (Nat.le_of_ble_eq_true rfl)
  rw [lg_entry_eq]
  generalize (lg_sl ([Value.ref b]) ++ List.replicate (4 - (lg_sl ([Value.ref b])).length) Slot.unset).toArray = ls at hl ⊢
  have hl : lv_has ls 4 [(0, .ref b)] := hl
  generalize ([] : List Loc) = locs at hw ⊢
  refine va_new (ci := 0) (fs := [.null, .null, .null, .int 0, .null, .int 0, .int 0, .int 0, .null, .null, .null, .null, .null, .int 0, .null, .null, .null, .null]) (C := RX0) (T := TX0) (N := 18) hx hb hts in_X0 tyX0 tyX0_ok hown (hts _ q50) (hts _ q51) (hts _ q43) hC.2.1.1 hw.1 hw.2.1 hw.2.2 hC.2.2 rfl (by decide +kernel) (by decide) (by decide) dL_law_0 (fun q0 H hP hD hS => ?_)
  have hw : Wo D A s.heap H locs [(q0, .inr (0, [.null, .null, .null, .int 0, .null, .int 0, .int 0, .int 0, .null, .null, .null, .null, .null, .int 0, .null, .null, .null, .null]))] := ⟨hP, hD, hS⟩
  refine lv_dup hx hb dL_law_3 rfl ?_
  refine callN (rest := [.ref q0]) 0 hC hw rfl (metX0_init) q54 q43 q52 q53 rfl (by decide +kernel) ⟨by decide, by decide⟩ hl.1 (Nat.le_of_ble_eq_true rfl) dL_law_4 ⟨by decide, by decide⟩ (fun u H locs hw => ?_)
  have hw : Wo D A s.heap H locs (WX0 (fun i => if i = 0 then q0 else u i) E tc0 0 0 0 0 (fun _ => 0) (fun _ => 0) 0 0 0 0 0 0 0 0 tc0 0 0 0 0 (fun _ => 0) (fun _ => 0) 0 0 0 0 0 0 0 0 tc0 0 0 0 0 (fun _ => 0) (fun _ => 0) 0 0 0 0 0 0 0 0 tc0 0 0 0 0 (fun _ => 0) (fun _ => 0) 0 0 0 0 0 0 0 0 0 (fun _ => 0) 0 0 0 0 0 0 0 0 (fun _ => 0) (fun _ => 0) (fun _ => 0) (fun _ => 0) 0 (fun _ => 0) (fun _ => 0) (fun _ => 0) (fun _ => 0)) := hw
  refine lv_astore_n (lv' := [(1, .ref q0), (0, .ref b)]) hx hb dL_law_7 rfl hl (by decide) rfl (fun ls hl => ?_)
  refine va_new (ci := 3) (fs := [.null, .int 0, .int 0, .int 0, .null, .null, .int 0, .null, .int 0, .null, .null, .null, .null, .int 0, .int 0, .int 0, .int 0, .int 0, .int 0, .int 0, .int 0, .int 0, .int 0, .int 0, .int 0, .null, .null, .int 0, .int 0, .int 0, .null, .null, .null, .null, .int 0, .null, .null, .null, .null, .null, .int 0, .int 0]) (C := RX3) (T := TX3) (N := 42) hx hb hts in_X3 tyX3 tyX3_ok hown (hts _ q446) (hts _ q447) (hts _ q46) hC.2.1.1 hw.1 hw.2.1 hw.2.2 hC.2.2 rfl (by decide +kernel) (by decide) (by decide) dL_law_8 (fun q3 H hP hD hS => ?_)
  have hw : Wo D A s.heap H locs ((WX0 (fun i => if i = 0 then q0 else u i) E tc0 0 0 0 0 (fun _ => 0) (fun _ => 0) 0 0 0 0 0 0 0 0 tc0 0 0 0 0 (fun _ => 0) (fun _ => 0) 0 0 0 0 0 0 0 0 tc0 0 0 0 0 (fun _ => 0) (fun _ => 0) 0 0 0 0 0 0 0 0 tc0 0 0 0 0 (fun _ => 0) (fun _ => 0) 0 0 0 0 0 0 0 0 0 (fun _ => 0) 0 0 0 0 0 0 0 0 (fun _ => 0) (fun _ => 0) (fun _ => 0) (fun _ => 0) 0 (fun _ => 0) (fun _ => 0) (fun _ => 0) (fun _ => 0)) ++ [(q3, .inr (3, [.null, .int 0, .int 0, .int 0, .null, .null, .int 0, .null, .int 0, .null, .null, .null, .null, .int 0, .int 0, .int 0, .int 0, .int 0, .int 0, .int 0, .int 0, .int 0, .int 0, .int 0, .int 0, .null, .null, .int 0, .int 0, .int 0, .null, .null, .null, .null, .int 0, .null, .null, .null, .null, .null, .int 0, .int 0]))]) := ⟨hP, hD, hS⟩
  refine lv_dup hx hb dL_law_11 rfl ?_
  refine callN (rest := [.ref q3]) 32 hC hw rfl (metX3_init) q450 q46 q448 q449 rfl (by decide +kernel) ⟨by decide, by decide⟩ hl.1 (Nat.le_of_ble_eq_true rfl) dL_law_12 ⟨by decide, by decide⟩ (fun v H locs hw => ?_)
  have hw : Wo D A s.heap H locs ((WX0 (fun i => if i = 0 then q0 else u i) E tc0 0 0 0 0 (fun _ => 0) (fun _ => 0) 0 0 0 0 0 0 0 0 tc0 0 0 0 0 (fun _ => 0) (fun _ => 0) 0 0 0 0 0 0 0 0 tc0 0 0 0 0 (fun _ => 0) (fun _ => 0) 0 0 0 0 0 0 0 0 tc0 0 0 0 0 (fun _ => 0) (fun _ => 0) 0 0 0 0 0 0 0 0 0 (fun _ => 0) 0 0 0 0 0 0 0 0 (fun _ => 0) (fun _ => 0) (fun _ => 0) (fun _ => 0) 0 (fun _ => 0) (fun _ => 0) (fun _ => 0) (fun _ => 0)) ++ (WX3 (fun i => if i = 0 then q3 else v i) E tc0m 0 0 0 (fun _ => 0) (fun _ => 0) 0 (fun _ => 0) 0 (fun _ => 0) (fun _ => 0) (fun _ => 0) (fun _ => 0) 0 0 0 0 0 0 0 0 0 0 0 0 (fun _ => 0) (fun _ => 0) 0 0 0 (fun _ => 0) (fun _ => 0) (fun _ => 0) (fun _ => 0) 0 (fun _ => 0) (fun _ => 0) (fun _ => 0) (fun _ => 0) (fun _ => 0) 0 0)) := hw
  refine lv_astore_n (lv' := [(2, .ref q3), (1, .ref q0), (0, .ref b)]) hx hb dL_law_15 rfl hl (by decide) rfl (fun ls hl => ?_)
  refine lv_iconst (v := 0) hx hb dL_law_16 rfl ?_
  refine lv_istore_n (lv' := [(3, .int 0), (2, .ref q3), (1, .ref q0), (0, .ref b)]) hx hb dL_law_17 rfl hl (by decide) rfl (fun ls hl => ?_)
  have hl : lv_has ls 4 [(0, .ref b), (1, .ref q0), (2, .ref q3), (3, .int 0)] := lv_sub hl [3, 2, 1, 0] rfl
  obtain ⟨h, hh⟩ : ∃ h : Nat → Nat, h = (fun i => if i = 0 then q0 else u i) := ⟨_, rfl⟩
  obtain ⟨g, hg⟩ : ∃ g : Nat → Nat, g = (fun i => if i = 0 then q3 else v i) := ⟨_, rfl⟩
  rw [← hh, ← hg] at hw
  have hl : lv_has ls 4 [(0, .ref b), (1, .ref (h 0)), (2, .ref (g 0)), (3, .int 0)] := by rw [hh, hg]; exact hl
  refine W.widen (k := 52) (n := 6349) (by decide) (by decide) ?_
  refine law_loop o_ball o_score o_say o_wipe o_fault o_judge o_behind o_table o_candour o_done o_hint o_alone o_strokes o_seen o_forget o_sent o_ask o_chalk o_match o_season o_image o_restore o_told hC hX hbl hbA ⟨by decide, by decide⟩ hr hL (fun H locs ls hS => ?_) (L + 8) 0 0 _ _ _ _ _ _ _ _ _ _ _ _ _ _ _ _ _ _ _ _ _ _ _ _ _ _ _ _ _ _ _ _ _ _ _ _ _ _ _ _ _ _ _ _ _ _ _ _ _ _ _ _ _ _ _ _ _ _ _ _ _ _ _ _ _ _ _ _ _ _ _ _ _ _ _ _ _ _ _ _ _ _ _ _ _ _ _ _ _ _ _ _ _ _ _ _ _ _ _ _ _ _ _ _ _ _ _ _ _ _ _ _ _ _ _ _ _ _ _ _ _ H locs ls (by omega) (by omega) nI_0.symm rel0 hw hl
  refine W.widen (k := 600000) (n := 7302250) (by decide) (by decide) ?_
  refine va_forget (fun q hq => ?_) (lw_ret hx hb hr hlocks dL_law_839)
  have := hS.2.2 q hq
  rw [hAe] at this
  exact this
