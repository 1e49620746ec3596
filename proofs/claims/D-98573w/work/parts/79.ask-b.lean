/-! CLASSES: x is asked: answers out of one night -/
set_option maxRecDepth 100000
theorem sp_oF_or : ∀ (n i p : Nat) (M : wt_It), (sp_oF n i p M).1 = -1 ∨ ∃ j, j < i + n ∧ (sp_oF n i p M).1 = nI j := by
  intro n
  induction n with
  | zero => intro i p M; exact Or.inl rfl
  | succ n ih =>
    intro i p M
    rw [sp_oF]
    split
    · exact Or.inr ⟨i, by omega, rfl⟩
    · rcases ih (i + 1) p _ with h | ⟨j, hj, e⟩
      · exact Or.inl h
      · exact Or.inr ⟨j, by omega, e⟩
theorem cf_chv (z : Int32) (h : z = -1 ∨ ∃ j, j < 11 ∧ z = nI j) : (if z = -1 then -1 else (if nI 0 < z - nI 1 then z - nI 1 else nI 0)) = if z ≤ 0 then z else z - nI 1 := by
  rcases h with rfl | ⟨j, hj, rfl⟩
  · decide
  · have : j = 0 ∨ j = 1 ∨ j = 2 ∨ j = 3 ∨ j = 4 ∨ j = 5 ∨ j = 6 ∨ j = 7 ∨ j = 8 ∨ j = 9 ∨ j = 10 := by omega
    rcases this with rfl | rfl | rfl | rfl | rfl | rfl | rfl | rfl | rfl | rfl | rfl <;> decide
section AB
variable {l : Launch} {G : wt_G} {B : cB} {M : wt_It} {q : Nat → Nat} {v ro ow ri ru : Nat} {Z : Heap → Prop}
theorem ct_X1_changes (hEv : cEv l G) (h : cN0 G B M q v ro ow ri ru) (p : Int32) : xt_Ct l G yX1_changes cX1_changes 4 (some .int) 105 21 168 [.ref (q 0), .int p] (cz G B) (xt_pi (0 ≤ p ∧ p < nI ri) (sp_chv M (nn p)) (xa G B v)) (xt_PB xNSE (fun H => ¬ (0 ≤ p ∧ p < nI ri) ∧ cz G B H)) := by
  have hX := hEv.1
  have hY := h.2.1
  have hri : ri ≤ 8 := h.2.2.2.2.1.2.2.2.1
  have how : ow ≤ 5 := h.2.2.2.2.1.2.2.1
  have hro : ro ≤ 10 := h.2.2.2.2.1.2.1
  refine xt_enter [some (.ref (q 0)), some (.int p), none, none] (by decide +kernel) rfl (Nat.le_of_ble_eq_true rfl) (fun X hc hok => ?_)
  refine wt_aload_0 (pc := 0) hc dX1_changes_0 ?_
  refine wt_iload_1 (pc := 1) hc dX1_changes_1 ?_
  refine xt_goPr hc hok (xt_invV (pc := 2) 1 hc (ct_X1_aRider hEv hY hri p) dX1_changes_2 rfl (fun s H => cz_recv cP0 (hY.kx) s H) q1370 q1372 qs45 q111 q1373 (by decide +kernel) rfl (by first | decide | omega) (by decide) (Nat.le_of_ble_eq_true rfl) rfl) (by decide) (by decide) (fun _ _ _ h => h) (fun hP => ?_)
  obtain ⟨k, hk, rfl⟩ := cf_in hP (by omega)
  rw [nn_nI (by omega)] at hok ⊢
  refine wt_astore_2 (pc := 5) hc dX1_changes_5 rfl ?_
  refine wt_aload_0 (pc := 6) hc dX1_changes_6 ?_
  refine wt_gor (wt_invV (pc := 7) 0 hc (ct_X1_night hX hEv.2.1.1 hEv.2.1.2.1 h) dX1_changes_7 rfl (fun s H => cz_recv cP0 (hY.kx) s H) q463 q465 qs6 q111 q466 (by decide +kernel) rfl (by first | decide | omega) (by decide) (Nat.le_of_ble_eq_true rfl) rfl) (by decide) (by decide) (fun r => ?_)
  refine wt_exN (fun S D D' hN => ?_)
  obtain ⟨⟨t1, t2, t3, t4, t5, t6, t7⟩, rfl, hRn⟩ := hN
  have hE := t1.1
  have hRq := hRn.rq t7
  have hb0 := bB_ext hE (D := D') (D' := D') (fun _ _ => rfl)
  refine wt_aload_2 (pc := 10) hc dX1_changes_10 ?_
  refine wt_gofnK (wt_invV (pc := 11) 1 hc (ct_X11_rides hX k t1 (Nat.le_refl _) t2 t3 hk hRq.1) dX1_changes_11 rfl (fun s H => cz_recv cP3 (t2.n) s H) q1419 q1420 q1421 q143 q1422 (by decide +kernel) rfl (by first | decide | omega) (by decide) (Nat.le_of_ble_eq_true rfl) rfl) (by decide) (by decide) ?_
  have hv : sp_chv M k = if (sp_oF 11 0 k (sp_waits (sp_night M) k 60)).1 = -1 then -1 else (if nI 0 < (sp_oF 11 0 k (sp_waits (sp_night M) k 60)).1 - nI 1 then (sp_oF 11 0 k (sp_waits (sp_night M) k 60)).1 - nI 1 else nI 0) := (cf_chv _ (sp_oF_or 11 0 k _)).symm
  have hor := sp_oF_or 11 0 k (sp_waits (sp_night M) k 60)
  generalize (sp_oF 11 0 k (sp_waits (sp_night M) k 60)).1 = z at hv hor ⊢
  rw [hv] at hok
  by_cases hz : z = -1
  · rw [if_pos hz] at hok ⊢
    refine wt_istore_3 (pc := 14) hc dX1_changes_14 rfl ?_
    refine wt_iload_3 (pc := 15) hc dX1_changes_15 ?_
    refine wt_ldc (pc := 16) (v := nI 1000000) hc dX1_changes_16 q664 ?_
    refine wt_icmp_ne (pc := 18) 25 hc dX1_changes_18 (by decide) (fun c_18 => ?_) (fun c_18 => ?_)
    · exact absurd rfl c_18
    · refine wt_iconst (pc := 21) (v := (-1 : Int32)) hc dX1_changes_21 (by decide) ?_
      refine wt_goto (pc := 22) 32 hc dX1_changes_22 (by decide) ?_
      exact xt_ret hc hok (fun X hc hok => wt_iret (pc := 32) hc hok dX1_changes_32 (rfl) (fun H hZ => ⟨hP, rfl, t5.back hE (by decide) t6 hZ⟩))
  · rw [if_neg hz] at hok ⊢
    have hne : ¬ z = nI 1000000 := by
      rcases hor with e | ⟨j, hj, e⟩
      · exact absurd e hz
      · rw [e]; exact fun y => absurd ((nI_eq (by omega) (by omega)).mp y) (by omega)
    refine wt_istore_3 (pc := 14) hc dX1_changes_14 rfl ?_
    refine wt_iload_3 (pc := 15) hc dX1_changes_15 ?_
    refine wt_ldc (pc := 16) (v := nI 1000000) hc dX1_changes_16 q664 ?_
    refine wt_icmp_ne (pc := 18) 25 hc dX1_changes_18 (by decide) (fun c_18 => ?_) (fun c_18 => ?_)
    · refine wt_iconst (pc := 25) (v := nI 0) hc dX1_changes_25 (by decide) ?_
      refine wt_iload_3 (pc := 26) hc dX1_changes_26 ?_
      refine wt_iconst (pc := 27) (v := nI 1) hc dX1_changes_27 (by decide) ?_
      refine wt_isub (pc := 28) hc dX1_changes_28 ?_
      refine cv_mmax (pc := 29) hc dX1_changes_29 q1423 q355 q122 q356 (by decide) (Nat.le_of_ble_eq_true rfl) rfl ?_
      exact xt_ret hc hok (fun X hc hok => wt_iret (pc := 32) hc hok dX1_changes_32 (rfl) (fun H hZ => ⟨hP, rfl, t5.back hE (by decide) t6 hZ⟩))
    · exact absurd c_18 hne
theorem ct_X1_cheapest (hEv : cEv l G) (h : cN0 G B M q v ro ow ri ru) (hkd : sp_kd M ow) (p : Int32) : xt_Ct l G yX1_cheapest cX1_cheapest 3 (some .int) 105 48 456 [.ref (q 0), .int p] (cz G B) (xt_pi (0 ≤ p ∧ p < nI ri) (if cf_ck (M 0 6) (nn (M 11 (4 * nn p + 1))) ow 28 0 (sp_cp0 (sp_night M) (nn p)) < 1000000 then cf_ck (M 0 6) (nn (M 11 (4 * nn p + 1))) ow 28 0 (sp_cp0 (sp_night M) (nn p)) else -1) (xa G B v)) (xt_PB xNSE (fun H => ¬ (0 ≤ p ∧ p < nI ri) ∧ cz G B H)) := by
  have hX := hEv.1
  have hY := h.2.1
  have hri : ri ≤ 8 := h.2.2.2.2.1.2.2.2.1
  have how : ow ≤ 5 := h.2.2.2.2.1.2.2.1
  have hro : ro ≤ 10 := h.2.2.2.2.1.2.1
  refine xt_enter [some (.ref (q 0)), some (.int p), none] (by decide +kernel) rfl (Nat.le_of_ble_eq_true rfl) (fun X hc hok => ?_)
  refine wt_aload_0 (pc := 0) hc dX1_cheapest_0 ?_
  refine wt_iload_1 (pc := 1) hc dX1_cheapest_1 ?_
  refine xt_goPr hc hok (xt_invV (pc := 2) 1 hc (ct_X1_aRider hEv hY hri p) dX1_cheapest_2 rfl (fun s H => cz_recv cP0 (hY.kx) s H) q1370 q1372 qs45 q111 q1373 (by decide +kernel) rfl (by first | decide | omega) (by decide) (Nat.le_of_ble_eq_true rfl) rfl) (by decide) (by decide) (fun _ _ _ h => h) (fun hP => ?_)
  obtain ⟨k, hk, rfl⟩ := cf_in hP (by omega)
  rw [nn_nI (by omega)] at hok ⊢
  refine wt_astore_2 (pc := 5) hc dX1_cheapest_5 rfl ?_
  refine wt_aload_0 (pc := 6) hc dX1_cheapest_6 ?_
  refine wt_gor (wt_invV (pc := 7) 0 hc (ct_X1_night hX hEv.2.1.1 hEv.2.1.2.1 h) dX1_cheapest_7 rfl (fun s H => cz_recv cP0 (hY.kx) s H) q463 q465 qs6 q111 q466 (by decide +kernel) rfl (by first | decide | omega) (by decide) (Nat.le_of_ble_eq_true rfl) rfl) (by decide) (by decide) (fun r => ?_)
  refine wt_exN (fun S D D' hN => ?_)
  obtain ⟨⟨t1, t2, t3, t4, t5, t6, t7⟩, rfl, hRn⟩ := hN
  have hE := t1.1
  have hRq := hRn.rq t7
  obtain ⟨-, b, hb, eb⟩ := t3.rid k hk
  rw [eb, nn_nI (by omega)] at hok
  refine wt_aload_2 (pc := 10) hc dX1_cheapest_10 ?_
  refine wt_gofnK (wt_invV (pc := 11) 1 hc (ct_X11_cheapest hX hEv.2.1.2.1 k t1 (Nat.le_refl _) t2 t3 hkd hk b hb eb hRq.1 hRq.2) dX1_cheapest_11 rfl (fun s H => cz_recv cP3 (t2.n) s H) q1431 q1432 q1433 q143 q1434 (by decide +kernel) rfl (by first | decide | omega) (by decide) (Nat.le_of_ble_eq_true rfl) rfl) (by decide) (by decide) ?_
  refine wt_gofn (wt_invS (pc := 14) 1 hc (ct_X1_told _) dX1_cheapest_14 rfl q1409 q1410 q111 q1411 (by decide +kernel) rfl (by first | decide | omega) (by decide) (Nat.le_of_ble_eq_true rfl) rfl) ?_
  exact xt_ret hc hok (fun X hc hok => wt_iret (pc := 17) hc hok dX1_cheapest_17 (rfl) (fun H hZ => ⟨hP, rfl, t5.back hE (by decide) t6 hZ⟩))
theorem ct_X1_last (hEv : cEv l G) (h : cN0 G B M q v ro ow ri ru) (p : Int32) : xt_Ct l G yX1_last cX1_last 3 (some .int) 105 19 148 [.ref (q 0), .int p] (cz G B) (xt_pi (0 ≤ p ∧ p < nI ri) (sp_lav M (nn p)) (xa G B v)) (xt_PB xNSE (fun H => ¬ (0 ≤ p ∧ p < nI ri) ∧ cz G B H)) := by
  have hX := hEv.1
  have hY := h.2.1
  have hri : ri ≤ 8 := h.2.2.2.2.1.2.2.2.1
  have how : ow ≤ 5 := h.2.2.2.2.1.2.2.1
  have hro : ro ≤ 10 := h.2.2.2.2.1.2.1
  refine xt_enter [some (.ref (q 0)), some (.int p), none] (by decide +kernel) rfl (Nat.le_of_ble_eq_true rfl) (fun X hc hok => ?_)
  refine wt_aload_0 (pc := 0) hc dX1_last_0 ?_
  refine wt_iload_1 (pc := 1) hc dX1_last_1 ?_
  refine xt_goPr hc hok (xt_invV (pc := 2) 1 hc (ct_X1_aRider hEv hY hri p) dX1_last_2 rfl (fun s H => cz_recv cP0 (hY.kx) s H) q1370 q1372 qs45 q111 q1373 (by decide +kernel) rfl (by first | decide | omega) (by decide) (Nat.le_of_ble_eq_true rfl) rfl) (by decide) (by decide) (fun _ _ _ h => h) (fun hP => ?_)
  obtain ⟨k, hk, rfl⟩ := cf_in hP (by omega)
  rw [nn_nI (by omega)] at hok ⊢
  refine wt_astore_2 (pc := 5) hc dX1_last_5 rfl ?_
  refine wt_aload_0 (pc := 6) hc dX1_last_6 ?_
  refine wt_gor (wt_invV (pc := 7) 0 hc (ct_X1_night hX hEv.2.1.1 hEv.2.1.2.1 h) dX1_last_7 rfl (fun s H => cz_recv cP0 (hY.kx) s H) q463 q465 qs6 q111 q466 (by decide +kernel) rfl (by first | decide | omega) (by decide) (Nat.le_of_ble_eq_true rfl) rfl) (by decide) (by decide) (fun r => ?_)
  refine wt_exN (fun S D D' hN => ?_)
  obtain ⟨⟨t1, t2, t3, t4, t5, t6, t7⟩, rfl, hRn⟩ := hN
  have hE := t1.1
  have hRq := hRn.rq t7
  refine wt_aload_2 (pc := 10) hc dX1_last_10 ?_
  refine wt_gofn (wt_invV (pc := 11) 1 hc (ct_X11_last hX k hE (Nat.le_refl _) t2 t3 hk hRq.1) dX1_last_11 rfl (fun s H => cz_recv cP3 (t2.n) s H) q1446 q1447 q1448 q143 q1449 (by decide +kernel) rfl (by first | decide | omega) (by decide) (Nat.le_of_ble_eq_true rfl) rfl) ?_
  exact xt_ret hc hok (fun X hc hok => wt_iret (pc := 14) hc hok dX1_last_14 (rfl) (fun H hZ => (by obtain ⟨D2, -, hz⟩ := hZ; exact ⟨hP, by unfold sp_lav; rw [h.2.2.2.2.1.1.2.2.1, nn_nI (by omega)], t5.back hE (by decide) t6 hz⟩)))
theorem ct_X1_where (hEv : cEv l G) (h : cN0 G B M q v ro ow ri ru) (o m : Int32) : xt_Ct l G yX1_where cX1_where 3 (some .int) 105 19 148 [.ref (q 0), .int o, .int m] (cz G B) (xt_pi (0 ≤ o ∧ o < nI ow) (sp_wh (sp_night M) (nn o) m) (xa G B v)) (xt_PB xNSE (fun H => ¬ (0 ≤ o ∧ o < nI ow) ∧ cz G B H)) := by
  have hX := hEv.1
  have hY := h.2.1
  have hri : ri ≤ 8 := h.2.2.2.2.1.2.2.2.1
  have how : ow ≤ 5 := h.2.2.2.2.1.2.2.1
  have hro : ro ≤ 10 := h.2.2.2.2.1.2.1
  refine xt_enter [some (.ref (q 0)), some (.int o), some (.int m)] (by decide +kernel) rfl (Nat.le_of_ble_eq_true rfl) (fun X hc hok => ?_)
  refine wt_aload_0 (pc := 0) hc dX1_where_0 ?_
  refine wt_iload_1 (pc := 1) hc dX1_where_1 ?_
  refine xt_goPr hc hok (xt_invV (pc := 2) 1 hc (ct_X1_anOwl hEv hY how o) dX1_where_2 rfl (fun s H => cz_recv cP0 (hY.kx) s H) q1342 q1344 qs44 q111 q1345 (by decide +kernel) rfl (by first | decide | omega) (by decide) (Nat.le_of_ble_eq_true rfl) rfl) (by decide) (by decide) (fun _ _ _ h => h) (fun hP => ?_)
  obtain ⟨k, hk, rfl⟩ := cf_in hP (by omega)
  rw [nn_nI (by omega)] at hok
  refine wt_pop (pc := 5) hc dX1_where_5 rfl ?_
  refine wt_aload_0 (pc := 6) hc dX1_where_6 ?_
  refine wt_gor (wt_invV (pc := 7) 0 hc (ct_X1_night hX hEv.2.1.1 hEv.2.1.2.1 h) dX1_where_7 rfl (fun s H => cz_recv cP0 (hY.kx) s H) q463 q465 qs6 q111 q466 (by decide +kernel) rfl (by first | decide | omega) (by decide) (Nat.le_of_ble_eq_true rfl) rfl) (by decide) (by decide) (fun r => ?_)
  refine wt_exN (fun S D D' hN => ?_)
  obtain ⟨⟨t1, t2, t3, t4, t5, t6, t7⟩, rfl, hRn⟩ := hN
  have hE := t1.1
  have hRq := hRn.rq t7
  refine wt_iload_1 (pc := 10) hc dX1_where_10 ?_
  refine wt_iload_2 (pc := 11) hc dX1_where_11 ?_
  refine wt_gofn (wt_invV (pc := 12) 2 hc (ct_X11_whereQ hX k m hE (Nat.le_refl _) t2 t3 hk hRq.1) dX1_where_12 rfl (fun s H => cz_recv cP3 (t2.n) s H) q691 q692 q693 q143 q694 (by decide +kernel) rfl (by first | decide | omega) (by decide) (Nat.le_of_ble_eq_true rfl) rfl) ?_
  exact xt_ret hc hok (fun X hc hok => wt_iret (pc := 15) hc hok dX1_where_15 (rfl) (fun H hZ => ⟨hP, rfl, t5.back hE (by decide) t6 hZ⟩))
theorem ct_X1_never (hEv : cEv l G) (h : cN0 G B M q v ro ow ri ru) : wt_Ct l G yX1_never cX1_never 4 (some .int) 105 18 142 [.ref (q 0)] (cz G B) (wt_fn (sp_nvL (nn (M 0 4)) 0 (nI 0) (sp_night M)).1 (xa G B v)) := by
  have hX := hEv.1
  have hY := h.2.1
  have hri : ri ≤ 8 := h.2.2.2.2.1.2.2.2.1
  have how : ow ≤ 5 := h.2.2.2.2.1.2.2.1
  have hro : ro ≤ 10 := h.2.2.2.2.1.2.1
  have e4 : M 0 4 = nI ri := h.2.2.2.2.1.1.2.2.2.1
  rw [e4, nn_nI (by omega)]
  refine wt_enter [some (.ref (q 0)), none, none, none] (by decide +kernel) rfl (Nat.le_of_ble_eq_true rfl) (fun X hc hok => ?_)
  refine wt_aload_0 (pc := 0) hc dX1_never_0 ?_
  refine wt_gor (wt_invV (pc := 1) 0 hc (ct_X1_night hX hEv.2.1.1 hEv.2.1.2.1 h) dX1_never_1 rfl (fun s H => cz_recv cP0 (hY.kx) s H) q463 q465 qs6 q111 q466 (by decide +kernel) rfl (by first | decide | omega) (by decide) (Nat.le_of_ble_eq_true rfl) rfl) (by decide) (by decide) (fun r => ?_)
  refine wt_exN (fun S D D' hN => ?_)
  obtain ⟨⟨t1, t2, t3, t4, t5, t6, t7⟩, rfl, hRn⟩ := hN
  have hE := t1.1
  have hRq := hRn.rq t7
  have loop : ∀ (n p : Nat) (a : Int32) (Q' E : wt_It), p + n = ri → (∀ k, k ≠ 60 → Q' k = sp_night M k) → (∀ k, k ≠ 18 → E k = D' k) → (sp_nvL ri 0 (nI 0) (sp_night M)).1 = (sp_nvL n p a Q').1 → wt_V G X 9 [some (.ref (q 0)), some (.ref (S.2.1 1)), some (.int a), some (.int (nI p))] [] (cz G (bB S E)) 0 0 := by
    intro n
    induction n with
    | zero =>
      intro p a Q' E hi hQ hD hv
      refine wt_iload_3 (pc := 9) hc dX1_never_9 ?_
      refine wt_aload_0 (pc := 10) hc dX1_never_10 ?_
      refine cv_getr (pc := 11) (b := q 1) 0 hc cP0 (t3.kx) dX1_never_11 q242 (by decide) (Or.inl rfl) (fun _ _ _ => rfl) (t3.xc) ?_
      refine cv_getrN (pc := 14) (b := q 5) 3 hc cP1 (t3.c) dX1_never_14 q203 (by decide) (Or.inl rfl) (fun _ _ _ => rfl) (t3.cr) ?_
      refine wt_gofn (wt_invF (pc := 17) 0 hc cP11 (t3.rs) (ct_sL (t3.rl _)) dX1_never_17 rfl q314 q318 q320 q115 q322 (hX.F_J2_size) (by decide +kernel) rfl (by first | decide | omega) (by decide) (Nat.le_of_ble_eq_true rfl) rfl) ?_
      refine wt_nicmp_ge (pc := 22) 62 (p) (ri) hc dX1_never_22 (by decide) (by omega) (by omega) (fun c_22 => ?_) (fun c_22 => ?_)
      · refine wt_iload_2 (pc := 62) hc dX1_never_62 ?_
        exact wt_iret (pc := 63) hc hok dX1_never_63 (rfl) (fun H hZ => ⟨by rw [hv]; rfl, t5.back hE (by decide) t6 hZ⟩)
      · omega
    | succ n ih =>
      intro p a Q' E hi hQ hD hv
      rw [sp_nvL] at hv
      have hR' : cRq E M Q' ow := (hRq.1.q (fun k hk => hQ k (by omega))).d how (fun k hk => hD k (by omega))
      have hD2 : ∀ k, k ≠ 18 → sp_fill E 18 10 (fun j => sp_rides Q' p 60 (0 + j)) k = D' k := fun k hk => (sp_fill_row hk).trans (hD k hk)
      refine wt_iload_3 (pc := 9) hc dX1_never_9 ?_
      refine wt_aload_0 (pc := 10) hc dX1_never_10 ?_
      refine cv_getr (pc := 11) (b := q 1) 0 hc cP0 (t3.kx) dX1_never_11 q242 (by decide) (Or.inl rfl) (fun _ _ _ => rfl) (t3.xc) ?_
      refine cv_getrN (pc := 14) (b := q 5) 3 hc cP1 (t3.c) dX1_never_14 q203 (by decide) (Or.inl rfl) (fun _ _ _ => rfl) (t3.cr) ?_
      refine wt_gofn (wt_invF (pc := 17) 0 hc cP11 (t3.rs) (ct_sL (t3.rl _)) dX1_never_17 rfl q314 q318 q320 q115 q322 (hX.F_J2_size) (by decide +kernel) rfl (by first | decide | omega) (by decide) (Nat.le_of_ble_eq_true rfl) rfl) ?_
      refine wt_nicmp_ge (pc := 22) 62 (p) (ri) hc dX1_never_22 (by decide) (by omega) (by omega) (fun c_22 => ?_) (fun c_22 => ?_)
      · omega
      · refine wt_aload_1 (pc := 25) hc dX1_never_25 ?_
        refine wt_aload_0 (pc := 26) hc dX1_never_26 ?_
        refine cv_getr (pc := 27) (b := q 1) 0 hc cP0 (t3.kx) dX1_never_27 q242 (by decide) (Or.inl rfl) (fun _ _ _ => rfl) (t3.xc) ?_
        refine cv_getrN (pc := 30) (b := q 5) 3 hc cP1 (t3.c) dX1_never_30 q203 (by decide) (Or.inl rfl) (fun _ _ _ => rfl) (t3.cr) ?_
        refine wt_iload_3 (pc := 33) hc dX1_never_33 ?_
        refine wt_gofr (wt_invF (pc := 34) 1 hc cP11 (t3.rs) (ct_gL (t3.rl _) (by omega)) dX1_never_34 rfl q446 q449 q451 q115 q453 (hX.F_J2_get) (by decide +kernel) rfl (by first | decide | omega) (by decide) (Nat.le_of_ble_eq_true rfl) rfl) ?_
        refine cv_castA (pc := 39) hc (t3.rk p (by omega)) (by decide +kernel) dX1_never_39 q444 ?_
        refine wt_gofn (wt_invV (pc := 42) 1 hc (ct_X11_home hX p hE (Nat.le_refl _) t2 t3 (by omega) hR') dX1_never_42 rfl (fun s H => cz_recv cP3 (t2.n) s H) q647 q648 q649 q143 q650 (by decide +kernel) rfl (by first | decide | omega) (by decide) (Nat.le_of_ble_eq_true rfl) rfl) ?_
        refine wt_ldc (pc := 45) (v := nI 1000000) hc dX1_never_45 q664 ?_
        refine wt_icmp_lt (pc := 47) 56 hc dX1_never_47 (by decide) (fun c_47 => ?_) (fun c_47 => ?_)
        · refine wt_iinc_3 (pc := 56) (v := nI (p + 1)) hc dX1_never_56 (nI_add p 1) rfl ?_
          refine wt_goto (pc := 59) 9 hc dX1_never_59 (by decide) ?_
          first | (rw [if_pos c_47] at hv; exact ih (p + 1) _ _ _ (by omega) (fun k hk => (sp_rides_row hk).trans (hQ k hk)) hD2 (hv.trans (by rw [show a ||| nI 0 = a from Int32.or_zero]))) | (rw [if_neg c_47] at hv; exact ih (p + 1) _ _ _ (by omega) (fun k hk => (sp_rides_row hk).trans (hQ k hk)) hD2 hv)
        · refine wt_iload_2 (pc := 50) hc dX1_never_50 ?_
          refine wt_iconst (pc := 51) (v := nI 1) hc dX1_never_51 (by decide) ?_
          refine wt_iload_3 (pc := 52) hc dX1_never_52 ?_
          refine wt_ishl (pc := 53) hc dX1_never_53 ?_
          refine wt_ior (pc := 54) hc dX1_never_54 ?_
          refine wt_istore_2 (pc := 55) hc dX1_never_55 rfl ?_
          refine wt_iinc_3 (pc := 56) (v := nI (p + 1)) hc dX1_never_56 (nI_add p 1) rfl ?_
          refine wt_goto (pc := 59) 9 hc dX1_never_59 (by decide) ?_
          first | (rw [if_pos c_47] at hv; exact ih (p + 1) _ _ _ (by omega) (fun k hk => (sp_rides_row hk).trans (hQ k hk)) hD2 (hv.trans (by rw [show a ||| nI 0 = a from Int32.or_zero]))) | (rw [if_neg c_47] at hv; exact ih (p + 1) _ _ _ (by omega) (fun k hk => (sp_rides_row hk).trans (hQ k hk)) hD2 hv)
  refine wt_astore_1 (pc := 4) hc dX1_never_4 rfl ?_
  refine wt_iconst (pc := 5) (v := nI 0) hc dX1_never_5 (by decide) ?_
  refine wt_istore_2 (pc := 6) hc dX1_never_6 rfl ?_
  refine wt_iconst (pc := 7) (v := nI 0) hc dX1_never_7 (by decide) ?_
  refine wt_istore_3 (pc := 8) hc dX1_never_8 rfl ?_
  exact wt_less (Nat.zero_le _) (Nat.zero_le _) (loop ri 0 (nI 0) (sp_night M) D' (by omega) (fun _ _ => rfl) (fun _ _ => rfl) rfl)
end AB
