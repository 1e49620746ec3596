/-! CLASSES: x is asked: an owl, a stop, a roof -/
set_option maxRecDepth 100000
section AD
variable {l : Launch} {G : wt_G} {B : cB} {M : wt_It} {q : Nat → Nat} {v ro ow ri ru : Nat} {Z : Heap → Prop}
theorem ct_X1_owl (hEv : cEv l G) (h : cN0 G B M q v ro ow ri ru) (d : Nat) (hd : M 0 6 = nI d) (hd2 : d ≤ 600) (o k : Int32) : xt_Ct l G yX1_owl cX1_owl 4 (some .int) 105 20 154 [.ref (q 0), .int o, .int k] (cz G B) (xt_pi ((0 ≤ o ∧ o < nI ow) ∧ 0 ≤ k ∧ k ≤ nI 5) (sp_owV M (nn o) k) (xa G B v)) (xt_PB xNSE (fun H => ¬ ((0 ≤ o ∧ o < nI ow) ∧ 0 ≤ k ∧ k ≤ nI 5) ∧ cz G B H)) := by
  have hX := hEv.1
  have hY := h.2.1
  have hri : ri ≤ 8 := h.2.2.2.2.1.2.2.2.1
  have how : ow ≤ 5 := h.2.2.2.2.1.2.2.1
  have hro : ro ≤ 10 := h.2.2.2.2.1.2.1
  refine xt_enter [some (.ref (q 0)), some (.int o), some (.int k), none] (by decide +kernel) rfl (Nat.le_of_ble_eq_true rfl) (fun X hc hok => ?_)
  refine wt_aload_0 (pc := 0) hc dX1_owl_0 ?_
  refine wt_iload_1 (pc := 1) hc dX1_owl_1 ?_
  refine xt_goPr hc hok (xt_invV (pc := 2) 1 hc (ct_X1_anOwl hEv hY how o) dX1_owl_2 rfl (fun s H => cz_recv cP0 (hY.kx) s H) q1342 q1344 qs44 q111 q1345 (by decide +kernel) rfl (by first | decide | omega) (by decide) (Nat.le_of_ble_eq_true rfl) rfl) (by decide) (by decide) (fun _ _ _ h => ⟨h.1, fun z => h.2.1 z.1, h.2.2⟩) (fun hP => ?_)
  obtain ⟨a, ha, rfl⟩ := cf_in hP (by omega)
  rw [nn_nI (by omega)] at hok ⊢
  obtain ⟨wl, hwl, e9, -⟩ : ∃ wl, wl ≤ 8 ∧ M 9 a = nI wl ∧ True := by
    obtain ⟨wl, h1, h2, -⟩ := hY.2.2.2.2.2.2.1.2.2 a ha
    exact ⟨wl, h1, h2, trivial⟩
  refine wt_astore_3 (pc := 5) hc dX1_owl_5 rfl ?_
  refine wt_iload_2 (pc := 6) hc dX1_owl_6 ?_
  by_cases hk : 0 ≤ k ∧ k ≤ nI 4
  · have hk5 : 0 ≤ k ∧ k ≤ nI 5 := ⟨hk.1, Int32.le_trans hk.2 (by decide)⟩
    obtain ⟨n, -, hn, rfl⟩ := sp_ix2 (a := 0) hk (by decide) (by decide)
    rcases (by omega : n = 0 ∨ n = 1 ∨ n = 2 ∨ n = 3 ∨ n = 4) with rfl | rfl | rfl | rfl | rfl
    · refine sp_tableIn (pc := 7) 40 0 0 hc dX1_owl_7 (by decide) rfl (by decide) (by decide) rfl (by decide) ?_
      refine wt_aload_3 (pc := 40) hc dX1_owl_40 ?_
      refine cv_getiN (pc := 41) 0 (M 8 a) hc cP2 (hY.ok a (by omega)) dX1_owl_41 q1036 (by decide) (Or.inl rfl) (fun _ _ _ => rfl) (hY.ki a (by omega)) ?_
      exact xt_ret hc hok (fun X hc hok => wt_iret (pc := 44) hc hok dX1_owl_44 (rfl) (fun H hZ => ⟨⟨hP, hk5⟩, rfl, xa.self hZ⟩))
    · refine sp_tableIn (pc := 7) 45 1 0 hc dX1_owl_7 (by decide) rfl (by decide) (by decide) rfl (by decide) ?_
      refine wt_aload_3 (pc := 45) hc dX1_owl_45 ?_
      refine cv_getiN (pc := 46) 1 (M 47 (14 + a)) hc cP2 (hY.ok a (by omega)) dX1_owl_46 q1039 (by decide) (Or.inl rfl) (fun _ _ _ => rfl) (hY.mt a (by omega)) ?_
      exact xt_ret hc hok (fun X hc hok => wt_iret (pc := 49) hc hok dX1_owl_49 (rfl) (fun H hZ => ⟨⟨hP, hk5⟩, rfl, xa.self hZ⟩))
    · refine sp_tableIn (pc := 7) 50 2 0 hc dX1_owl_7 (by decide) rfl (by decide) (by decide) rfl (by decide) ?_
      refine wt_aload_3 (pc := 50) hc dX1_owl_50 ?_
      refine wt_gofn (wt_invV (pc := 51) 0 hc (ct_X6_size hX (q (20 + a)) _ _ wl _ (hY.wo a (by omega) e9 hwl)) dX1_owl_51 rfl (fun s H => cz_recv cP2 (hY.ok a (by omega)) s H) q1346 q544 q545 q129 q546 (by decide +kernel) rfl (by first | decide | omega) (by decide) (Nat.le_of_ble_eq_true rfl) rfl) ?_
      exact xt_ret hc hok (fun X hc hok => wt_iret (pc := 54) hc hok dX1_owl_54 (rfl) (fun H hZ => ⟨⟨hP, hk5⟩, by rw [← e9]; rfl, xa.self hZ⟩))
    · refine sp_tableIn (pc := 7) 55 3 0 hc dX1_owl_7 (by decide) rfl (by decide) (by decide) rfl (by decide) ?_
      refine wt_aload_0 (pc := 55) hc dX1_owl_55 ?_
      refine wt_gor (wt_invV (pc := 56) 0 hc (ct_X1_night hX hEv.2.1.1 hEv.2.1.2.1 h) dX1_owl_56 rfl (fun s H => cz_recv cP0 (hY.kx) s H) q463 q465 qs6 q111 q466 (by decide +kernel) rfl (by first | decide | omega) (by decide) (Nat.le_of_ble_eq_true rfl) rfl) (by decide) (by decide) (fun r => ?_)
      refine wt_exN (fun S D D' hN => ?_)
      obtain ⟨⟨t1, t2, t3, t4, t5, t6, t7⟩, rfl, hRn⟩ := hN
      have hE := t1.1
      have hRq := hRn.rq t7
      refine cv_getrN (pc := 59) (b := S.2.1 4) 6 hc cP3 (t2.n) dX1_owl_59 q487 (by decide) (Or.inl rfl) (fun _ _ _ => rfl) (t2.rcaught) ?_
      refine wt_iload_1 (pc := 62) hc dX1_owl_62 ?_
      refine bz_iald (pc := 63) 4 (a) (sp_night M 57 a) hE (by omega) hc (t2.caught) dX1_owl_63 (rfl) (by omega) (by omega) (hRn.2.1 a ha) ?_
      exact xt_ret hc hok (fun X hc hok => wt_iret (pc := 64) hc hok dX1_owl_64 (rfl) (fun H hZ => ⟨⟨hP, hk5⟩, rfl, t5.back hE (by decide) t6 hZ⟩))
    · refine sp_tableIn (pc := 7) 65 4 0 hc dX1_owl_7 (by decide) rfl (by decide) (by decide) rfl (by decide) ?_
      have e : sp_owV M a (nI 4) = sp_i (sp_nb M a) := rfl
      refine wt_aload_0 (pc := 65) hc dX1_owl_65 ?_
      refine cv_geti (pc := 66) 4 (M 47 3) hc cP0 (hY.kx) dX1_owl_66 q250 (by decide) (Or.inl rfl) (fun _ _ _ => rfl) (h.2.2.2.2.2.2.1.2.2.1) ?_
      refine wt_iload_1 (pc := 69) hc dX1_owl_69 ?_
      refine wt_gofn (wt_invS (pc := 70) 2 hc (ct_X1_isOf (M 47 3) (nI a)) dX1_owl_70 rfl q699 q541 q111 q542 (by decide +kernel) rfl (by first | decide | omega) (by decide) (Nat.le_of_ble_eq_true rfl) rfl) ?_
      refine wt_if_eq (pc := 73) 80 hc dX1_owl_73 (by decide) (fun c_73 => ?_) (fun c_73 => ?_)
      · refine wt_iconst (pc := 80) (v := nI 0) hc dX1_owl_80 (by decide) ?_
        exact xt_ret hc hok (fun X hc hok => wt_iret (pc := 81) hc hok dX1_owl_81 (rfl) (fun H hZ => ⟨⟨hP, hk5⟩, by rw [e]; first | rw [show sp_nb M a = true from decide_eq_true (sp_b_n0 c_73)]; rfl | rw [show sp_nb M a = false from decide_eq_false (sp_b_0.mp c_73)]; rfl, xa.self hZ⟩))
      · refine wt_iconst (pc := 76) (v := nI 1) hc dX1_owl_76 (by decide) ?_
        refine wt_goto (pc := 77) 81 hc dX1_owl_77 (by decide) ?_
        exact xt_ret hc hok (fun X hc hok => wt_iret (pc := 81) hc hok dX1_owl_81 (rfl) (fun H hZ => ⟨⟨hP, hk5⟩, by rw [e]; first | rw [show sp_nb M a = true from decide_eq_true (sp_b_n0 c_73)]; rfl | rw [show sp_nb M a = false from decide_eq_false (sp_b_0.mp c_73)]; rfl, xa.self hZ⟩))
  · refine wt_tableOut (pc := 7) 82 hc dX1_owl_7 (cf_rg (by decide) hk) (by decide) ?_
    have h5 := cf_rg1 (n := 4) (by decide) hk
    refine wt_iload_2 (pc := 82) hc dX1_owl_82 ?_
    refine wt_iconst (pc := 83) (v := nI 5) hc dX1_owl_83 (by decide) ?_
    refine wt_icmp_ne (pc := 84) 91 hc dX1_owl_84 (by decide) (fun c_84 => ?_) (fun c_84 => ?_)
    · refine wt_iconst (pc := 91) (v := nI 0) hc dX1_owl_91 (by decide) ?_
      refine xt_goPv hc hok (xt_invS (pc := 92) 1 hc (ct_X1_found hEv.2.2 _) dX1_owl_92 rfl q1295 q1296 q111 q1297 (by decide +kernel) rfl (by first | decide | omega) (by decide) (Nat.le_of_ble_eq_true rfl) rfl) (by decide) (by decide) (fun _ _ _ z => ⟨z.1, fun y => c_84 (h5.mp y.2), z.2.2⟩) (fun hP2 => ?_)
      exact absurd rfl hP2
    · refine wt_iconst (pc := 87) (v := nI 1) hc dX1_owl_87 (by decide) ?_
      refine wt_goto (pc := 88) 92 hc dX1_owl_88 (by decide) ?_
      refine xt_goPv hc hok (xt_invS (pc := 92) 1 hc (ct_X1_found hEv.2.2 _) dX1_owl_92 rfl q1295 q1296 q111 q1297 (by decide +kernel) rfl (by first | decide | omega) (by decide) (Nat.le_of_ble_eq_true rfl) rfl) (by decide) (by decide) (fun _ _ _ z => absurd z.2.1 (by decide)) (fun hP2 => ?_)
      have hv : sp_owV M a k = sp_tg (sp_night M) a ow (d + 1) := by
        rw [c_84, show sp_owV M a (nI 5) = sp_tg (sp_night M) a (nn (M 0 3)) (nn (M 0 6) + 1) from rfl, h.2.2.2.2.1.1.2.2.1, hd, nn_nI (by omega), nn_nI (by omega)]
      rw [hv] at hok
      refine wt_aload_0 (pc := 95) hc dX1_owl_95 ?_
      refine wt_gor (wt_invV (pc := 96) 0 hc (ct_X1_night hX hEv.2.1.1 hEv.2.1.2.1 h) dX1_owl_96 rfl (fun s H => cz_recv cP0 (hY.kx) s H) q463 q465 qs6 q111 q466 (by decide +kernel) rfl (by first | decide | omega) (by decide) (Nat.le_of_ble_eq_true rfl) rfl) (by decide) (by decide) (fun r => ?_)
      refine wt_exN (fun S D D' hN => ?_)
      obtain ⟨⟨t1, t2, t3, t4, t5, t6, t7⟩, rfl, hRn⟩ := hN
      have hE := t1.1
      have hRq := hRn.rq t7
      refine wt_iload_1 (pc := 99) hc dX1_owl_99 ?_
      refine wt_gofn (wt_invV (pc := 100) 1 hc (ct_X11_together hX a d hE (Nat.le_refl _) t2 t3 ha hRq.1 hd hd2) dX1_owl_100 rfl (fun s H => cz_recv cP3 (t2.n) s H) q1347 q1348 q1349 q143 q1350 (by decide +kernel) rfl (by first | decide | omega) (by decide) (Nat.le_of_ble_eq_true rfl) rfl) ?_
      exact xt_ret hc hok (fun X hc hok => wt_iret (pc := 103) hc hok dX1_owl_103 (rfl) (fun H hZ => ⟨⟨hP, h5.mpr c_84⟩, rfl, t5.back hE (by decide) t6 hZ⟩))
theorem ct_X1_stop (hEv : cEv l G) (h : cN0 G B M q v ro ow ri ru) (o i k : Int32) : xt_Ct l G yX1_stop cX1_stop 6 (some .int) 105 21 160 [.ref (q 0), .int o, .int i, .int k] (cz G B) (xt_pi ((0 ≤ o ∧ o < nI ow) ∧ (0 ≤ i ∧ i < M 9 (nn o)) ∧ 0 ≤ k ∧ k ≤ nI 2) (sp_stV M (nn o) (nn i) k) (xa G B v)) (xt_PB xNSE (fun H => ¬ ((0 ≤ o ∧ o < nI ow) ∧ (0 ≤ i ∧ i < M 9 (nn o)) ∧ 0 ≤ k ∧ k ≤ nI 2) ∧ cz G B H)) := by
  have hX := hEv.1
  have hY := h.2.1
  have hri : ri ≤ 8 := h.2.2.2.2.1.2.2.2.1
  have how : ow ≤ 5 := h.2.2.2.2.1.2.2.1
  have hro : ro ≤ 10 := h.2.2.2.2.1.2.1
  refine xt_enter [some (.ref (q 0)), some (.int o), some (.int i), some (.int k), none, none] (by decide +kernel) rfl (Nat.le_of_ble_eq_true rfl) (fun X hc hok => ?_)
  refine wt_aload_0 (pc := 0) hc dX1_stop_0 ?_
  refine wt_iload_1 (pc := 1) hc dX1_stop_1 ?_
  refine xt_goPr hc hok (xt_invV (pc := 2) 1 hc (ct_X1_anOwl hEv hY how o) dX1_stop_2 rfl (fun s H => cz_recv cP0 (hY.kx) s H) q1342 q1344 qs44 q111 q1345 (by decide +kernel) rfl (by first | decide | omega) (by decide) (Nat.le_of_ble_eq_true rfl) rfl) (by decide) (by decide) (fun _ _ _ h => ⟨h.1, fun z => h.2.1 z.1, h.2.2⟩) (fun hP => ?_)
  obtain ⟨a, ha, rfl⟩ := cf_in hP (by omega)
  rw [nn_nI (by omega)] at hok ⊢
  obtain ⟨wl, hwl, e9⟩ : ∃ wl, wl ≤ 8 ∧ M 9 a = nI wl := by
    obtain ⟨wl, h1, h2, -⟩ := hY.2.2.2.2.2.2.1.2.2 a ha
    exact ⟨wl, h1, h2⟩
  rw [e9] at hok
  refine wt_astore_4 (pc := 5) hc dX1_stop_5 rfl ?_
  refine wt_iload_2 (pc := 7) hc dX1_stop_7 ?_
  refine wt_iconst (pc := 8) (v := nI 0) hc dX1_stop_8 (by decide) ?_
  refine wt_aload_4 (pc := 9) hc dX1_stop_9 ?_
  refine wt_gofn (wt_invV (pc := 11) 0 hc (ct_X6_size hX (q (20 + a)) _ _ wl _ (hY.wo a (by omega) e9 hwl)) dX1_stop_11 rfl (fun s H => cz_recv cP2 (hY.ok a (by omega)) s H) q1346 q544 q545 q129 q546 (by decide +kernel) rfl (by first | decide | omega) (by decide) (Nat.le_of_ble_eq_true rfl) rfl) ?_
  refine wt_iconst (pc := 14) (v := nI 1) hc dX1_stop_14 (by decide) ?_
  refine wt_isub (pc := 15) hc dX1_stop_15 ?_
  refine wt_gofn (wt_invS (pc := 16) 3 hc (ct_X1_in i (nI 0) (nI wl - nI 1)) dX1_stop_16 rfl q323 q324 q111 q325 (by decide +kernel) rfl (by first | decide | omega) (by decide) (Nat.le_of_ble_eq_true rfl) rfl) ?_
  refine xt_goPv hc hok (xt_invS (pc := 19) 1 hc (ct_X1_found hEv.2.2 _) dX1_stop_19 rfl q1295 q1296 q111 q1297 (by decide +kernel) rfl (by first | decide | omega) (by decide) (Nat.le_of_ble_eq_true rfl) rfl) (by decide) (by decide) (fun E q H h => ⟨h.1, fun z => absurd (sp_b_0.mp h.2.1) (fun y => y ⟨z.2.1.1, (cf_le1 (by omega)).mpr z.2.1.2⟩), h.2.2⟩) (fun hP2 => ?_)
  have hi : 0 ≤ i ∧ i < nI wl := ⟨(sp_b_n0 hP2).1, (cf_le1 (by omega)).mp (sp_b_n0 hP2).2⟩
  refine wt_iload_3 (pc := 22) hc dX1_stop_22 ?_
  refine wt_iconst (pc := 23) (v := nI 2) hc dX1_stop_23 (by decide) ?_
  refine xt_goPv hc hok (xt_invS (pc := 24) 2 hc (ct_X1_oneOf hEv k (nI 2)) dX1_stop_24 rfl q1359 q1360 q111 q1361 (by decide +kernel) rfl (by first | decide | omega) (by decide) (Nat.le_of_ble_eq_true rfl) rfl) (by decide) (by decide) (fun _ _ _ h => ⟨h.1, fun z => h.2.1 z.2.2, h.2.2⟩) (fun hP3 => ?_)
  obtain ⟨j, hj, rfl⟩ := cf_in hi (by omega)
  rw [nn_nI (by omega)] at hok
  obtain ⟨n, -, hn, rfl⟩ := sp_ix2 (a := 0) hP3 (by decide) (by decide)
  have hPP := And.intro hP (And.intro hi hP3)
  refine wt_iload_3 (pc := 27) hc dX1_stop_27 ?_
  refine wt_if_ne (pc := 28) 38 hc dX1_stop_28 (by decide) (fun c_28 => ?_) (fun c_28 => ?_)
  · have hnz : n ≠ 0 := fun z => c_28 (by rw [z]; rfl)
    have hv : sp_stV M a j (nI n) = if sp_nb M a = true then -1 else if nI n = nI 1 then sp_night M 54 (8 * a + j) else sp_night M 55 (8 * a + j) := if_neg c_28
    rw [hv] at hok
    by_cases hnb : sp_nb M a = true
    · rw [if_pos hnb] at hok
      refine wt_aload_0 (pc := 38) hc dX1_stop_38 ?_
      refine cv_geti (pc := 39) 4 (M 47 3) hc cP0 (hY.kx) dX1_stop_39 q250 (by decide) (Or.inl rfl) (fun _ _ _ => rfl) (h.2.2.2.2.2.2.1.2.2.1) ?_
      refine wt_iload_1 (pc := 42) hc dX1_stop_42 ?_
      refine wt_gofn (wt_invS (pc := 43) 2 hc (ct_X1_isOf (M 47 3) (nI a)) dX1_stop_43 rfl q699 q541 q111 q542 (by decide +kernel) rfl (by first | decide | omega) (by decide) (Nat.le_of_ble_eq_true rfl) rfl) ?_
      refine wt_if_eq (pc := 46) 51 hc dX1_stop_46 (by decide) (fun c_46 => ?_) (fun c_46 => ?_)
      · exact absurd (of_decide_eq_true hnb) (sp_b_0.mp c_46)
      · refine wt_iconst (pc := 49) (v := (-1 : Int32)) hc dX1_stop_49 (by decide) ?_
        exact xt_ret hc hok (fun X hc hok => wt_iret (pc := 50) hc hok dX1_stop_50 (rfl) (fun H hZ => ⟨hPP, rfl, xa.self hZ⟩))
    · rw [if_neg hnb] at hok
      refine wt_aload_0 (pc := 38) hc dX1_stop_38 ?_
      refine cv_geti (pc := 39) 4 (M 47 3) hc cP0 (hY.kx) dX1_stop_39 q250 (by decide) (Or.inl rfl) (fun _ _ _ => rfl) (h.2.2.2.2.2.2.1.2.2.1) ?_
      refine wt_iload_1 (pc := 42) hc dX1_stop_42 ?_
      refine wt_gofn (wt_invS (pc := 43) 2 hc (ct_X1_isOf (M 47 3) (nI a)) dX1_stop_43 rfl q699 q541 q111 q542 (by decide +kernel) rfl (by first | decide | omega) (by decide) (Nat.le_of_ble_eq_true rfl) rfl) ?_
      refine wt_if_eq (pc := 46) 51 hc dX1_stop_46 (by decide) (fun c_46 => ?_) (fun c_46 => ?_)
      · have hout : ∀ Qn : wt_It, Qn 47 = M 47 → ¬ Qn 47 3 >>> (nI a &&& 31) &&& 1 = 1 := fun Qn hQn z => by rw [hQn] at z; exact sp_b_0.mp c_46 z
        refine wt_aload_0 (pc := 51) hc dX1_stop_51 ?_
        refine wt_gor (wt_invV (pc := 52) 0 hc (ct_X1_night hX hEv.2.1.1 hEv.2.1.2.1 h) dX1_stop_52 rfl (fun s H => cz_recv cP0 (hY.kx) s H) q463 q465 qs6 q111 q466 (by decide +kernel) rfl (by first | decide | omega) (by decide) (Nat.le_of_ble_eq_true rfl) rfl) (by decide) (by decide) (fun r => ?_)
        refine wt_exN (fun S D D' hN => ?_)
        obtain ⟨⟨t1, t2, t3, t4, t5, t6, t7⟩, rfl, hRn⟩ := hN
        have hE := t1.1
        have hRq := hRn.rq t7
        obtain ⟨g1, g2⟩ := hRn.2.2.1 a ha (hout _ (sp_S_night' rfl)) j (by rw [show sp_night M 9 = M 9 from sp_S_night' rfl, e9, nn_nI (by omega)]; exact hj)
        refine wt_astore_5 (pc := 55) hc dX1_stop_55 rfl ?_
        refine wt_iload_3 (pc := 57) hc dX1_stop_57 ?_
        refine wt_iconst (pc := 58) (v := nI 1) hc dX1_stop_58 (by decide) ?_
        refine wt_nicmp_ne (pc := 59) 74 (n) (1) hc dX1_stop_59 (by decide) (by omega) (by omega) (fun c_59 => ?_) (fun c_59 => ?_)
        · refine wt_aload_5 (pc := 74) hc dX1_stop_74 ?_
          refine cv_getrN (pc := 76) (b := S.2.1 12) 9 hc cP3 (t2.n) dX1_stop_76 q494 (by decide) (Or.inl rfl) (fun _ _ _ => rfl) (t2.rleaves) ?_
          refine wt_iload_1 (pc := 79) hc dX1_stop_79 ?_
          refine cv_aaldr (pc := 80) (b := S.2.1 (13 + a)) (a) hc (t2.leaves) (by decide) dX1_stop_80 (rfl) (by omega) (by omega) (t2.lr a (by omega)) ?_
          refine wt_iload_2 (pc := 81) hc dX1_stop_81 ?_
          refine bz_iald (pc := 82) ((13 + a)) (j) (sp_night M 55 (8 * a + j)) hE (by omega) hc (t2.lk a (by omega)) dX1_stop_82 (rfl) (by omega) (by omega) (g2) ?_
          exact xt_ret hc hok (fun X hc hok => wt_iret (pc := 83) hc hok dX1_stop_83 (rfl) (fun H hZ => ⟨hPP, by first | rw [if_pos (show nI n = nI 1 by rw [c_59])] | rw [if_neg (fun z => c_59 ((nI_eq (by omega) (by decide)).mp z))], t5.back hE (by decide) t6 hZ⟩))
        · refine wt_aload_5 (pc := 62) hc dX1_stop_62 ?_
          refine cv_getrN (pc := 64) (b := S.2.1 6) 8 hc cP3 (t2.n) dX1_stop_64 q491 (by decide) (Or.inl rfl) (fun _ _ _ => rfl) (t2.rcomes) ?_
          refine wt_iload_1 (pc := 67) hc dX1_stop_67 ?_
          refine cv_aaldr (pc := 68) (b := S.2.1 (7 + a)) (a) hc (t2.comes) (by decide) dX1_stop_68 (rfl) (by omega) (by omega) (t2.cr a (by omega)) ?_
          refine wt_iload_2 (pc := 69) hc dX1_stop_69 ?_
          refine bz_iald (pc := 70) ((7 + a)) (j) (sp_night M 54 (8 * a + j)) hE (by omega) hc (t2.ck a (by omega)) dX1_stop_70 (rfl) (by omega) (by omega) (g1) ?_
          refine wt_goto (pc := 71) 83 hc dX1_stop_71 (by decide) ?_
          exact xt_ret hc hok (fun X hc hok => wt_iret (pc := 83) hc hok dX1_stop_83 (rfl) (fun H hZ => ⟨hPP, by first | rw [if_pos (show nI n = nI 1 by rw [c_59])] | rw [if_neg (fun z => c_59 ((nI_eq (by omega) (by decide)).mp z))], t5.back hE (by decide) t6 hZ⟩))
      · exact absurd (decide_eq_true (sp_b_n0 c_46)) hnb
  · have hv : sp_stV M a j (nI n) = M 10 (8 * a + j) := if_pos c_28
    rw [hv] at hok
    refine wt_aload_4 (pc := 31) hc dX1_stop_31 ?_
    refine wt_iload_2 (pc := 33) hc dX1_stop_33 ?_
    refine wt_gofn (wt_invV (pc := 34) 1 hc (ct_X6_at hX (q (20 + a)) (j) _ _ wl _ (hY.wo a (by omega) e9 hwl) (by omega)) dX1_stop_34 rfl (fun s H => cz_recv cP2 (hY.ok a (by omega)) s H) q1362 q558 q559 q129 q560 (by decide +kernel) rfl (by first | decide | omega) (by decide) (Nat.le_of_ble_eq_true rfl) rfl) ?_
    exact xt_ret hc hok (fun X hc hok => wt_iret (pc := 37) hc hok dX1_stop_37 (rfl) (fun H hZ => ⟨hPP, rfl, xa.self hZ⟩))
end AD
