/-! CLASSES: x is asked: owls, stops, riders, flights, who hunts best, what is reached -/
set_option maxRecDepth 100000
theorem xa.self {G : wt_G} {B : cB} {v : Nat} {H : Heap} (h : cz G B H) : xa G B v H := by
  refine ⟨B.2.1 v, ?_⟩
  have e : cVr B v (B.2.1 v) = B := by
    have : (fun a => if a = v then B.2.1 v else B.2.1 a) = B.2.1 := by
      funext a
      by_cases h : a = v
      · rw [if_pos h, h]
      · rw [if_neg h]
    show (B.1, (fun a => if a = v then B.2.1 v else B.2.1 a), B.2.2.1, B.2.2.2) = B
    rw [this]
  rw [e]
  exact h
theorem cf_rg {k : Int32} {n : Nat} (hn : n < 2 ^ 31) (h : ¬ (0 ≤ k ∧ k ≤ nI n)) : k.toInt < 0 ∨ (n : Int) < k.toInt := by
  by_cases h0 : 0 ≤ k
  · refine Or.inr ?_
    have h1 : ¬ k ≤ nI n := fun z => h ⟨h0, z⟩
    have := Int32.lt_iff_toInt_lt.mp (Int32.not_le.mp h1)
    rw [nI_toInt hn] at this
    exact this
  · refine Or.inl ?_
    have := Int32.lt_iff_toInt_lt.mp (Int32.not_le.mp h0)
    have e0 : (0 : Int32).toInt = 0 := by decide
    omega
theorem cf_rg1 {k : Int32} {n : Nat} (hn : n + 1 < 2 ^ 31) (h : ¬ (0 ≤ k ∧ k ≤ nI n)) : (0 ≤ k ∧ k ≤ nI (n + 1)) ↔ k = nI (n + 1) := by
  constructor
  · intro ⟨h0, h1⟩
    rcases cf_rg (by omega) h with z | z
    · have := Int32.le_iff_toInt_le.mp h0
      have e0 : (0 : Int32).toInt = 0 := by decide
      omega
    · have := Int32.le_iff_toInt_le.mp h1
      rw [nI_toInt hn] at this
      apply Int32.toInt_inj.mp
      rw [nI_toInt hn]
      omega
  · intro z
    rw [z]
    exact ⟨nI_pos' (by omega), Int32.le_refl _⟩
section AC
variable {l : Launch} {G : wt_G} {B : cB} {M : wt_It} {q : Nat → Nat} {v ro ow ri ru : Nat} {Z : Heap → Prop}
theorem ct_X1_rider (hEv : cEv l G) (h : cN0 G B M q v ro ow ri ru) (p k : Int32) : xt_Ct l G yX1_rider cX1_rider 4 (some .int) 8 2 12 [.ref (q 0), .int p, .int k] (cz G B) (xt_pi ((0 ≤ p ∧ p < nI ri) ∧ 0 ≤ k ∧ k ≤ nI 3) (M 11 (4 * nn p + nn k)) (cz G B)) (xt_PB xNSE (fun H => ¬ ((0 ≤ p ∧ p < nI ri) ∧ 0 ≤ k ∧ k ≤ nI 3) ∧ cz G B H)) := by
  have hX := hEv.1
  have hY := h.2.1
  have hri : ri ≤ 8 := h.2.2.2.2.1.2.2.2.1
  have how : ow ≤ 5 := h.2.2.2.2.1.2.2.1
  have hro : ro ≤ 10 := h.2.2.2.2.1.2.1
  refine xt_enter [some (.ref (q 0)), some (.int p), some (.int k), none] (by decide +kernel) rfl (Nat.le_of_ble_eq_true rfl) (fun X hc hok => ?_)
  refine wt_aload_0 (pc := 0) hc dX1_rider_0 ?_
  refine wt_iload_1 (pc := 1) hc dX1_rider_1 ?_
  refine xt_goPr hc hok (xt_invV (pc := 2) 1 hc (ct_X1_aRider hEv hY hri p) dX1_rider_2 rfl (fun s H => cz_recv cP0 (hY.kx) s H) q1370 q1372 qs45 q111 q1373 (by decide +kernel) rfl (by first | decide | omega) (by decide) (Nat.le_of_ble_eq_true rfl) rfl) (by decide) (by decide) (fun _ _ _ h => ⟨h.1, fun z => h.2.1 z.1, h.2.2⟩) (fun hP => ?_)
  obtain ⟨a, ha, rfl⟩ := cf_in hP (by omega)
  rw [nn_nI (by omega)] at hok ⊢
  refine wt_astore_3 (pc := 5) hc dX1_rider_5 rfl ?_
  refine wt_iload_2 (pc := 6) hc dX1_rider_6 ?_
  refine wt_iconst (pc := 7) (v := nI 3) hc dX1_rider_7 (by decide) ?_
  refine xt_goPv hc hok (xt_invS (pc := 8) 2 hc (ct_X1_oneOf hEv k (nI 3)) dX1_rider_8 rfl q1359 q1360 q111 q1361 (by decide +kernel) rfl (by first | decide | omega) (by decide) (Nat.le_of_ble_eq_true rfl) rfl) (by decide) (by decide) (fun _ _ _ h => ⟨h.1, fun z => h.2.1 z.2, h.2.2⟩) (fun hP2 => ?_)
  obtain ⟨n, -, hn, rfl⟩ := sp_ix2 (a := 0) hP2 (by decide) (by decide)
  rw [nn_nI (by omega)] at hok
  refine wt_aload_3 (pc := 11) hc dX1_rider_11 ?_
  refine wt_iload_2 (pc := 12) hc dX1_rider_12 ?_
  refine cv_iald (pc := 13) (n) (M 11 (4 * a + n)) hc (hY.rk a (by omega)) dX1_rider_13 (rfl) (by omega) (by omega) (hY.rif a n (by omega) (by omega)) ?_
  exact xt_ret hc hok (fun X hc hok => wt_iret (pc := 14) hc hok dX1_rider_14 (rfl) (fun H hZ => ⟨⟨hP, hP2⟩, rfl, hZ⟩))
theorem ct_X1_flight (hEv : cEv l G) (h : cN0 G B M q v ro ow ri ru) (a b : Int32) : xt_Ct l G yX1_flight cX1_flight 3 (some .int) 8 2 12 [.ref (q 0), .int a, .int b] (cz G B) (xt_pi ((0 ≤ a ∧ a < nI ro) ∧ 0 ≤ b ∧ b < nI ro) (if M 7 (10 * nn a + nn b) ≤ 0 then -1 else M 7 (10 * nn a + nn b)) (cz G B)) (xt_PB xNSE (fun H => ¬ ((0 ≤ a ∧ a < nI ro) ∧ 0 ≤ b ∧ b < nI ro) ∧ cz G B H)) := by
  have hX := hEv.1
  have hY := h.2.1
  have hri : ri ≤ 8 := h.2.2.2.2.1.2.2.2.1
  have how : ow ≤ 5 := h.2.2.2.2.1.2.2.1
  have hro : ro ≤ 10 := h.2.2.2.2.1.2.1
  refine xt_enter [some (.ref (q 0)), some (.int a), some (.int b)] (by decide +kernel) rfl (Nat.le_of_ble_eq_true rfl) (fun X hc hok => ?_)
  refine wt_aload_0 (pc := 0) hc dX1_flight_0 ?_
  refine wt_iload_1 (pc := 1) hc dX1_flight_1 ?_
  refine xt_goPv hc hok (xt_invV (pc := 2) 1 hc (ct_X1_aRoof hEv hY hro a) dX1_flight_2 rfl (fun s H => cz_recv cP0 (hY.kx) s H) q1320 q1322 qs42 q111 q1323 (by decide +kernel) rfl (by first | decide | omega) (by decide) (Nat.le_of_ble_eq_true rfl) rfl) (by decide) (by decide) (fun _ _ _ h => ⟨h.1, fun z => h.2.1 z.1, h.2.2⟩) (fun hP => ?_)
  refine wt_aload_0 (pc := 5) hc dX1_flight_5 ?_
  refine wt_iload_2 (pc := 6) hc dX1_flight_6 ?_
  refine xt_goPv hc hok (xt_invV (pc := 7) 1 hc (ct_X1_aRoof hEv hY hro b) dX1_flight_7 rfl (fun s H => cz_recv cP0 (hY.kx) s H) q1320 q1322 qs42 q111 q1323 (by decide +kernel) rfl (by first | decide | omega) (by decide) (Nat.le_of_ble_eq_true rfl) rfl) (by decide) (by decide) (fun _ _ _ h => ⟨h.1, fun z => h.2.1 z.2, h.2.2⟩) (fun hP2 => ?_)
  obtain ⟨x, hx, rfl⟩ := cf_in hP (by omega)
  obtain ⟨y, hy, rfl⟩ := cf_in hP2 (by omega)
  rw [nn_nI (by omega), nn_nI (by omega)] at hok
  refine wt_aload_0 (pc := 10) hc dX1_flight_10 ?_
  refine cv_getr (pc := 11) (b := q 1) 0 hc cP0 (hY.kx) dX1_flight_11 q242 (by decide) (Or.inl rfl) (fun _ _ _ => rfl) (hY.xc) ?_
  refine cv_getrN (pc := 14) (b := q 3) 1 hc cP1 (hY.c) dX1_flight_14 q195 (by decide) (Or.inl rfl) (fun _ _ _ => rfl) (hY.cm) ?_
  refine wt_iload_1 (pc := 17) hc dX1_flight_17 ?_
  refine cv_aaldr (pc := 18) (b := q (10 + x)) (x) hc (hY.m) (by decide) dX1_flight_18 (rfl) (by omega) (by omega) (hY.mr x (by omega)) ?_
  refine wt_iload_2 (pc := 19) hc dX1_flight_19 ?_
  refine cv_iald (pc := 20) (y) (M 7 (10 * x + y)) hc (hY.mk x (by omega)) dX1_flight_20 (rfl) (by omega) (by omega) (hY.mi x y (by omega) (by omega)) ?_
  refine wt_if_le (pc := 21) 38 hc dX1_flight_21 (by decide) (fun c_21 => ?_) (fun c_21 => ?_)
  · refine wt_iconst (pc := 38) (v := (-1 : Int32)) hc dX1_flight_38 (by decide) ?_
    exact xt_ret hc hok (fun X hc hok => wt_iret (pc := 39) hc hok dX1_flight_39 (rfl) (fun H hZ => ⟨⟨hP, hP2⟩, by first | rw [if_pos c_21] | rw [if_neg c_21], hZ⟩))
  · refine wt_aload_0 (pc := 24) hc dX1_flight_24 ?_
    refine cv_getr (pc := 25) (b := q 1) 0 hc cP0 (hY.kx) dX1_flight_25 q242 (by decide) (Or.inl rfl) (fun _ _ _ => rfl) (hY.xc) ?_
    refine cv_getrN (pc := 28) (b := q 3) 1 hc cP1 (hY.c) dX1_flight_28 q195 (by decide) (Or.inl rfl) (fun _ _ _ => rfl) (hY.cm) ?_
    refine wt_iload_1 (pc := 31) hc dX1_flight_31 ?_
    refine cv_aaldr (pc := 32) (b := q (10 + x)) (x) hc (hY.m) (by decide) dX1_flight_32 (rfl) (by omega) (by omega) (hY.mr x (by omega)) ?_
    refine wt_iload_2 (pc := 33) hc dX1_flight_33 ?_
    refine cv_iald (pc := 34) (y) (M 7 (10 * x + y)) hc (hY.mk x (by omega)) dX1_flight_34 (rfl) (by omega) (by omega) (hY.mi x y (by omega) (by omega)) ?_
    refine wt_goto (pc := 35) 39 hc dX1_flight_35 (by decide) ?_
    exact xt_ret hc hok (fun X hc hok => wt_iret (pc := 39) hc hok dX1_flight_39 (rfl) (fun H hZ => ⟨⟨hP, hP2⟩, by first | rw [if_pos c_21] | rw [if_neg c_21], hZ⟩))
theorem ct_X1_hunter (hEv : cEv l G) (h : cN0 G B M q v ro ow ri ru) : wt_Ct l G yX1_hunter cX1_hunter 4 (some .int) 105 18 142 [.ref (q 0)] (cz G B) (wt_fn (sp_hn (sp_night M 57) ow) (xa G B v)) := by
  have hX := hEv.1
  have hY := h.2.1
  have hri : ri ≤ 8 := h.2.2.2.2.1.2.2.2.1
  have how : ow ≤ 5 := h.2.2.2.2.1.2.2.1
  have hro : ro ≤ 10 := h.2.2.2.2.1.2.1
  refine wt_enter [some (.ref (q 0)), none, none, none] (by decide +kernel) rfl (Nat.le_of_ble_eq_true rfl) (fun X hc hok => ?_)
  refine wt_aload_0 (pc := 0) hc dX1_hunter_0 ?_
  refine wt_gor (wt_invV (pc := 1) 0 hc (ct_X1_night hX hEv.2.1.1 hEv.2.1.2.1 h) dX1_hunter_1 rfl (fun s H => cz_recv cP0 (hY.kx) s H) q463 q465 qs6 q111 q466 (by decide +kernel) rfl (by first | decide | omega) (by decide) (Nat.le_of_ble_eq_true rfl) rfl) (by decide) (by decide) (fun r => ?_)
  refine wt_exN (fun S D D' hN => ?_)
  obtain ⟨⟨t1, t2, t3, t4, t5, t6, t7⟩, rfl, hRn⟩ := hN
  have hE := t1.1
  have hRq := hRn.rq t7
  have loop : ∀ n o : Nat, o + n = ow → wt_V G X 9 [some (.ref (q 0)), some (.ref (S.2.1 1)), some (.int (sp_hn (sp_night M 57) o)), some (.int (nI o))] [] (cz G (bB S D')) 0 0 := by
    intro n
    induction n with
    | zero =>
      intro o ho
      obtain rfl : o = ow := by omega
      refine wt_iload_3 (pc := 9) hc dX1_hunter_9 ?_
      refine wt_aload_0 (pc := 10) hc dX1_hunter_10 ?_
      refine cv_getr (pc := 11) (b := q 1) 0 hc cP0 (t3.kx) dX1_hunter_11 q242 (by decide) (Or.inl rfl) (fun _ _ _ => rfl) (t3.xc) ?_
      refine cv_getrN (pc := 14) (b := q 4) 2 hc cP1 (t3.c) dX1_hunter_14 q200 (by decide) (Or.inl rfl) (fun _ _ _ => rfl) (t3.co) ?_
      refine wt_gofn (wt_invF (pc := 17) 0 hc cP11 (t3.os) (ct_sL (t3.ol _)) dX1_hunter_17 rfl q314 q318 q320 q115 q322 (hX.F_J2_size) (by decide +kernel) rfl (by first | decide | omega) (by decide) (Nat.le_of_ble_eq_true rfl) rfl) ?_
      refine wt_nicmp_ge (pc := 22) 53 (o) (o) hc dX1_hunter_22 (by decide) (by omega) (by omega) (fun c_22 => ?_) (fun c_22 => ?_)
      · refine wt_iload_2 (pc := 53) hc dX1_hunter_53 ?_
        exact wt_iret (pc := 54) hc hok dX1_hunter_54 (rfl) (fun H hZ => ⟨rfl, t5.back hE (by decide) t6 hZ⟩)
      · omega
    | succ n ih =>
      intro o ho
      have ih' := ih (o + 1) (by omega)
      have hs : sp_hn (sp_night M 57) (o + 1) = if sp_hn (sp_night M 57) o = -1 then nI o else if sp_night M 57 o ≤ sp_night M 57 (nn (sp_hn (sp_night M 57) o)) then sp_hn (sp_night M 57) o else nI o := rfl
      rcases sp_hn_or (sp_night M 57) o with hb | ⟨b, hb1, hb2⟩
      · rw [if_pos hb] at hs
        rw [hs] at ih'
        refine wt_iload_3 (pc := 9) hc dX1_hunter_9 ?_
        refine wt_aload_0 (pc := 10) hc dX1_hunter_10 ?_
        refine cv_getr (pc := 11) (b := q 1) 0 hc cP0 (t3.kx) dX1_hunter_11 q242 (by decide) (Or.inl rfl) (fun _ _ _ => rfl) (t3.xc) ?_
        refine cv_getrN (pc := 14) (b := q 4) 2 hc cP1 (t3.c) dX1_hunter_14 q200 (by decide) (Or.inl rfl) (fun _ _ _ => rfl) (t3.co) ?_
        refine wt_gofn (wt_invF (pc := 17) 0 hc cP11 (t3.os) (ct_sL (t3.ol _)) dX1_hunter_17 rfl q314 q318 q320 q115 q322 (hX.F_J2_size) (by decide +kernel) rfl (by first | decide | omega) (by decide) (Nat.le_of_ble_eq_true rfl) rfl) ?_
        refine wt_nicmp_ge (pc := 22) 53 (o) (ow) hc dX1_hunter_22 (by decide) (by omega) (by omega) (fun c_22 => ?_) (fun c_22 => ?_)
        · omega
        · refine wt_iload_2 (pc := 25) hc dX1_hunter_25 ?_
          refine wt_iconst (pc := 26) (v := (-1 : Int32)) hc dX1_hunter_26 (by decide) ?_
          refine wt_icmp_eq (pc := 27) 45 hc dX1_hunter_27 (by decide) (fun c_27 => ?_) (fun c_27 => ?_)
          · refine wt_iload_3 (pc := 45) hc dX1_hunter_45 ?_
            refine wt_istore_2 (pc := 46) hc dX1_hunter_46 rfl ?_
            refine wt_iinc_3 (pc := 47) (v := nI (o + 1)) hc dX1_hunter_47 (nI_add o 1) rfl ?_
            refine wt_goto (pc := 50) 9 hc dX1_hunter_50 (by decide) ?_
            exact ih'
          · exact absurd hb c_27
      · have hne : ¬ nI b = (-1 : Int32) := sp_nI_m1 (by omega)
        rw [hb2, if_neg hne, nn_nI (by omega)] at hs
        rw [hb2]
        refine wt_iload_3 (pc := 9) hc dX1_hunter_9 ?_
        refine wt_aload_0 (pc := 10) hc dX1_hunter_10 ?_
        refine cv_getr (pc := 11) (b := q 1) 0 hc cP0 (t3.kx) dX1_hunter_11 q242 (by decide) (Or.inl rfl) (fun _ _ _ => rfl) (t3.xc) ?_
        refine cv_getrN (pc := 14) (b := q 4) 2 hc cP1 (t3.c) dX1_hunter_14 q200 (by decide) (Or.inl rfl) (fun _ _ _ => rfl) (t3.co) ?_
        refine wt_gofn (wt_invF (pc := 17) 0 hc cP11 (t3.os) (ct_sL (t3.ol _)) dX1_hunter_17 rfl q314 q318 q320 q115 q322 (hX.F_J2_size) (by decide +kernel) rfl (by first | decide | omega) (by decide) (Nat.le_of_ble_eq_true rfl) rfl) ?_
        refine wt_nicmp_ge (pc := 22) 53 (o) (ow) hc dX1_hunter_22 (by decide) (by omega) (by omega) (fun c_22 => ?_) (fun c_22 => ?_)
        · omega
        · refine wt_iload_2 (pc := 25) hc dX1_hunter_25 ?_
          refine wt_iconst (pc := 26) (v := (-1 : Int32)) hc dX1_hunter_26 (by decide) ?_
          refine wt_icmp_eq (pc := 27) 45 hc dX1_hunter_27 (by decide) (fun c_27 => ?_) (fun c_27 => ?_)
          · exact absurd c_27 hne
          · refine wt_aload_1 (pc := 30) hc dX1_hunter_30 ?_
            refine cv_getrN (pc := 31) (b := S.2.1 4) 6 hc cP3 (t2.n) dX1_hunter_31 q487 (by decide) (Or.inl rfl) (fun _ _ _ => rfl) (t2.rcaught) ?_
            refine wt_iload_3 (pc := 34) hc dX1_hunter_34 ?_
            refine bz_iald (pc := 35) 4 (o) (sp_night M 57 o) hE (by omega) hc (t2.caught) dX1_hunter_35 (rfl) (by omega) (by omega) (hRn.2.1 o (by omega)) ?_
            refine wt_aload_1 (pc := 36) hc dX1_hunter_36 ?_
            refine cv_getrN (pc := 37) (b := S.2.1 4) 6 hc cP3 (t2.n) dX1_hunter_37 q487 (by decide) (Or.inl rfl) (fun _ _ _ => rfl) (t2.rcaught) ?_
            refine wt_iload_2 (pc := 40) hc dX1_hunter_40 ?_
            refine bz_iald (pc := 41) 4 (b) (sp_night M 57 b) hE (by omega) hc (t2.caught) dX1_hunter_41 (rfl) (by omega) (by omega) (hRn.2.1 b (by omega)) ?_
            refine wt_icmp_le (pc := 42) 47 hc dX1_hunter_42 (by decide) (fun c_42 => ?_) (fun c_42 => ?_)
            · rw [if_pos c_42] at hs
              rw [hs] at ih'
              refine wt_iinc_3 (pc := 47) (v := nI (o + 1)) hc dX1_hunter_47 (nI_add o 1) rfl ?_
              refine wt_goto (pc := 50) 9 hc dX1_hunter_50 (by decide) ?_
              exact ih'
            · rw [if_neg c_42] at hs
              rw [hs] at ih'
              refine wt_iload_3 (pc := 45) hc dX1_hunter_45 ?_
              refine wt_istore_2 (pc := 46) hc dX1_hunter_46 rfl ?_
              refine wt_iinc_3 (pc := 47) (v := nI (o + 1)) hc dX1_hunter_47 (nI_add o 1) rfl ?_
              refine wt_goto (pc := 50) 9 hc dX1_hunter_50 (by decide) ?_
              exact ih'
  refine wt_astore_1 (pc := 4) hc dX1_hunter_4 rfl ?_
  refine wt_iconst (pc := 5) (v := (-1 : Int32)) hc dX1_hunter_5 (by decide) ?_
  refine wt_istore_2 (pc := 6) hc dX1_hunter_6 rfl ?_
  refine wt_iconst (pc := 7) (v := nI 0) hc dX1_hunter_7 (by decide) ?_
  refine wt_istore_3 (pc := 8) hc dX1_hunter_8 rfl ?_
  exact wt_less (Nat.zero_le _) (Nat.zero_le _) (loop ow 0 (by omega))
theorem ct_X1_reach (hEv : cEv l G) (h : cN0 G B M q v ro ow ri ru) (p m : Int32) : xt_Ct l G yX1_reach cX1_reach 7 (some .int) 105 19 148 [.ref (q 0), .int p, .int m] (cz G B) (xt_pi (0 ≤ p ∧ p < nI ri) (sp_rc (sp_rides (sp_night M) (nn p) 60) m ro) (xa G B v)) (xt_PB xNSE (fun H => ¬ (0 ≤ p ∧ p < nI ri) ∧ cz G B H)) := by
  have hX := hEv.1
  have hY := h.2.1
  have hri : ri ≤ 8 := h.2.2.2.2.1.2.2.2.1
  have how : ow ≤ 5 := h.2.2.2.2.1.2.2.1
  have hro : ro ≤ 10 := h.2.2.2.2.1.2.1
  refine xt_enter [some (.ref (q 0)), some (.int p), some (.int m), none, none, none, none] (by decide +kernel) rfl (Nat.le_of_ble_eq_true rfl) (fun X hc hok => ?_)
  refine wt_aload_0 (pc := 0) hc dX1_reach_0 ?_
  refine wt_iload_1 (pc := 1) hc dX1_reach_1 ?_
  refine xt_goPr hc hok (xt_invV (pc := 2) 1 hc (ct_X1_aRider hEv hY hri p) dX1_reach_2 rfl (fun s H => cz_recv cP0 (hY.kx) s H) q1370 q1372 qs45 q111 q1373 (by decide +kernel) rfl (by first | decide | omega) (by decide) (Nat.le_of_ble_eq_true rfl) rfl) (by decide) (by decide) (fun _ _ _ h => h) (fun hP => ?_)
  obtain ⟨k, hk, rfl⟩ := cf_in hP (by omega)
  rw [nn_nI (by omega)] at hok ⊢
  refine wt_astore_3 (pc := 5) hc dX1_reach_5 rfl ?_
  refine wt_aload_0 (pc := 6) hc dX1_reach_6 ?_
  refine wt_gor (wt_invV (pc := 7) 0 hc (ct_X1_night hX hEv.2.1.1 hEv.2.1.2.1 h) dX1_reach_7 rfl (fun s H => cz_recv cP0 (hY.kx) s H) q463 q465 qs6 q111 q466 (by decide +kernel) rfl (by first | decide | omega) (by decide) (Nat.le_of_ble_eq_true rfl) rfl) (by decide) (by decide) (fun r => ?_)
  refine wt_exN (fun S D D' hN => ?_)
  obtain ⟨⟨t1, t2, t3, t4, t5, t6, t7⟩, rfl, hRn⟩ := hN
  have hE := t1.1
  have hRq := hRn.rq t7
  refine wt_astore_4 (pc := 10) hc dX1_reach_10 rfl ?_
  refine wt_aload_4 (pc := 12) hc dX1_reach_12 ?_
  refine wt_aload_3 (pc := 14) hc dX1_reach_14 ?_
  refine wt_gov (wt_invVN (pc := 15) 1 hc (ct_X11_tellSoon hX k hE (Nat.le_refl _) t2 t3 hk hRq.1) dX1_reach_15 rfl (fun s H => cz_recv cP3 (t2.n) s H) q1590 q653 qs11 q143 q654 (by decide +kernel) rfl (by first | decide | omega) (by decide) (Nat.le_of_ble_eq_true rfl) rfl) (Nat.zero_le _) (Nat.zero_le _) ?_
  refine wt_iconst (pc := 18) (v := nI 0) hc dX1_reach_18 (by decide) ?_
  refine wt_istore_5 (pc := 19) hc dX1_reach_19 rfl ?_
  refine wt_iconst (pc := 21) (v := nI 0) hc dX1_reach_21 (by decide) ?_
  refine wt_istore_6 (pc := 22) hc dX1_reach_22 rfl ?_
  have hs : ∀ r, r < 10 → sp_fill D' 18 10 (fun j => sp_rides (sp_night M) k 60 (0 + j)) 18 r = sp_rides (sp_night M) k 60 r := fun r hr => (if_pos ⟨rfl, hr⟩ : _ = sp_rides (sp_night M) k 60 (0 + r)).trans (by rw [Nat.zero_add])
  have loop : ∀ n r : Nat, r + n = ro → wt_V G X 24 [some (.ref (q 0)), none, some (.int m), none, some (.ref (S.2.1 1)), some (.int (sp_rc (sp_rides (sp_night M) k 60) m r)), some (.int (nI r))] [] (cz G (bB S (sp_fill D' 18 10 (fun j => sp_rides (sp_night M) k 60 (0 + j))))) 0 0 := by
    intro n
    induction n with
    | zero =>
      intro r hr
      obtain rfl : r = ro := by omega
      refine wt_iload_6 (pc := 24) hc dX1_reach_24 ?_
      refine wt_aload_0 (pc := 26) hc dX1_reach_26 ?_
      refine cv_getr (pc := 27) (b := q 1) 0 hc cP0 (t3.kx) dX1_reach_27 q242 (by decide) (Or.inl rfl) (fun _ _ _ => rfl) (t3.xc) ?_
      refine cv_getiN (pc := 30) 5 (nI r) hc cP1 (t3.c) dX1_reach_30 q212 (by decide) (Or.inl rfl) (fun _ _ _ => rfl) (t3.nro _) ?_
      refine wt_nicmp_ge (pc := 33) 76 (r) (r) hc dX1_reach_33 (by decide) (by omega) (by omega) (fun c_33 => ?_) (fun c_33 => ?_)
      · refine wt_iload_5 (pc := 76) hc dX1_reach_76 ?_
        exact xt_ret hc hok (fun X hc hok => wt_iret (pc := 78) hc hok dX1_reach_78 (rfl) (fun H hZ => ⟨hP, rfl, t5.back hE (by decide) t6 hZ⟩))
      · omega
    | succ n ih =>
      intro r hr
      have ih' := ih (r + 1) (by omega)
      rw [sp_rc] at ih'
      have hsr := hs r (by omega)
      generalize sp_rc (sp_rides (sp_night M) k 60) m r = x at ih' ⊢
      generalize sp_rides (sp_night M) k 60 r = s at ih' hsr
      have ihA : (nI 1000000 ≤ s ∨ m < s) → wt_V G X 24 [some (.ref (q 0)), none, some (.int m), none, some (.ref (S.2.1 1)), some (.int x), some (.int (nI (r + 1)))] [] (cz G (bB S (sp_fill D' 18 10 (fun j => sp_rides (sp_night M) k 60 (0 + j))))) 0 0 := by
        intro hz
        have e : (x ||| if nI 1000000 ≤ s then nI 0 else if m < s then nI 0 else nI 1 <<< (nI r &&& 31)) = x := by
          rcases hz with hz | hz
          · rw [if_pos hz]; exact Int32.or_zero
          · rw [if_pos hz, ite_self]; exact Int32.or_zero
        rw [e] at ih'
        exact ih'
      refine wt_iload_6 (pc := 24) hc dX1_reach_24 ?_
      refine wt_aload_0 (pc := 26) hc dX1_reach_26 ?_
      refine cv_getr (pc := 27) (b := q 1) 0 hc cP0 (t3.kx) dX1_reach_27 q242 (by decide) (Or.inl rfl) (fun _ _ _ => rfl) (t3.xc) ?_
      refine cv_getiN (pc := 30) 5 (nI ro) hc cP1 (t3.c) dX1_reach_30 q212 (by decide) (Or.inl rfl) (fun _ _ _ => rfl) (t3.nro _) ?_
      refine wt_nicmp_ge (pc := 33) 76 (r) (ro) hc dX1_reach_33 (by decide) (by omega) (by omega) (fun c_33 => ?_) (fun c_33 => ?_)
      · omega
      · refine wt_aload_4 (pc := 36) hc dX1_reach_36 ?_
        refine cv_getrN (pc := 38) (b := S.2.1 18) 10 hc cP3 (t2.n) dX1_reach_38 q496 (by decide) (Or.inl rfl) (fun _ _ _ => rfl) (t2.rsoon) ?_
        refine wt_iload_6 (pc := 41) hc dX1_reach_41 ?_
        refine bz_iald (pc := 43) 18 (r) (s) hE (by omega) hc (t2.soon) dX1_reach_43 (rfl) (by omega) (by omega) (hsr) ?_
        refine wt_iload_2 (pc := 44) hc dX1_reach_44 ?_
        refine wt_icmp_gt (pc := 45) 70 hc dX1_reach_45 (by decide) (fun c_45 => ?_) (fun c_45 => ?_)
        · refine wt_iinc_6 (pc := 70) (v := nI (r + 1)) hc dX1_reach_70 (nI_add r 1) rfl ?_
          refine wt_goto (pc := 73) 24 hc dX1_reach_73 (by decide) ?_
          exact ihA (Or.inr c_45)
        · refine wt_aload_4 (pc := 48) hc dX1_reach_48 ?_
          refine cv_getrN (pc := 50) (b := S.2.1 18) 10 hc cP3 (t2.n) dX1_reach_50 q496 (by decide) (Or.inl rfl) (fun _ _ _ => rfl) (t2.rsoon) ?_
          refine wt_iload_6 (pc := 53) hc dX1_reach_53 ?_
          refine bz_iald (pc := 55) 18 (r) (s) hE (by omega) hc (t2.soon) dX1_reach_55 (rfl) (by omega) (by omega) (hsr) ?_
          refine wt_ldc (pc := 56) (v := nI 1000000) hc dX1_reach_56 q664 ?_
          refine wt_icmp_ge (pc := 58) 70 hc dX1_reach_58 (by decide) (fun c_58 => ?_) (fun c_58 => ?_)
          · refine wt_iinc_6 (pc := 70) (v := nI (r + 1)) hc dX1_reach_70 (nI_add r 1) rfl ?_
            refine wt_goto (pc := 73) 24 hc dX1_reach_73 (by decide) ?_
            exact ihA (Or.inl c_58)
          · rw [if_neg c_58, if_neg c_45] at ih'
            refine wt_iload_5 (pc := 61) hc dX1_reach_61 ?_
            refine wt_iconst (pc := 63) (v := nI 1) hc dX1_reach_63 (by decide) ?_
            refine wt_iload_6 (pc := 64) hc dX1_reach_64 ?_
            refine wt_ishl (pc := 66) hc dX1_reach_66 ?_
            refine wt_ior (pc := 67) hc dX1_reach_67 ?_
            refine wt_istore_5 (pc := 68) hc dX1_reach_68 rfl ?_
            refine wt_iinc_6 (pc := 70) (v := nI (r + 1)) hc dX1_reach_70 (nI_add r 1) rfl ?_
            refine wt_goto (pc := 73) 24 hc dX1_reach_73 (by decide) ?_
            exact ih'
  refine wt_less (Nat.zero_le _) (Nat.zero_le _) (wt_drop (loop ro 0 (by omega)) ⟨rfl, rfl, rfl, rfl, rfl, trivial⟩)
end AC
