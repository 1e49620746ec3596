/-! CLASSES: what x is asked: owls, riders, roofs; its answers out of a night -/
set_option maxRecDepth 100000
section CYP
variable {B : cB} {M : wt_It} {q : Nat → Nat} {ro ow ri ru : Nat}
theorem cY.kx (h : cY B M q ro ow ri ru) : B.1 (q 0) = some (.inl 0) := h.1
theorem cY.xc (h : cY B M q ro ow ri ru) : B.2.2.1 (q 0) 0 = some (q 1) := h.2.1
theorem cY.c (h : cY B M q ro ow ri ru) : B.1 (q 1) = some (.inl 1) := h.2.2.1
theorem cY.nro (h : cY B M q ro ow ri ru) : B.2.1 (q 1) 5 = nI ro := h.2.2.2.1.1
theorem cY.fl (h : cY B M q ro ow ri ru) : B.2.1 (q 1) 6 = M 0 2 := h.2.2.2.1.2.1
theorem cY.da (h : cY B M q ro ow ri ru) : B.2.1 (q 1) 7 = M 0 6 := h.2.2.2.1.2.2
theorem cY.cg (h : cY B M q ro ow ri ru) : B.2.2.1 (q 1) 0 = some (q 2) := h.2.2.2.2.1.1
theorem cY.g (h : cY B M q ro ow ri ru) : B.1 (q 2) = some (.inr (0, 10)) := h.2.2.2.2.1.2.1
theorem cY.gr (h : cY B M q ro ow ri ru) (r : Nat) (hr : r < ro) : B.2.1 (q 2) r = M 47 (4 + r) := h.2.2.2.2.1.2.2 r hr
theorem cY.cm (h : cY B M q ro ow ri ru) : B.2.2.1 (q 1) 1 = some (q 3) := h.2.2.2.2.2.1.1
theorem cY.m (h : cY B M q ro ow ri ru) : B.1 (q 3) = some (.inr (4, 10)) := h.2.2.2.2.2.1.2.1
theorem cY.mr (h : cY B M q ro ow ri ru) (a : Nat) (ha : a < 10) : B.2.2.1 (q 3) a = some (q (10 + a)) := (h.2.2.2.2.2.1.2.2 a ha).1
theorem cY.mk (h : cY B M q ro ow ri ru) (a : Nat) (ha : a < 10) : B.1 (q (10 + a)) = some (.inr (0, 10)) := (h.2.2.2.2.2.1.2.2 a ha).2.1
theorem cY.mi (h : cY B M q ro ow ri ru) (a b : Nat) (ha : a < 10) (hb : b < 10) : B.2.1 (q (10 + a)) b = M 7 (10 * a + b) := (h.2.2.2.2.2.1.2.2 a ha).2.2 b hb
theorem cY.co (h : cY B M q ro ow ri ru) : B.2.2.1 (q 1) 2 = some (q 4) := h.2.2.2.2.2.2.1.1
theorem cY.ol (h : cY B M q ro ow ri ru) : cL B (q 4) ow (fun o => q (20 + o)) := h.2.2.2.2.2.2.1.2.1
theorem cY.os (h : cY B M q ro ow ri ru) : B.1 (q 4) = some (.inl 11) := h.ol.1
theorem cY.wo (h : cY B M q ro ow ri ru) (o : Nat) (ho : o < ow) {wl : Nat} (e : M 9 o = nI wl) (hw : wl ≤ 8) : cO B (q (20 + o)) (M 8 o) (M 47 (14 + o)) wl (fun i => M 10 (8 * o + i)) := by
  obtain ⟨wl2, h1, h2, h3⟩ := h.2.2.2.2.2.2.1.2.2 o ho
  have e2 : wl2 = wl := (nI_eq (by omega) (by omega)).mp (h2.symm.trans e)
  rw [e2] at h3
  exact h3
theorem cY.ok (h : cY B M q ro ow ri ru) (o : Nat) (ho : o < ow) : B.1 (q (20 + o)) = some (.inl 2) := by
  obtain ⟨wl2, h1, h2, h3⟩ := h.2.2.2.2.2.2.1.2.2 o ho
  exact h3.1
theorem cY.ki (h : cY B M q ro ow ri ru) (o : Nat) (ho : o < ow) : B.2.1 (q (20 + o)) 0 = M 8 o := by
  obtain ⟨wl2, h1, h2, h3⟩ := h.2.2.2.2.2.2.1.2.2 o ho
  exact h3.2.1
theorem cY.mt (h : cY B M q ro ow ri ru) (o : Nat) (ho : o < ow) : B.2.1 (q (20 + o)) 1 = M 47 (14 + o) := by
  obtain ⟨wl2, h1, h2, h3⟩ := h.2.2.2.2.2.2.1.2.2 o ho
  exact h3.2.2.1
theorem cY.cr (h : cY B M q ro ow ri ru) : B.2.2.1 (q 1) 3 = some (q 5) := h.2.2.2.2.2.2.2.1.1
theorem cY.rl (h : cY B M q ro ow ri ru) : cL B (q 5) ri (fun p => q (30 + p)) := h.2.2.2.2.2.2.2.1.2.1
theorem cY.rs (h : cY B M q ro ow ri ru) : B.1 (q 5) = some (.inl 11) := h.rl.1
theorem cY.rk (h : cY B M q ro ow ri ru) (p : Nat) (hp : p < ri) : B.1 (q (30 + p)) = some (.inr (0, 4)) := (h.2.2.2.2.2.2.2.1.2.2 p hp).1
theorem cY.rif (h : cY B M q ro ow ri ru) (p k : Nat) (hp : p < ri) (hk : k < 4) : B.2.1 (q (30 + p)) k = M 11 (4 * p + k) := (h.2.2.2.2.2.2.2.1.2.2 p hp).2 k hk
theorem cY.ch (h : cY B M q ro ow ri ru) : B.2.2.1 (q 1) 4 = some (q 6) := h.2.2.2.2.2.2.2.2.1
theorem cY.hl (h : cY B M q ro ow ri ru) : cL B (q 6) ru (fun f => q (40 + f)) := h.2.2.2.2.2.2.2.2.2
theorem cY.hs (h : cY B M q ro ow ri ru) : B.1 (q 6) = some (.inl 11) := h.hl.1
end CYP
/-- what a run carries, all in all -/
def cEv (l : Launch) (G : wt_G) : Prop := cX G ∧ cLs G ∧ cTh l G
/-- the ints of the row v anew -/
def cVr (B : cB) (v : Nat) (f : Nat → Int32) : cB := (B.1, (fun a => if a = v then f else B.2.1 a), B.2.2.1, B.2.2.2)
/-- behind an answer: but for the values' row all is as it was -/
def xa (G : wt_G) (B : cB) (v : Nat) : Heap → Prop := fun H => ∃ f, cz G (cVr B v f) H
theorem bG.back {G : wt_G} {B : cB} {S : bS} {v N : Nat} {D : wt_It} {H : Heap} (h : bG B S v) (hE : bE G S N) (hN : 0 < N) (h0 : S.2.1 0 = v) (hz : cz G (bB S D) H) : xa G B v H := by
  refine ⟨D 0, cz_forget (fun a k ha => ?_) hz⟩
  have hne : B.1 a ≠ none := by
    have ha' : B.1 a = some k := ha
    rw [ha']; exact fun z => by cases z
  obtain ⟨h1, h2, h3, h4⟩ := h a hne
  refine ⟨h1.trans ha, ?_, h2, h3⟩
  show (bB S D).2.1 a = if a = v then D 0 else B.2.1 a
  by_cases e : a = v
  · rw [if_pos e, e, ← h0]
    exact ov_at hE hN
  · rw [if_neg e]
    exact h.ints hne e
/-- a number in range -/
theorem cf_in {p : Int32} {n : Nat} (h : 0 ≤ p ∧ p < nI n) (hn : n < 2 ^ 31) : ∃ k, k < n ∧ p = nI k := by
  obtain ⟨h1, h2⟩ := h
  have e1 := Int32.le_iff_toInt_le.mp h1
  have e2 := Int32.lt_iff_toInt_lt.mp h2
  have e0 : (0 : Int32).toInt = 0 := by decide
  rw [e0] at e1
  rw [nI_toInt hn] at e2
  refine ⟨p.toInt.toNat, by omega, ?_⟩
  apply Int32.toInt_inj.mp
  rw [nI_toInt (by omega)]
  omega
theorem cf_le1 {p : Int32} {n : Nat} (hn : n < 2 ^ 31) : p ≤ nI n - nI 1 ↔ p < nI n := by
  rw [Int32.le_iff_toInt_le, Int32.lt_iff_toInt_lt, nI_toInt hn]
  have : (nI n - nI 1).toInt = (n : Int) - 1 := by
    cases n with
    | zero => decide
    | succ n =>
      rw [show nI (n + 1) - nI 1 = nI n from nI_pred n, nI_toInt (by omega)]
      omega
  rw [this]
  omega
section AN
variable {l : Launch} {G : wt_G} {B : cB} {M : wt_It} {q : Nat → Nat} {v ro ow ri ru : Nat} {Z : Heap → Prop}
theorem ct_X1_in (p a b : Int32) : wt_Ct l G yX1_in cX1_in 3 (some .boolean) 1 0 0 [.int p, .int a, .int b] Z (wt_fn (sp_b (a ≤ p ∧ p ≤ b)) Z) := by
  refine wt_enter [some (.int p), some (.int a), some (.int b)] (by decide +kernel) rfl (Nat.le_of_ble_eq_true rfl) (fun X hc hok => ?_)
  refine wt_iload_0 (pc := 0) hc dX1_in_0 ?_
  refine wt_iload_1 (pc := 1) hc dX1_in_1 ?_
  refine wt_icmp_lt (pc := 2) 14 hc dX1_in_2 (by decide) (fun c_2 => ?_) (fun c_2 => ?_)
  · refine wt_iconst (pc := 14) (v := nI 0) hc dX1_in_14 (by decide) ?_
    exact wt_iret (pc := 15) hc hok dX1_in_15 (rfl) (fun H hZ => by first | exact sp_fnT ⟨Int32.not_lt.mp c_2, Int32.not_lt.mp c_7⟩ hZ | exact sp_fnF (fun z => absurd z.1 (Int32.not_le.mpr c_2)) hZ | exact sp_fnF (fun z => absurd z.2 (Int32.not_le.mpr c_7)) hZ)
  · refine wt_iload_0 (pc := 5) hc dX1_in_5 ?_
    refine wt_iload_2 (pc := 6) hc dX1_in_6 ?_
    refine wt_icmp_gt (pc := 7) 14 hc dX1_in_7 (by decide) (fun c_7 => ?_) (fun c_7 => ?_)
    · refine wt_iconst (pc := 14) (v := nI 0) hc dX1_in_14 (by decide) ?_
      exact wt_iret (pc := 15) hc hok dX1_in_15 (rfl) (fun H hZ => by first | exact sp_fnT ⟨Int32.not_lt.mp c_2, Int32.not_lt.mp c_7⟩ hZ | exact sp_fnF (fun z => absurd z.1 (Int32.not_le.mpr c_2)) hZ | exact sp_fnF (fun z => absurd z.2 (Int32.not_le.mpr c_7)) hZ)
    · refine wt_iconst (pc := 10) (v := nI 1) hc dX1_in_10 (by decide) ?_
      refine wt_goto (pc := 11) 15 hc dX1_in_11 (by decide) ?_
      exact wt_iret (pc := 15) hc hok dX1_in_15 (rfl) (fun H hZ => by first | exact sp_fnT ⟨Int32.not_lt.mp c_2, Int32.not_lt.mp c_7⟩ hZ | exact sp_fnF (fun z => absurd z.1 (Int32.not_le.mpr c_2)) hZ | exact sp_fnF (fun z => absurd z.2 (Int32.not_le.mpr c_7)) hZ)
theorem ct_X1_anOwl (hEv : cEv l G) (hY : cY B M q ro ow ri ru) (how : ow ≤ 5) (o : Int32) : xt_Ct l G yX1_anOwl cX1_anOwl 2 (some (.object "WingTrams$Owl")) 7 1 6 [.ref (q 0), .int o] (cz G B) (xt_pr (0 ≤ o ∧ o < nI ow) (q (20 + nn o)) (cz G B)) (xt_PB xNSE (fun H => ¬ (0 ≤ o ∧ o < nI ow) ∧ cz G B H)) := by
  have hX := hEv.1
  refine xt_enter [some (.ref (q 0)), some (.int o)] (by decide +kernel) rfl (Nat.le_of_ble_eq_true rfl) (fun X hc hok => ?_)
  refine wt_iload_1 (pc := 0) hc dX1_anOwl_0 ?_
  refine wt_iconst (pc := 1) (v := nI 0) hc dX1_anOwl_1 (by decide) ?_
  refine wt_aload_0 (pc := 2) hc dX1_anOwl_2 ?_
  refine cv_getr (pc := 3) (b := q 1) 0 hc cP0 (hY.kx) dX1_anOwl_3 q242 (by decide) (Or.inl rfl) (fun _ _ _ => rfl) (hY.xc) ?_
  refine cv_getrN (pc := 6) (b := q 4) 2 hc cP1 (hY.c) dX1_anOwl_6 q200 (by decide) (Or.inl rfl) (fun _ _ _ => rfl) (hY.co) ?_
  refine wt_gofn (wt_invF (pc := 9) 0 hc cP11 (hY.os) (ct_sL (hY.ol)) dX1_anOwl_9 rfl q314 q318 q320 q115 q322 (hX.F_J2_size) (by decide +kernel) rfl (by first | decide | omega) (by decide) (Nat.le_of_ble_eq_true rfl) rfl) ?_
  refine wt_iconst (pc := 14) (v := nI 1) hc dX1_anOwl_14 (by decide) ?_
  refine wt_isub (pc := 15) hc dX1_anOwl_15 ?_
  refine wt_gofn (wt_invS (pc := 16) 3 hc (ct_X1_in o (nI 0) (nI ow - nI 1)) dX1_anOwl_16 rfl q323 q324 q111 q325 (by decide +kernel) rfl (by first | decide | omega) (by decide) (Nat.le_of_ble_eq_true rfl) rfl) ?_
  refine xt_goPv hc hok (xt_invS (pc := 19) 1 hc (ct_X1_found hEv.2.2 _) dX1_anOwl_19 rfl q1295 q1296 q111 q1297 (by decide +kernel) rfl (by first | decide | omega) (by decide) (Nat.le_of_ble_eq_true rfl) rfl) (by decide) (by decide) (fun E q H h => ⟨h.1, fun z => absurd (sp_b_0.mp h.2.1) (fun y => y ⟨z.1, (cf_le1 (by omega)).mpr z.2⟩), h.2.2⟩) (fun hP => ?_)
  have hp : 0 ≤ o ∧ o < nI ow := ⟨(sp_b_n0 hP).1, (cf_le1 (by omega)).mp (sp_b_n0 hP).2⟩
  obtain ⟨k, hk, rfl⟩ := cf_in hp (by omega)
  rw [nn_nI (by omega)] at hok
  refine wt_aload_0 (pc := 22) hc dX1_anOwl_22 ?_
  refine cv_getr (pc := 23) (b := q 1) 0 hc cP0 (hY.kx) dX1_anOwl_23 q242 (by decide) (Or.inl rfl) (fun _ _ _ => rfl) (hY.xc) ?_
  refine cv_getrN (pc := 26) (b := q 4) 2 hc cP1 (hY.c) dX1_anOwl_26 q200 (by decide) (Or.inl rfl) (fun _ _ _ => rfl) (hY.co) ?_
  refine wt_iload_1 (pc := 29) hc dX1_anOwl_29 ?_
  refine wt_gofr (wt_invF (pc := 30) 1 hc cP11 (hY.os) (ct_gL (hY.ol) (by omega)) dX1_anOwl_30 rfl q446 q449 q451 q115 q453 (hX.F_J2_get) (by decide +kernel) rfl (by first | decide | omega) (by decide) (Nat.le_of_ble_eq_true rfl) rfl) ?_
  refine cv_castS (pc := 35) hc cP2 (hY.ok k (by omega)) dX1_anOwl_35 q458 ?_
  exact xt_ret hc hok (fun X hc hok => wt_aret (pc := 38) hc hok dX1_anOwl_38 (Or.inl ⟨_, rfl⟩) (fun H hZ => ⟨hp, rfl, hZ⟩))
end AN
