/-! CLASSES: what x is asked: owls, riders, roofs; its answers out of a night -/
set_option maxRecDepth 100000
section CYP
variable {B : cB} {M : wt_It} {q : Nat → Nat} {ro ow ri ru : Nat}
theorem cY.kx (h : cY B M q ro ow ri ru) : B.1 (q 0) = some (.inl 0) := h.1
theorem cY.xc (h : cY B M q ro ow ri ru) : B.2.2.1 (q 0) 0 = some (q 1) := h.2.1
theorem cY.c (h : cY B M q ro ow ri ru) : B.1 (q 1) = some (.inl 1) := h.2.2.1
theorem cY.nro (h : cY B M q ro ow ri ru) : B.2.1 (q 1) 5 = nI ro := h.2.2.2.1.1
theorem cY.fl (h : cY B M q ro ow ri ru) : B.2.1 (q 1) 6 = M 0 2 := h.2.2.2.1.2.1
theorem cY.da (h : cY B M q ro ow ri ru) : B.2.1 (q 1) 7 = M 0 6 := h.2.2.2.1.2.2
theorem cY.cg (h : cY B M q ro ow ri ru) : B.2.2.1 (q 1) 0 = some (q 2) := h.2.2.2.2.1.1
theorem cY.g (h : cY B M q ro ow ri ru) : B.1 (q 2) = some (.inr (0, 10)) := h.2.2.2.2.1.2.1
theorem cY.gr (h : cY B M q ro ow ri ru) (r : Nat) (hr : r < ro) : B.2.1 (q 2) r = M 47 (4 + r) := h.2.2.2.2.1.2.2 r hr
theorem cY.cm (h : cY B M q ro ow ri ru) : B.2.2.1 (q 1) 1 = some (q 3) := h.2.2.2.2.2.1.1
theorem cY.m (h : cY B M q ro ow ri ru) : B.1 (q 3) = some (.inr (4, 10)) := h.2.2.2.2.2.1.2.1
theorem cY.mr (h : cY B M q ro ow ri ru) (a : Nat) (ha : a < 10) : B.2.2.1 (q 3) a = some (q (10 + a)) := (h.2.2.2.2.2.1.2.2 a ha).1
theorem cY.mk (h : cY B M q ro ow ri ru) (a : Nat) (ha : a < 10) : B.1 (q (10 + a)) = some (.inr (0, 10)) := (h.2.2.2.2.2.1.2.2 a ha).2.1
theorem cY.mi (h : cY B M q ro ow ri ru) (a b : Nat) (ha : a < 10) (hb : b < 10) : B.2.1 (q (10 + a)) b = M 7 (10 * a + b) := (h.2.2.2.2.2.1.2.2 a ha).2.2 b hb
theorem cY.co (h : cY B M q ro ow ri ru) : B.2.2.1 (q 1) 2 = some (q 4) := h.2.2.2.2.2.2.1.1
theorem cY.ol (h : cY B M q ro ow ri ru) : cL B (q 4) ow (fun o => q (20 + o)) := h.2.2.2.2.2.2.1.2.1
theorem cY.os (h : cY B M q ro ow ri ru) : B.1 (q 4) = some (.inl 11) := h.ol.1
theorem cY.wo (h : cY B M q ro ow ri ru) (o : Nat) (ho : o < ow) {wl : Nat} (e : M 9 o = nI wl) (hw : wl ≤ 8) : cO B (q (20 + o)) (M 8 o) (M 47 (14 + o)) wl (fun i => M 10 (8 * o + i)) := by
  obtain ⟨wl2, h1, h2, h3⟩ := h.2.2.2.2.2.2.1.2.2 o ho
  have e2 : wl2 = wl := (nI_eq (by omega) (by omega)).mp (h2.symm.trans e)
  rw [e2] at h3
  exact h3
theorem cY.ok (h : cY B M q ro ow ri ru) (o : Nat) (ho : o < ow) : B.1 (q (20 + o)) = some (.inl 2) := by
  obtain ⟨wl2, h1, h2, h3⟩ := h.2.2.2.2.2.2.1.2.2 o ho
  exact h3.1
theorem cY.ki (h : cY B M q ro ow ri ru) (o : Nat) (ho : o < ow) : B.2.1 (q (20 + o)) 0 = M 8 o := by
  obtain ⟨wl2, h1, h2, h3⟩ := h.2.2.2.2.2.2.1.2.2 o ho
  exact h3.2.1
theorem cY.mt (h : cY B M q ro ow ri ru) (o : Nat) (ho : o < ow) : B.2.1 (q (20 + o)) 1 = M 47 (14 + o) := by
  obtain ⟨wl2, h1, h2, h3⟩ := h.2.2.2.2.2.2.1.2.2 o ho
  exact h3.2.2.1
theorem cY.cr (h : cY B M q ro ow ri ru) : B.2.2.1 (q 1) 3 = some (q 5) := h.2.2.2.2.2.2.2.1.1
theorem cY.rl (h : cY B M q ro ow ri ru) : cL B (q 5) ri (fun p => q (30 + p)) := h.2.2.2.2.2.2.2.1.2.1
theorem cY.rs (h : cY B M q ro ow ri ru) : B.1 (q 5) = some (.inl 11) := h.rl.1
theorem cY.rk (h : cY B M q ro ow ri ru) (p : Nat) (hp : p < ri) : B.1 (q (30 + p)) = some (.inr (0, 4)) := (h.2.2.2.2.2.2.2.1.2.2 p hp).1
theorem cY.rif (h : cY B M q ro ow ri ru) (p k : Nat) (hp : p < ri) (hk : k < 4) : B.2.1 (q (30 + p)) k = M 11 (4 * p + k) := (h.2.2.2.2.2.2.2.1.2.2 p hp).2 k hk
theorem cY.ch (h : cY B M q ro ow ri ru) : B.2.2.1 (q 1) 4 = some (q 6) := h.2.2.2.2.2.2.2.2.1
theorem cY.hl (h : cY B M q ro ow ri ru) : cL B (q 6) ru (fun f => q (40 + f)) := h.2.2.2.2.2.2.2.2.2
theorem cY.hs (h : cY B M q ro ow ri ru) : B.1 (q 6) = some (.inl 11) := h.hl.1
end CYP
/-- what a run carries, all in all -/
def cEv (l : Launch) (G : wt_G) : Prop := cX G ∧ cLs G ∧ cTh l G
/-- the ints of the row v anew -/
def cVr (B : cB) (v : Nat) (f : Nat → Int32) : cB := (B.1, (fun a => if a = v then f else B.2.1 a), B.2.2.1, B.2.2.2)
/-- behind an answer: but for the values' row all is as it was -/
def xa (G : wt_G) (B : cB) (v : Nat) : Heap → Prop := fun H => ∃ f, cz G (cVr B v f) H
theorem bG.back {G : wt_G} {B : cB} {S : bS} {v N : Nat} {D : wt_It} {H : Heap} (h : bG B S v) (hE : bE G S N) (hN : 0 < N) (h0 : S.2.1 0 = v) (hz : cz G (bB S D) H) : xa G B v H := by
  refine ⟨D 0, cz_forget (fun a k ha => ?_) hz⟩
  have hne : B.1 a ≠ none := by
    have ha' : B.1 a = some k := ha
    rw [ha']; exact fun z => by cases z
  obtain ⟨h1, h2, h3, h4⟩ := h a hne
  refine ⟨h1.trans ha, ?_, h2, h3⟩
  show (bB S D).2.1 a = if a = v then D 0 else B.2.1 a
  by_cases e : a = v
  · rw [if_pos e, e, ← h0]
    exact ov_at hE hN
  · rw [if_neg e]
    exact h.ints hne e
/-- a number in range -/
theorem cf_in {p : Int32} {n : Nat} (h : 0 ≤ p ∧ p < nI n) (hn : n < 2 ^ 31) : ∃ k, k < n ∧ p = nI k := by
  obtain ⟨h1, h2⟩ := h
  have e1 := Int32.le_iff_toInt_le.mp h1
  have e2 := Int32.lt_iff_toInt_lt.mp h2
  have e0 : (0 : Int32).toInt = 0 := by decide
  rw [e0] at e1
  rw [nI_toInt hn] at e2
  refine ⟨p.toInt.toNat, by omega, ?_⟩
  apply Int32.toInt_inj.mp
  rw [nI_toInt (by omega)]
  omega
theorem cf_le1 {p : Int32} {n : Nat} (hn : n < 2 ^ 31) : p ≤ nI n - nI 1 ↔ p < nI n := by
  rw [Int32.le_iff_toInt_le, Int32.lt_iff_toInt_lt, nI_toInt hn]
  have : (nI n - nI 1).toInt = (n : Int) - 1 := by
    cases n with
    | zero => decide
    | succ n =>
      rw [show nI (n + 1) - nI 1 = nI n from nI_pred n, nI_toInt (by omega)]
      omega
  rw [this]
  omega
/-- a known answer of a call that makes cells -/
theorem wt_gofnK {G : wt_G} {X : wt_X} {pc : Nat} {L : List (Option Value)} {Z Z' : Heap → Prop} {kc ks : Nat} {len mc ms : Nat} {st0 rest : List Value} {r : Int32} (hr : wt_Run G X pc len L st0 rest Z (wt_fn r Z') mc ms) (h1 : mc ≤ kc) (h2 : ms ≤ ks) (k : wt_V G X (pc + len) L (.int r :: rest) Z' (kc - mc) (ks - ms)) : wt_V G X pc L st0 Z kc ks := by
  refine wt_go hr h1 h2 (fun v => ?_)
  refine wt_ex (S := PLift (v = some (.int r))) (Z' := fun _ => Z') (fun H h => ⟨⟨h.1⟩, h.2⟩) (fun u => ?_)
  rw [u.down]
  exact k
section AN
variable {l : Launch} {G : wt_G} {B : cB} {M : wt_It} {q : Nat → Nat} {v ro ow ri ru : Nat} {Z : Heap → Prop}
theorem ct_X1_in (p a b : Int32) : wt_Ct l G yX1_in cX1_in 3 (some .boolean) 1 0 0 [.int p, .int a, .int b] Z (wt_fn (sp_b (a ≤ p ∧ p ≤ b)) Z) := by
  refine wt_enter [some (.int p), some (.int a), some (.int b)] (by decide +kernel) rfl (Nat.le_of_ble_eq_true rfl) (fun X hc hok => ?_)
  refine wt_iload_0 (pc := 0) hc dX1_in_0 ?_
  refine wt_iload_1 (pc := 1) hc dX1_in_1 ?_
  refine wt_icmp_lt (pc := 2) 14 hc dX1_in_2 (by decide) (fun c_2 => ?_) (fun c_2 => ?_)
  · refine wt_iconst (pc := 14) (v := nI 0) hc dX1_in_14 (by decide) ?_
    exact wt_iret (pc := 15) hc hok dX1_in_15 (rfl) (fun H hZ => by first | exact sp_fnT ⟨Int32.not_lt.mp c_2, Int32.not_lt.mp c_7⟩ hZ | exact sp_fnF (fun z => absurd z.1 (Int32.not_le.mpr c_2)) hZ | exact sp_fnF (fun z => absurd z.2 (Int32.not_le.mpr c_7)) hZ)
  · refine wt_iload_0 (pc := 5) hc dX1_in_5 ?_
    refine wt_iload_2 (pc := 6) hc dX1_in_6 ?_
    refine wt_icmp_gt (pc := 7) 14 hc dX1_in_7 (by decide) (fun c_7 => ?_) (fun c_7 => ?_)
    · refine wt_iconst (pc := 14) (v := nI 0) hc dX1_in_14 (by decide) ?_
      exact wt_iret (pc := 15) hc hok dX1_in_15 (rfl) (fun H hZ => by first | exact sp_fnT ⟨Int32.not_lt.mp c_2, Int32.not_lt.mp c_7⟩ hZ | exact sp_fnF (fun z => absurd z.1 (Int32.not_le.mpr c_2)) hZ | exact sp_fnF (fun z => absurd z.2 (Int32.not_le.mpr c_7)) hZ)
    · refine wt_iconst (pc := 10) (v := nI 1) hc dX1_in_10 (by decide) ?_
      refine wt_goto (pc := 11) 15 hc dX1_in_11 (by decide) ?_
      exact wt_iret (pc := 15) hc hok dX1_in_15 (rfl) (fun H hZ => by first | exact sp_fnT ⟨Int32.not_lt.mp c_2, Int32.not_lt.mp c_7⟩ hZ | exact sp_fnF (fun z => absurd z.1 (Int32.not_le.mpr c_2)) hZ | exact sp_fnF (fun z => absurd z.2 (Int32.not_le.mpr c_7)) hZ)
theorem ct_X1_anOwl (hEv : cEv l G) (hY : cY B M q ro ow ri ru) (how : ow ≤ 5) (o : Int32) : xt_Ct l G yX1_anOwl cX1_anOwl 2 (some (.object "WingTrams$Owl")) 7 1 6 [.ref (q 0), .int o] (cz G B) (xt_pr (0 ≤ o ∧ o < nI ow) (q (20 + nn o)) (cz G B)) (xt_PB xNSE (fun H => ¬ (0 ≤ o ∧ o < nI ow) ∧ cz G B H)) := by
  have hX := hEv.1
  refine xt_enter [some (.ref (q 0)), some (.int o)] (by decide +kernel) rfl (Nat.le_of_ble_eq_true rfl) (fun X hc hok => ?_)
  refine wt_iload_1 (pc := 0) hc dX1_anOwl_0 ?_
  refine wt_iconst (pc := 1) (v := nI 0) hc dX1_anOwl_1 (by decide) ?_
  refine wt_aload_0 (pc := 2) hc dX1_anOwl_2 ?_
  refine cv_getr (pc := 3) (b := q 1) 0 hc cP0 (hY.kx) dX1_anOwl_3 q242 (by decide) (Or.inl rfl) (fun _ _ _ => rfl) (hY.xc) ?_
  refine cv_getrN (pc := 6) (b := q 4) 2 hc cP1 (hY.c) dX1_anOwl_6 q200 (by decide) (Or.inl rfl) (fun _ _ _ => rfl) (hY.co) ?_
  refine wt_gofn (wt_invF (pc := 9) 0 hc cP11 (hY.os) (ct_sL (hY.ol)) dX1_anOwl_9 rfl q314 q318 q320 q115 q322 (hX.F_J2_size) (by decide +kernel) rfl (by first | decide | omega) (by decide) (Nat.le_of_ble_eq_true rfl) rfl) ?_
  refine wt_iconst (pc := 14) (v := nI 1) hc dX1_anOwl_14 (by decide) ?_
  refine wt_isub (pc := 15) hc dX1_anOwl_15 ?_
  refine wt_gofn (wt_invS (pc := 16) 3 hc (ct_X1_in o (nI 0) (nI ow - nI 1)) dX1_anOwl_16 rfl q323 q324 q111 q325 (by decide +kernel) rfl (by first | decide | omega) (by decide) (Nat.le_of_ble_eq_true rfl) rfl) ?_
  refine xt_goPv hc hok (xt_invS (pc := 19) 1 hc (ct_X1_found hEv.2.2 _) dX1_anOwl_19 rfl q1295 q1296 q111 q1297 (by decide +kernel) rfl (by first | decide | omega) (by decide) (Nat.le_of_ble_eq_true rfl) rfl) (by decide) (by decide) (fun E q H h => ⟨h.1, fun z => absurd (sp_b_0.mp h.2.1) (fun y => y ⟨z.1, (cf_le1 (by omega)).mpr z.2⟩), h.2.2⟩) (fun hP => ?_)
  have hp : 0 ≤ o ∧ o < nI ow := ⟨(sp_b_n0 hP).1, (cf_le1 (by omega)).mp (sp_b_n0 hP).2⟩
  obtain ⟨k, hk, rfl⟩ := cf_in hp (by omega)
  rw [nn_nI (by omega)] at hok
  refine wt_aload_0 (pc := 22) hc dX1_anOwl_22 ?_
  refine cv_getr (pc := 23) (b := q 1) 0 hc cP0 (hY.kx) dX1_anOwl_23 q242 (by decide) (Or.inl rfl) (fun _ _ _ => rfl) (hY.xc) ?_
  refine cv_getrN (pc := 26) (b := q 4) 2 hc cP1 (hY.c) dX1_anOwl_26 q200 (by decide) (Or.inl rfl) (fun _ _ _ => rfl) (hY.co) ?_
  refine wt_iload_1 (pc := 29) hc dX1_anOwl_29 ?_
  refine wt_gofr (wt_invF (pc := 30) 1 hc cP11 (hY.os) (ct_gL (hY.ol) (by omega)) dX1_anOwl_30 rfl q446 q449 q451 q115 q453 (hX.F_J2_get) (by decide +kernel) rfl (by first | decide | omega) (by decide) (Nat.le_of_ble_eq_true rfl) rfl) ?_
  refine cv_castS (pc := 35) hc cP2 (hY.ok k (by omega)) dX1_anOwl_35 q458 ?_
  exact xt_ret hc hok (fun X hc hok => wt_aret (pc := 38) hc hok dX1_anOwl_38 (Or.inl ⟨_, rfl⟩) (fun H hZ => ⟨hp, rfl, hZ⟩))
theorem ct_X1_aRider (hEv : cEv l G) (hY : cY B M q ro ow ri ru) (hri : ri ≤ 8) (o : Int32) : xt_Ct l G yX1_aRider cX1_aRider 2 (some (.array .int)) 7 1 6 [.ref (q 0), .int o] (cz G B) (xt_pr (0 ≤ o ∧ o < nI ri) (q (30 + nn o)) (cz G B)) (xt_PB xNSE (fun H => ¬ (0 ≤ o ∧ o < nI ri) ∧ cz G B H)) := by
  have hX := hEv.1
  refine xt_enter [some (.ref (q 0)), some (.int o)] (by decide +kernel) rfl (Nat.le_of_ble_eq_true rfl) (fun X hc hok => ?_)
  refine wt_iload_1 (pc := 0) hc dX1_aRider_0 ?_
  refine wt_iconst (pc := 1) (v := nI 0) hc dX1_aRider_1 (by decide) ?_
  refine wt_aload_0 (pc := 2) hc dX1_aRider_2 ?_
  refine cv_getr (pc := 3) (b := q 1) 0 hc cP0 (hY.kx) dX1_aRider_3 q242 (by decide) (Or.inl rfl) (fun _ _ _ => rfl) (hY.xc) ?_
  refine cv_getrN (pc := 6) (b := q 5) 3 hc cP1 (hY.c) dX1_aRider_6 q203 (by decide) (Or.inl rfl) (fun _ _ _ => rfl) (hY.cr) ?_
  refine wt_gofn (wt_invF (pc := 9) 0 hc cP11 (hY.rs) (ct_sL (hY.rl)) dX1_aRider_9 rfl q314 q318 q320 q115 q322 (hX.F_J2_size) (by decide +kernel) rfl (by first | decide | omega) (by decide) (Nat.le_of_ble_eq_true rfl) rfl) ?_
  refine wt_iconst (pc := 14) (v := nI 1) hc dX1_aRider_14 (by decide) ?_
  refine wt_isub (pc := 15) hc dX1_aRider_15 ?_
  refine wt_gofn (wt_invS (pc := 16) 3 hc (ct_X1_in o (nI 0) (nI ri - nI 1)) dX1_aRider_16 rfl q323 q324 q111 q325 (by decide +kernel) rfl (by first | decide | omega) (by decide) (Nat.le_of_ble_eq_true rfl) rfl) ?_
  refine xt_goPv hc hok (xt_invS (pc := 19) 1 hc (ct_X1_found hEv.2.2 _) dX1_aRider_19 rfl q1295 q1296 q111 q1297 (by decide +kernel) rfl (by first | decide | omega) (by decide) (Nat.le_of_ble_eq_true rfl) rfl) (by decide) (by decide) (fun E q H h => ⟨h.1, fun z => absurd (sp_b_0.mp h.2.1) (fun y => y ⟨z.1, (cf_le1 (by omega)).mpr z.2⟩), h.2.2⟩) (fun hP => ?_)
  have hp : 0 ≤ o ∧ o < nI ri := ⟨(sp_b_n0 hP).1, (cf_le1 (by omega)).mp (sp_b_n0 hP).2⟩
  obtain ⟨k, hk, rfl⟩ := cf_in hp (by omega)
  rw [nn_nI (by omega)] at hok
  refine wt_aload_0 (pc := 22) hc dX1_aRider_22 ?_
  refine cv_getr (pc := 23) (b := q 1) 0 hc cP0 (hY.kx) dX1_aRider_23 q242 (by decide) (Or.inl rfl) (fun _ _ _ => rfl) (hY.xc) ?_
  refine cv_getrN (pc := 26) (b := q 5) 3 hc cP1 (hY.c) dX1_aRider_26 q203 (by decide) (Or.inl rfl) (fun _ _ _ => rfl) (hY.cr) ?_
  refine wt_iload_1 (pc := 29) hc dX1_aRider_29 ?_
  refine wt_gofr (wt_invF (pc := 30) 1 hc cP11 (hY.rs) (ct_gL (hY.rl) (by omega)) dX1_aRider_30 rfl q446 q449 q451 q115 q453 (hX.F_J2_get) (by decide +kernel) rfl (by first | decide | omega) (by decide) (Nat.le_of_ble_eq_true rfl) rfl) ?_
  refine cv_castA (pc := 35) hc (hY.rk k (by omega)) (by decide +kernel) dX1_aRider_35 q444 ?_
  exact xt_ret hc hok (fun X hc hok => wt_aret (pc := 38) hc hok dX1_aRider_38 (Or.inr ⟨_, rfl⟩) (fun H hZ => ⟨hp, rfl, hZ⟩))
theorem ct_X1_isRoof (hY : cY B M q ro ow ri ru) (hro : ro ≤ 10) (o : Int32) : wt_Ct l G yX1_isRoof cX1_isRoof 2 (some .boolean) 2 0 0 [.ref (q 0), .int o] (cz G B) (wt_fn (sp_b (0 ≤ o ∧ o < nI ro)) (cz G B)) := by
  refine wt_enter [some (.ref (q 0)), some (.int o)] (by decide +kernel) rfl (Nat.le_of_ble_eq_true rfl) (fun X hc hok => ?_)
  have e : sp_b (nI 0 ≤ o ∧ o ≤ nI ro - nI 1) = sp_b (0 ≤ o ∧ o < nI ro) := by
    unfold sp_b
    by_cases h : 0 ≤ o ∧ o < nI ro
    · rw [if_pos h, if_pos ⟨h.1, (cf_le1 (by omega)).mpr h.2⟩]
    · rw [if_neg h, if_neg (fun z => h ⟨z.1, (cf_le1 (by omega)).mp z.2⟩)]
  refine wt_iload_1 (pc := 0) hc dX1_isRoof_0 ?_
  refine wt_iconst (pc := 1) (v := nI 0) hc dX1_isRoof_1 (by decide) ?_
  refine wt_aload_0 (pc := 2) hc dX1_isRoof_2 ?_
  refine cv_getr (pc := 3) (b := q 1) 0 hc cP0 (hY.kx) dX1_isRoof_3 q242 (by decide) (Or.inl rfl) (fun _ _ _ => rfl) (hY.xc) ?_
  refine cv_getiN (pc := 6) 5 (nI ro) hc cP1 (hY.c) dX1_isRoof_6 q212 (by decide) (Or.inl rfl) (fun _ _ _ => rfl) (hY.nro) ?_
  refine wt_iconst (pc := 9) (v := nI 1) hc dX1_isRoof_9 (by decide) ?_
  refine wt_isub (pc := 10) hc dX1_isRoof_10 ?_
  refine wt_gofn (wt_invS (pc := 11) 3 hc (ct_X1_in o (nI 0) (nI ro - nI 1)) dX1_isRoof_11 rfl q323 q324 q111 q325 (by decide +kernel) rfl (by first | decide | omega) (by decide) (Nat.le_of_ble_eq_true rfl) rfl) ?_
  exact wt_iret (pc := 14) hc hok dX1_isRoof_14 (sp_b_nar) (fun H hZ => ⟨by rw [e], hZ⟩)
theorem ct_X1_aRoof (hEv : cEv l G) (hY : cY B M q ro ow ri ru) (hro : ro ≤ 10) (o : Int32) : xt_Ct l G yX1_aRoof cX1_aRoof 2 none 7 1 6 [.ref (q 0), .int o] (cz G B) (xt_pv (0 ≤ o ∧ o < nI ro) (cz G B)) (xt_PB xNSE (fun H => ¬ (0 ≤ o ∧ o < nI ro) ∧ cz G B H)) := by
  refine xt_enter [some (.ref (q 0)), some (.int o)] (by decide +kernel) rfl (Nat.le_of_ble_eq_true rfl) (fun X hc hok => ?_)
  refine wt_aload_0 (pc := 0) hc dX1_aRoof_0 ?_
  refine wt_iload_1 (pc := 1) hc dX1_aRoof_1 ?_
  refine wt_gofn (wt_invV (pc := 2) 1 hc (ct_X1_isRoof hY hro o) dX1_aRoof_2 rfl (fun s H => cz_recv cP0 (hY.kx) s H) q1324 q1326 qs43 q111 q1327 (by decide +kernel) rfl (by first | decide | omega) (by decide) (Nat.le_of_ble_eq_true rfl) rfl) ?_
  refine xt_goPv hc hok (xt_invS (pc := 5) 1 hc (ct_X1_found hEv.2.2 _) dX1_aRoof_5 rfl q1295 q1296 q111 q1297 (by decide +kernel) rfl (by first | decide | omega) (by decide) (Nat.le_of_ble_eq_true rfl) rfl) (by decide) (by decide) (fun E q H h => ⟨h.1, sp_b_0.mp h.2.1, h.2.2⟩) (fun hP => ?_)
  exact xt_ret hc hok (fun X hc hok => wt_vret (pc := 8) hc hok dX1_aRoof_8 (fun H hZ => ⟨sp_b_n0 hP, rfl, hZ⟩))
theorem ct_X1_oneOf (hEv : cEv l G) (w m : Int32) : xt_Ct l G yX1_oneOf cX1_oneOf 2 none 7 1 6 [.int w, .int m] (cz G B) (xt_pv (0 ≤ w ∧ w ≤ m) (cz G B)) (xt_PB xNSE (fun H => ¬ (0 ≤ w ∧ w ≤ m) ∧ cz G B H)) := by
  refine xt_enter [some (.int w), some (.int m)] (by decide +kernel) rfl (Nat.le_of_ble_eq_true rfl) (fun X hc hok => ?_)
  refine wt_iload_0 (pc := 0) hc dX1_oneOf_0 ?_
  refine wt_iconst (pc := 1) (v := nI 0) hc dX1_oneOf_1 (by decide) ?_
  refine wt_iload_1 (pc := 2) hc dX1_oneOf_2 ?_
  refine wt_gofn (wt_invS (pc := 3) 3 hc (ct_X1_in w (nI 0) m) dX1_oneOf_3 rfl q323 q324 q111 q325 (by decide +kernel) rfl (by first | decide | omega) (by decide) (Nat.le_of_ble_eq_true rfl) rfl) ?_
  refine xt_goPv hc hok (xt_invS (pc := 6) 1 hc (ct_X1_found hEv.2.2 _) dX1_oneOf_6 rfl q1295 q1296 q111 q1297 (by decide +kernel) rfl (by first | decide | omega) (by decide) (Nat.le_of_ble_eq_true rfl) rfl) (by decide) (by decide) (fun E q H h => ⟨h.1, sp_b_0.mp h.2.1, h.2.2⟩) (fun hP => ?_)
  exact xt_ret hc hok (fun X hc hok => wt_vret (pc := 9) hc hok dX1_oneOf_9 (fun H hZ => ⟨sp_b_n0 hP, rfl, hZ⟩))
theorem ct_X1_told (x : Int32) : wt_Ct l G yX1_told cX1_told 1 (some .int) 1 0 0 [.int x] Z (wt_fn (if x < 1000000 then x else -1) Z) := by
  refine wt_enter [some (.int x)] (by decide +kernel) rfl (Nat.le_of_ble_eq_true rfl) (fun X hc hok => ?_)
  refine wt_iload_0 (pc := 0) hc dX1_told_0 ?_
  refine wt_ldc (pc := 1) (v := nI 1000000) hc dX1_told_1 q664 ?_
  refine wt_icmp_lt (pc := 3) 10 hc dX1_told_3 (by decide) (fun c_3 => ?_) (fun c_3 => ?_)
  · refine wt_iload_0 (pc := 10) hc dX1_told_10 ?_
    exact wt_iret (pc := 11) hc hok dX1_told_11 (rfl) (fun H hZ => ⟨by first | rw [if_pos (show x < 1000000 from c_3)] | rw [if_neg (show ¬ x < 1000000 from c_3)], hZ⟩)
  · refine wt_iconst (pc := 6) (v := (-1 : Int32)) hc dX1_told_6 (by decide) ?_
    refine wt_goto (pc := 7) 11 hc dX1_told_7 (by decide) ?_
    exact wt_iret (pc := 11) hc hok dX1_told_11 (rfl) (fun H hZ => ⟨by first | rw [if_pos (show x < 1000000 from c_3)] | rw [if_neg (show ¬ x < 1000000 from c_3)], hZ⟩)
theorem wt_exN {X : wt_X} {pc : Nat} {L : List (Option Value)} {st : List Value} {kc ks : Nat} {P : bS → wt_It → wt_It → Prop} (k : ∀ S D D', P S D D' → wt_V G X pc L st (cz G (bB S D')) kc ks) : wt_V G X pc L st (fun H => ∃ S D D', P S D D' ∧ cz G (bB S D') H) kc ks := by
  refine wt_ex (S := {u : bS × wt_It × wt_It // P u.1 u.2.1 u.2.2}) (Z' := fun u => cz G (bB u.1.1 u.1.2.2)) (fun H h => ?_) (fun u => k u.1.1 u.1.2.1 u.1.2.2 u.2)
  obtain ⟨S, D, D', h1, h2⟩ := h
  exact ⟨⟨(S, D, D'), h1⟩, h2⟩
theorem ct_X1_home (hEv : cEv l G) (h : cN0 G B M q v ro ow ri ru) (p : Int32) : xt_Ct l G yX1_home cX1_home 3 (some .int) 105 19 148 [.ref (q 0), .int p] (cz G B) (xt_pi (0 ≤ p ∧ p < nI ri) (if sp_soon (sp_night M) (nn p) < 1000000 then sp_soon (sp_night M) (nn p) else -1) (xa G B v)) (xt_PB xNSE (fun H => ¬ (0 ≤ p ∧ p < nI ri) ∧ cz G B H)) := by
  have hX := hEv.1
  have hY := h.2.1
  have hri : ri ≤ 8 := h.2.2.2.2.1.2.2.2.1
  refine xt_enter [some (.ref (q 0)), some (.int p), none] (by decide +kernel) rfl (Nat.le_of_ble_eq_true rfl) (fun X hc hok => ?_)
  refine wt_aload_0 (pc := 0) hc dX1_home_0 ?_
  refine wt_iload_1 (pc := 1) hc dX1_home_1 ?_
  refine xt_goPr hc hok (xt_invV (pc := 2) 1 hc (ct_X1_aRider hEv hY hri p) dX1_home_2 rfl (fun s H => cz_recv cP0 (hY.kx) s H) q1370 q1372 qs45 q111 q1373 (by decide +kernel) rfl (by first | decide | omega) (by decide) (Nat.le_of_ble_eq_true rfl) rfl) (by decide) (by decide) (fun _ _ _ h => h) (fun hP => ?_)
  obtain ⟨k, hk, rfl⟩ := cf_in hP (by omega)
  rw [nn_nI (by omega)] at hok ⊢
  refine wt_astore_2 (pc := 5) hc dX1_home_5 rfl ?_
  refine wt_aload_0 (pc := 6) hc dX1_home_6 ?_
  refine wt_gor (wt_invV (pc := 7) 0 hc (ct_X1_night hX hEv.2.1.1 hEv.2.1.2.1 h) dX1_home_7 rfl (fun s H => cz_recv cP0 (hY.kx) s H) q463 q465 qs6 q111 q466 (by decide +kernel) rfl (by first | decide | omega) (by decide) (Nat.le_of_ble_eq_true rfl) rfl) (by decide) (by decide) (fun r => ?_)
  refine wt_exN (fun S D D' hN => ?_)
  obtain ⟨⟨t1, t2, t3, t4, t5, t6, t7⟩, rfl, hRn⟩ := hN
  have hE := t1.1
  have hRq := hRn.rq t7
  refine wt_aload_2 (pc := 10) hc dX1_home_10 ?_
  refine wt_gofn (wt_invV (pc := 11) 1 hc (ct_X11_home hX k hE (Nat.le_refl _) t2 t3 hk hRq.1) dX1_home_11 rfl (fun s H => cz_recv cP3 (t2.n) s H) q647 q648 q649 q143 q650 (by decide +kernel) rfl (by first | decide | omega) (by decide) (Nat.le_of_ble_eq_true rfl) rfl) ?_
  refine wt_gofn (wt_invS (pc := 14) 1 hc (ct_X1_told _) dX1_home_14 rfl q1409 q1410 q111 q1411 (by decide +kernel) rfl (by first | decide | omega) (by decide) (Nat.le_of_ble_eq_true rfl) rfl) ?_
  exact xt_ret hc hok (fun X hc hok => wt_iret (pc := 17) hc hok dX1_home_17 (rfl) (fun H hZ => ⟨hP, rfl, t5.back hE (by decide) t6 hZ⟩))
end AN
