/-! THE JDK: lists: add -/
set_option maxRecDepth 100000
/-- a list told with its array -/
def cLd (B : cB) (a d n c : Nat) (e : Nat → Nat) : Prop := B.1 a = some (.inl 11) ∧ B.2.1 a 2 = nI c ∧ B.1 d = some (.inr (5, n)) ∧ B.2.2.1 a 1 = some d ∧ c ≤ n ∧ n < 2 ^ 20 ∧ ∀ i, i < c → B.2.2.1 d i = some (e i)
theorem cLd.L {B : cB} {a d n c : Nat} {e : Nat → Nat} (h : cLd B a d n c e) : cL B a c e := by
  obtain ⟨h1, h2, h3, h4, h5, h6, h7⟩ := h
  exact ⟨h1, h2, d, n, h3, h4, h5, by omega, h7⟩
/-- the list a, full with n, has a new array r of N places -/
def cGr (B B' : cB) (a d c N r : Nat) : Prop := B'.1 = (fun b => if b = r then some (.inr (5, N)) else B.1 b) ∧ B'.2.1 = wt_rw B.2.1 r 0 ∧ (∀ i, i < c → B'.2.2.1 r i = B.2.2.1 d i) ∧ B'.2.2.1 a 1 = some r ∧ (∀ b f, b ≠ r → ¬ (b = a ∧ f = 1) → B'.2.2.1 b f = B.2.2.1 b f) ∧ B'.2.2.2 = wt_rw B.2.2.2 r 0
theorem cf_shr1 {n : Nat} (h : n < 2 ^ 20) : nI n >>> (nI 1 &&& 31) = nI (n / 2) := by
  have := pk_shrN (n := n) (by omega) (nI 1 &&& 31) 1 (by decide)
  rw [this]
theorem cOK_cN {G : wt_G} {B : cB} {r : Nat} {x : wt_kd} (hG : cOK G B) (hr : G.1 ≤ r) : cOK G (cN B r x) := by
  intro z k hz ho
  by_cases e : z = r
  · rw [e]; exact hr
  · exact hG z k ((if_neg e : (cN B r x).1 z = B.1 z).symm.trans hz) ho
section JC
variable {l : Launch} {G : wt_G} {Z : Heap → Prop} {B : cB}
theorem ct_J2_grow_2 (hLs : cLs G) (a d n ms : Nat) (hG : cOK G B) (ha : B.1 a = some (.inl 11)) (hd : B.1 d = some (.inr (5, n))) (r1 : B.2.2.1 a 1 = some d) (hn : n < 2 ^ 20) (hel : cEl B d n) (hms : 2 * n + 10 ≤ ms) : wt_Ct l G yJ2_grow_2 cJ2_grow_2 4 (some (.array (.object "java/lang/Object"))) 4 1 ms [.ref a, .int (nI (n + 1))] (cz G B) (wt_pr (fun r H => ∃ B', (∃ N, n + 1 ≤ N ∧ N ≤ 2 * n + 10 ∧ G.1 ≤ r ∧ (∀ b, r ≤ b → B.1 b = none) ∧ cGr B B' a d n N r) ∧ cz G B' H)) := by
  refine wt_enter [some (.ref a), some (.int (nI (n + 1))), none, none] (by decide +kernel) rfl (Nat.le_of_ble_eq_true rfl) (fun X hc hok => ?_)
  have copy : wt_V G X 20 [some (.ref a), some (.int (nI (n + 1))), some (.int (nI n)), none] [] (cz G B) 1 ms := by
    have hN : n + 1 ≤ n + (if n + 1 - n < n / 2 then n / 2 else n + 1 - n) ∧ n + (if n + 1 - n < n / 2 then n / 2 else n + 1 - n) ≤ 2 * n + 10 := by split <;> omega
    refine wt_iload_2 (pc := 20) hc dJ2_grow_2_20 ?_
    refine wt_iload_1 (pc := 21) hc dJ2_grow_2_21 ?_
    refine wt_iload_2 (pc := 22) hc dJ2_grow_2_22 ?_
    refine wt_isub (pc := 23) hc dJ2_grow_2_23 ?_
    rw [pk_sub (a := n + 1) (b := n) (by omega)]
    refine wt_iload_2 (pc := 24) hc dJ2_grow_2_24 ?_
    refine wt_iconst (pc := 25) (v := nI 1) hc dJ2_grow_2_25 (by decide) ?_
    refine wt_ishr (pc := 26) hc dJ2_grow_2_26 ?_
    refine wt_topi (z := nI (n / 2)) (cf_shr1 hn) ?_
    refine wt_gofn (wt_invS (pc := 27) 3 hc (ct_J16_newLength n (n + 1 - n) (n / 2) (by omega) (by omega) (by omega) (by omega)) dJ2_grow_2_27 rfl q351 q352 q134 q353 (by decide +kernel) rfl (by first | decide | omega) (by decide) (Nat.le_of_ble_eq_true rfl) rfl) ?_
    refine wt_istore_3 (pc := 30) hc dJ2_grow_2_30 rfl ?_
    generalize hNe : n + (if n + 1 - n < n / 2 then n / 2 else n + 1 - n) = N at hN
    refine wt_aload_0 (pc := 31) hc dJ2_grow_2_31 ?_
    refine wt_aload_0 (pc := 32) hc dJ2_grow_2_32 ?_
    refine cv_getr (pc := 33) (b := d) 1 hc cP11 (ha) dJ2_grow_2_33 q176 (by decide) (Or.inl rfl) (fun _ _ _ => rfl) (r1) ?_
    refine wt_iload_3 (pc := 36) hc dJ2_grow_2_36 ?_
    refine wt_gor (wt_invS (pc := 37) 2 hc (ct_J17_copyOf hLs d n N n hG hd (by omega) (by omega) (Or.inl ⟨rfl, by omega⟩) hel ms (by omega)) dJ2_grow_2_37 rfl q361 q362 q135 q363 (by decide +kernel) rfl (by first | decide | omega) (by decide) (Nat.le_of_ble_eq_true rfl) rfl) (Nat.le_refl _) (Nat.le_refl _) (fun r => ?_)
    refine wt_and (fun hr => ?_)
    have hne : a ≠ r := fun z => by rw [z, hr.2 r (Nat.le_refl _)] at ha; cases ha
    have ha2 : (cRr (cN B r (.inr (5, N))) r (va_cpy (B.2.2.1 d) (fun _ => none) 0 0 n)).1 a = some (.inl 11) := (if_neg hne).trans ha
    refine wt_dup_x1 (pc := 40) hc dJ2_grow_2_40 rfl rfl ?_
    refine cv_putr (pc := 41) (x := some r) 1 hc (cOK_cN hG hr.1) cP11 ha2 dJ2_grow_2_41 q176 (by decide) (fun _ _ _ => rfl) (Or.inl rfl) rfl rfl rfl ?_
    have hG2 : cGr B (cR (cRr (cN B r (.inr (5, N))) r (va_cpy (B.2.2.1 d) (fun _ => none) 0 0 n)) a 1 (some r)) a d n N r := by
      refine ⟨rfl, rfl, fun i hi => ?_, wt_up2_self _ _ _ _, fun b f h1 h2 => ?_, rfl⟩
      · show wt_up2 (cRr (cN B r (.inr (5, N))) r (va_cpy (B.2.2.1 d) (fun _ => none) 0 0 n)).2.2.1 a 1 (some r) r i = _
        rw [wt_up2_ne (fun z => hne z.1.symm)]
        have e1 : (cRr (cN B r (.inr (5, N))) r (va_cpy (B.2.2.1 d) (fun _ => none) 0 0 n)).2.2.1 r = va_cpy (B.2.2.1 d) (fun _ => none) 0 0 n := if_pos rfl
        rw [e1]
        refine (if_pos ⟨Nat.zero_le _, by omega⟩).trans ?_
        rw [Nat.zero_add, Nat.sub_zero]
      · show wt_up2 (cRr (cN B r (.inr (5, N))) r (va_cpy (B.2.2.1 d) (fun _ => none) 0 0 n)).2.2.1 a 1 (some r) b f = _
        rw [wt_up2_ne h2]
        have e1 : (cRr (cN B r (.inr (5, N))) r (va_cpy (B.2.2.1 d) (fun _ => none) 0 0 n)).2.2.1 b = (cN B r (.inr (5, N))).2.2.1 b := if_neg h1
        rw [e1]
        exact if_neg h1
    exact wt_aret (pc := 44) hc hok dJ2_grow_2_44 (Or.inr ⟨_, rfl⟩) (fun H hZ => ⟨r, rfl, _, ⟨N, by omega, by omega, hr.1, hr.2, hG2⟩, hZ⟩)
  refine wt_aload_0 (pc := 0) hc dJ2_grow_2_0 ?_
  refine cv_getr (pc := 1) (b := d) 1 hc cP11 (ha) dJ2_grow_2_1 q176 (by decide) (Or.inl rfl) (fun _ _ _ => rfl) (r1) ?_
  refine cv_alen (pc := 4) hc (hd) dJ2_grow_2_4 ?_
  refine wt_istore_2 (pc := 5) hc dJ2_grow_2_5 rfl ?_
  refine wt_iload_2 (pc := 6) hc dJ2_grow_2_6 ?_
  refine wt_if_gt (pc := 7) 20 hc dJ2_grow_2_7 (by decide) (fun c_7 => ?_) (fun c_7 => ?_)
  · exact wt_drop copy ⟨rfl, rfl, rfl, trivial⟩
  · obtain rfl : n = 0 := by
      rcases Nat.eq_zero_or_pos n with z | z
      · exact z
      · exact absurd (Int32.not_lt.mp c_7) (nI_ge (a := 0) z (by omega))
    refine wt_aload_0 (pc := 10) hc dJ2_grow_2_10 ?_
    refine cv_getr (pc := 11) (b := d) 1 hc cP11 (ha) dJ2_grow_2_11 q176 (by decide) (Or.inl rfl) (fun _ _ _ => rfl) (r1) ?_
    refine cv_gets (pc := 14) hc hLs.1.e0 dJ2_grow_2_14 q174 ?_
    refine wt_acmp_eq (pc := 17) 45 hc dJ2_grow_2_17 (by decide) (fun _ => ?_) (fun _ => wt_drop copy ⟨rfl, rfl, rfl, trivial⟩)
    refine wt_aload_0 (pc := 45) hc dJ2_grow_2_45 ?_
    refine wt_bipush (pc := 46) (v := nI 10) hc dJ2_grow_2_46 (by decide) ?_
    refine wt_iload_1 (pc := 48) hc dJ2_grow_2_48 ?_
    refine cv_mmax (pc := 49) hc dJ2_grow_2_49 q397 q355 q122 q356 (by decide) (Nat.le_of_ble_eq_true rfl) rfl ?_
    refine wt_topi (z := nI 10) (by decide) ?_
    refine cv_anewO (pc := 52) hc hLs.2.1 dJ2_grow_2_52 q398 (by decide) (by decide) (by omega) (fun r hr hf => ?_)
    have hne : a ≠ r := fun z => by rw [z, hf r (Nat.le_refl _)] at ha; cases ha
    refine wt_dup_x1 (pc := 55) hc dJ2_grow_2_55 rfl rfl ?_
    refine cv_putr (pc := 56) (x := some r) 1 hc (cOK_cN hG hr) cP11 ((if_neg hne).trans ha) dJ2_grow_2_56 q176 (by decide) (fun _ _ _ => rfl) (Or.inl rfl) rfl rfl rfl ?_
    have hG2 : cGr B (cR (cN B r (.inr (5, 10))) a 1 (some r)) a d 0 10 r := by
      refine ⟨rfl, rfl, fun i hi => absurd hi (Nat.not_lt_zero _), wt_up2_self _ _ _ _, fun b f h1 h2 => ?_, rfl⟩
      show wt_up2 (cN B r (.inr (5, 10))).2.2.1 a 1 (some r) b f = _
      rw [wt_up2_ne h2]
      exact if_neg h1
    exact wt_aret (pc := 59) hc hok dJ2_grow_2_59 (Or.inr ⟨_, rfl⟩) (fun H hZ => ⟨r, rfl, _, ⟨10, by omega, by omega, hr, hf, hG2⟩, hZ⟩)
theorem ct_J2_grow (hLs : cLs G) (a d n ms : Nat) (hG : cOK G B) (ha : B.1 a = some (.inl 11)) (hd : B.1 d = some (.inr (5, n))) (r1 : B.2.2.1 a 1 = some d) (hc0 : B.2.1 a 2 = nI n) (hn : n < 2 ^ 20) (hel : cEl B d n) (hms : 2 * n + 10 ≤ ms) : wt_Ct l G yJ2_grow cJ2_grow 1 (some (.array (.object "java/lang/Object"))) 5 1 ms [.ref a] (cz G B) (wt_pr (fun r H => ∃ B', (∃ N, n + 1 ≤ N ∧ N ≤ 2 * n + 10 ∧ G.1 ≤ r ∧ (∀ b, r ≤ b → B.1 b = none) ∧ cGr B B' a d n N r) ∧ cz G B' H)) := by
  refine wt_enter [some (.ref a)] (by decide +kernel) rfl (Nat.le_of_ble_eq_true rfl) (fun X hc hok => ?_)
  refine wt_aload_0 (pc := 0) hc dJ2_grow_0 ?_
  refine wt_aload_0 (pc := 1) hc dJ2_grow_1 ?_
  refine cv_geti (pc := 2) 2 (nI n) hc cP11 (ha) dJ2_grow_2 q177 (by decide) (Or.inl rfl) (fun _ _ _ => rfl) (hc0) ?_
  refine wt_iconst (pc := 5) (v := nI 1) hc dJ2_grow_5 (by decide) ?_
  refine wt_iadd (pc := 6) hc dJ2_grow_6 ?_
  rw [nI_add n 1]
  refine wt_gor (wt_invV (pc := 7) 1 hc (ct_J2_grow_2 hLs a d n ms hG ha hd r1 hn hel hms) dJ2_grow_7 rfl (fun s H => cz_recv cP11 (ha) s H) q347 q349 qs3 q115 q350 (by decide +kernel) rfl (by first | decide | omega) (by decide) (Nat.le_of_ble_eq_true rfl) rfl) (Nat.le_refl _) (Nat.le_refl _) (fun r => ?_)
  exact wt_aret (pc := 10) hc hok dJ2_grow_10 (Or.inr ⟨_, rfl⟩) (fun H hZ => ⟨r, rfl, hZ⟩)
/-- what adding leaves: the list has b at its end, in its array d or in a new one -/
def cAd (G : wt_G) (B B' : cB) (a d b n c : Nat) (e : Nat → Nat) : Prop := (∃ d' n', cLd B' a d' n' (c + 1) (fun i => if i = c then b else e i) ∧ (d' = d ∧ n' = n ∨ B.1 d' = none ∧ n' ≤ 2 * n + 10)) ∧ (∀ z k, B.1 z = some k → B'.1 z = some k ∧ B'.2.2.2 z = B.2.2.2 z ∧ (z ≠ a → B'.2.1 z = B.2.1 z) ∧ (z ≠ a → z ≠ d → B'.2.2.1 z = B.2.2.1 z)) ∧ cOK G B' ∧ ∀ z k, B'.1 z = some k → B.1 z = some k ∨ (B.1 z = none ∧ ∃ n', k = .inr (5, n'))
theorem ct_J2_add_2 (hLs : cLs G) (a d n c b ms : Nat) (x : wt_kd) (e : Nat → Nat) (hG : cOK G B) (hL : cLd B a d n c e) (hn : n < 2 ^ 18) (hb : B.1 b = some x) (hca : Cond.castable (wt_nm x) "java/lang/Object" ∈ lw_tbl) (hel : cEl B d c) (hms : 2 * n + 10 ≤ ms) : wt_Ct l G yJ2_add_2 cJ2_add_2 4 none 6 1 ms [.ref a, .ref b, .ref d, .int (nI c)] (cz G B) (wt_pv (fun H => ∃ B', cAd G B B' a d b n c e ∧ cz G B' H)) := by
  obtain ⟨h1, h2, h3, h4, h5, h6, h7⟩ := hL
  refine wt_enter [some (.ref a), some (.ref b), some (.ref d), some (.int (nI c))] (by decide +kernel) rfl (Nat.le_of_ble_eq_true rfl) (fun X hc hok => ?_)
  have had : a ≠ d := fun z => by rw [z, h3] at h1; cases h1
  refine wt_iload_3 (pc := 0) hc dJ2_add_2_0 ?_
  refine wt_aload_2 (pc := 1) hc dJ2_add_2_1 ?_
  refine cv_alen (pc := 2) hc (h3) dJ2_add_2_2 ?_
  refine wt_nicmp_ne (pc := 3) 11 (c) (n) hc dJ2_add_2_3 (by decide) (by omega) (by omega) (fun c_3 => ?_) (fun c_3 => ?_)
  · have hcn : c < n := by omega
    have hbd : b ≠ d ∨ b = d := by omega
    refine wt_aload_2 (pc := 11) hc dJ2_add_2_11 ?_
    refine wt_iload_3 (pc := 12) hc dJ2_add_2_12 ?_
    refine wt_aload_1 (pc := 13) hc dJ2_add_2_13 ?_
    refine cv_aast (pc := 14) (E := "java/lang/Object") c hc hG h3 rfl rfl (by decide) hb hca dJ2_add_2_14 rfl hcn (by omega) ?_
    have hA : cAd G B (cI (cR B d c (some b)) a 2 (nI (c + 1))) a d b n c e := by
      refine ⟨⟨d, n, ⟨h1, wt_up2_self _ _ _ _, h3, (wt_up2_ne (fun z => had z.1)).trans h4, by omega, h6, fun i hi => ?_⟩, Or.inl ⟨rfl, rfl⟩⟩, fun z k hz => ⟨hz, rfl, fun hza => wt_up2_row hza, fun _ hzd => wt_up2_row hzd⟩, hG, fun z k hz => Or.inl hz⟩
      show wt_up2 B.2.2.1 d c (some b) d i = some (if i = c then b else e i)
      by_cases ei : i = c
      · rw [ei, wt_up2_self, if_pos rfl]
      · rw [wt_up2_ne (fun z => ei z.2), if_neg ei]
        exact h7 i (by omega)
    refine wt_aload_0 (pc := 15) hc dJ2_add_2_15 ?_
    refine wt_iload_3 (pc := 16) hc dJ2_add_2_16 ?_
    refine wt_iconst (pc := 17) (v := nI 1) hc dJ2_add_2_17 (by decide) ?_
    refine wt_iadd (pc := 18) hc dJ2_add_2_18 ?_
    rw [nI_add c 1]
    refine cv_puti (pc := 19) 2 hc hG cP11 (h1) dJ2_add_2_19 q177 (by decide) (fun _ _ _ => rfl) (Or.inl rfl) rfl rfl rfl ?_
    exact wt_vret (pc := 22) hc hok dJ2_add_2_22 (fun H hZ => ⟨rfl, _, hA, hZ⟩)
  · obtain rfl : c = n := by omega
    refine wt_aload_0 (pc := 6) hc dJ2_add_2_6 ?_
    refine wt_gor (wt_invV (pc := 7) 0 hc (ct_J2_grow hLs a d c ms hG h1 h3 h4 h2 (by omega) hel hms) dJ2_add_2_7 rfl (fun s H => cz_recv cP11 (h1) s H) q343 q345 qs2 q115 q346 (by decide +kernel) rfl (by first | decide | omega) (by decide) (Nat.le_of_ble_eq_true rfl) rfl) (Nat.le_refl _) (Nat.le_refl _) (fun r => ?_)
    refine wt_exB (fun B1 hB1 => ?_)
    obtain ⟨N, n1, n2, hr, hf, g1, g2, g3, g4, g5, g6⟩ := hB1
    have har : a ≠ r := fun z => by rw [z, hf r (Nat.le_refl _)] at h1; cases h1
    have hdr : d ≠ r := fun z => by rw [z, hf r (Nat.le_refl _)] at h3; cases h3
    have hbr : b ≠ r := fun z => by rw [z, hf r (Nat.le_refl _)] at hb; cases hb
    have hGB1 : cOK G B1 := by
      intro z k hz ho
      rw [g1] at hz
      by_cases ez : z = r
      · rw [ez]; exact hr
      · exact hG z k ((if_neg ez).symm.trans hz) ho
    have Kr : B1.1 r = some (.inr (5, N)) := by rw [g1]; exact if_pos rfl
    have Ka : B1.1 a = some (.inl 11) := by rw [g1]; exact (if_neg har).trans h1
    have Kb : B1.1 b = some x := by rw [g1]; exact (if_neg hbr).trans hb
    refine wt_astore_2 (pc := 10) hc dJ2_add_2_10 rfl ?_
    refine wt_aload_2 (pc := 11) hc dJ2_add_2_11 ?_
    refine wt_iload_3 (pc := 12) hc dJ2_add_2_12 ?_
    refine wt_aload_1 (pc := 13) hc dJ2_add_2_13 ?_
    refine cv_aast (pc := 14) (E := "java/lang/Object") c hc hGB1 Kr rfl rfl (by decide) Kb hca dJ2_add_2_14 rfl (by omega) (by omega) ?_
    have hA : cAd G B (cI (cR B1 r c (some b)) a 2 (nI (c + 1))) a d b c c e := by
      refine ⟨⟨r, N, ⟨Ka, wt_up2_self _ _ _ _, Kr, (wt_up2_ne (fun z => har z.1)).trans g4, by omega, by omega, fun i hi => ?_⟩, Or.inr ⟨hf r (Nat.le_refl _), by omega⟩⟩, fun z k hz => ?_, hGB1, fun z k hz => ?_⟩
      · show wt_up2 B1.2.2.1 r c (some b) r i = some (if i = c then b else e i)
        by_cases ei : i = c
        · rw [ei, wt_up2_self, if_pos rfl]
        · rw [wt_up2_ne (fun z => ei z.2), if_neg ei, g3 i (by omega)]
          exact h7 i (by omega)
      · have hzr : z ≠ r := fun y => by rw [y, hf r (Nat.le_refl _)] at hz; cases hz
        refine ⟨?_, ?_, fun hza => ?_, fun hza hzd => ?_⟩
        · show B1.1 z = _
          rw [g1]; exact (if_neg hzr).trans hz
        · show B1.2.2.2 z = _
          rw [g6]; exact wt_rw_ne hzr
        · refine (wt_up2_row hza).trans ?_
          show B1.2.1 z = _
          rw [g2]; exact wt_rw_ne hzr
        · refine (wt_up2_row hzr).trans (funext fun f => g5 z f hzr (fun y => hza y.1))
      · have hz' : B1.1 z = some k := hz
        rw [g1] at hz'
        by_cases ez : z = r
        · refine Or.inr ⟨by rw [ez]; exact hf r (Nat.le_refl _), N, ?_⟩
          exact (Option.some.inj ((if_pos ez).symm.trans hz')).symm
        · exact Or.inl ((if_neg ez).symm.trans hz')
    refine wt_aload_0 (pc := 15) hc dJ2_add_2_15 ?_
    refine wt_iload_3 (pc := 16) hc dJ2_add_2_16 ?_
    refine wt_iconst (pc := 17) (v := nI 1) hc dJ2_add_2_17 (by decide) ?_
    refine wt_iadd (pc := 18) hc dJ2_add_2_18 ?_
    rw [nI_add c 1]
    refine cv_puti (pc := 19) 2 hc hGB1 cP11 (Ka) dJ2_add_2_19 q177 (by decide) (fun _ _ _ => rfl) (Or.inl rfl) rfl rfl rfl ?_
    exact wt_vret (pc := 22) hc hok dJ2_add_2_22 (fun H hZ => ⟨rfl, _, hA, hZ⟩)
theorem ct_J2_add (hLs : cLs G) (a d n c b ms : Nat) (x : wt_kd) (e : Nat → Nat) (hG : cOK G B) (hL : cLd B a d n c e) (hn : n < 2 ^ 18) (hb : B.1 b = some x) (hca : Cond.castable (wt_nm x) "java/lang/Object" ∈ lw_tbl) (hel : cEl B d c) (hms : 2 * n + 10 ≤ ms) : wt_Ct l G yJ2_add cJ2_add 2 (some .boolean) 7 1 ms [.ref a, .ref b] (cz G B) (wt_fn (nI 1) (fun H => ∃ B', cAd G B B' a d b n c e ∧ cz G B' H)) := by
  obtain ⟨h1, h2, h3, h4, h5, h6, h7⟩ := hL
  have hL2 : cLd (cI B a 0 (B.2.1 a 0 + nI 1)) a d n c e := ⟨h1, (wt_up2_ne (fun z => absurd z.2 (by decide))).trans h2, h3, h4, h5, h6, h7⟩
  refine wt_enter [some (.ref a), some (.ref b)] (by decide +kernel) rfl (Nat.le_of_ble_eq_true rfl) (fun X hc hok => ?_)
  refine wt_aload_0 (pc := 0) hc dJ2_add_0 ?_
  refine wt_dup (pc := 1) hc dJ2_add_1 rfl ?_
  refine cv_geti (pc := 2) 0 _ hc cP11 (h1) dJ2_add_2 q179 (by decide) (Or.inr q180) (fun _ _ _ => rfl) (rfl) ?_
  refine wt_iconst (pc := 5) (v := nI 1) hc dJ2_add_5 (by decide) ?_
  refine wt_iadd (pc := 6) hc dJ2_add_6 ?_
  refine cv_puti (pc := 7) 0 hc hG cP11 (h1) dJ2_add_7 q179 (by decide) (fun _ _ _ => rfl) (Or.inr q180) rfl rfl rfl ?_
  refine wt_aload_0 (pc := 10) hc dJ2_add_10 ?_
  refine wt_aload_1 (pc := 11) hc dJ2_add_11 ?_
  refine wt_aload_0 (pc := 12) hc dJ2_add_12 ?_
  refine cv_getr (pc := 13) (b := d) 1 hc cP11 (h1) dJ2_add_13 q176 (by decide) (Or.inl rfl) (fun _ _ _ => rfl) (h4) ?_
  refine wt_aload_0 (pc := 16) hc dJ2_add_16 ?_
  refine cv_geti (pc := 17) 2 (nI c) hc cP11 (h1) dJ2_add_17 q177 (by decide) (Or.inl rfl) (fun _ _ _ => rfl) ((wt_up2_ne (fun z => absurd z.2 (by decide))).trans h2) ?_
  refine wt_gov (wt_invV (pc := 20) 3 hc (ct_J2_add_2 hLs a d n c b ms x e hG hL2 hn hb hca hel hms) dJ2_add_20 rfl (fun s H => cz_recv (B := cI B a 0 (B.2.1 a 0 + nI 1)) cP11 h1 s H) q339 q341 qs1 q115 q342 (by decide +kernel) rfl (by decide) (by decide) (Nat.le_of_ble_eq_true rfl) rfl) (Nat.le_refl _) (Nat.le_refl _) ?_
  refine wt_exB (fun B1 hB1 => ?_)
  have hA : cAd G B B1 a d b n c e := by
    obtain ⟨g1, g2, g3, g4⟩ := hB1
    refine ⟨g1, fun z k hz => ?_, g3, g4⟩
    obtain ⟨e1, e2, e3, e4⟩ := g2 z k hz
    exact ⟨e1, e2, fun hza => (e3 hza).trans (wt_up2_row hza), e4⟩
  refine wt_iconst (pc := 23) (v := nI 1) hc dJ2_add_23 (by decide) ?_
  exact wt_iret (pc := 24) hc hok dJ2_add_24 (rfl) (fun H hZ => ⟨rfl, B1, hA, hZ⟩)
end JC
