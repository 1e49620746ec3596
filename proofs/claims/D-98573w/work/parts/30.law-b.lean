/-! THE REFERENCE: nights, journeys: they do not hang on the scratch rows -/
set_option maxRecDepth 100000
theorem sp_ni_rows {M : wt_It} {ro ow : Nat} (h : sp_wy M ro ow) : sp_Q M (sp_ni M) ∧ (∀ r, r < ro → sp_ni M 56 r = nI 2 * M 47 (4 + r)) ∧ ∀ o, o < ow → sp_ni M 57 o = nI 0 ∧ sp_ni M 58 o = (if sp_nb M o = true then M 9 o else nI 0) ∧ sp_ni M 59 o = M 47 (14 + o) := by
  obtain ⟨h1, h2, h3, h4, h5⟩ := h
  have eM : sp_ni M = sp_n0 (sp_fill M 56 ro (fun r => nI 2 * M 47 (4 + r))) ow := by
    unfold sp_ni
    rw [h3, h4, nn_nI (by omega), nn_nI (by omega)]
  rw [eM]
  unfold sp_n0
  refine ⟨sp_Q.of fun k hk => ?_, fun r hr => ?_, fun o ho => ⟨?_, ?_, ?_⟩⟩
  · obtain ⟨-, a1, a2, a3, a4, a5, a6, a7, a8, -⟩ := sp_S_ne hk
    rw [sp_fill_row a8, sp_fill_row a7, sp_fill_row a6, sp_fill_row a5]
  · rw [sp_fill_row (by decide), sp_fill_row (by decide), sp_fill_row (by decide)]
    exact if_pos ⟨rfl, hr⟩
  · rw [sp_fill_row (by decide), sp_fill_row (by decide)]
    exact if_pos ⟨rfl, ho⟩
  · rw [sp_fill_row (by decide)]
    refine (if_pos ⟨rfl, ho⟩).trans ?_
    rw [sp_fill_row (by decide), sp_fill_row (by decide)]
    unfold sp_nb
    show (if M 47 3 >>> (nI o &&& 31) &&& 1 = 1 then M 9 o else nI 0) = _
    by_cases q : M 47 3 >>> (nI o &&& 31) &&& 1 = 1
    · rw [if_pos q, if_pos (decide_eq_true q)]
    · rw [if_neg q, if_neg (by simpa using q)]
  · refine (if_pos ⟨rfl, ho⟩).trans ?_
    rw [sp_fill_row (by decide)]
theorem sp_ni_ok {M : wt_It} {ro ow : Nat} (h : sp_wy M ro ow) : sp_nok (sp_ni M) ow ∧ sp_left (sp_ni M) ow < 41 := by
  obtain ⟨hq, -, ho⟩ := sp_ni_rows h
  have hk : sp_nok (sp_ni M) ow := by
    intro o hoo
    obtain ⟨wl, g1, g2, -⟩ := h.2.2.2.2 o hoo
    have e9 : sp_ni M 9 o = nI wl := by rw [hq.row (k := 9) (by decide) rfl, g2]
    have e58 := (ho o hoo).2.1
    by_cases q : sp_nb M o = true
    · exact ⟨wl, wl, Nat.le_refl _, g1, by rw [e58, if_pos q, g2], e9⟩
    · exact ⟨0, wl, Nat.zero_le _, g1, by rw [e58, if_neg q], e9⟩
  have := sp_left_le (sp_ni M) ow hk
  have := h.2.1
  exact ⟨hk, by omega⟩
theorem sp_ni_cong {M M' : wt_It} {ro ow : Nat} (h : sp_wy M ro ow) (hq : sp_Q M M') : sp_Li ro ow (sp_ni M) (sp_ni M') := by
  obtain ⟨q1, r56, ro1⟩ := sp_ni_rows h
  obtain ⟨q2, s56, so1⟩ := sp_ni_rows (h.Q hq)
  have e47 : M' 47 = M 47 := hq.row (by decide) rfl
  have e9 : M' 9 = M 9 := hq.row (by decide) rfl
  refine ⟨q1.sy.tr (hq.tr q2), fun r hr => by rw [r56 r hr, s56 r hr, e47], fun o ho => ?_⟩
  obtain ⟨a1, a2, a3⟩ := ro1 o ho
  obtain ⟨b1, b2, b3⟩ := so1 o ho
  refine ⟨by rw [a1, b1], by rw [a2, b2, sp_nb_Q hq, e9], fun _ => by rw [a3, b3, e47], fun hnb i hi => ?_⟩
  rw [sp_nb_Q q1] at hnb
  rw [a2, if_neg (by rw [hnb]; decide)] at hi
  exact absurd hi (Nat.not_lt_zero _)
theorem sp_night_cong {M M' : wt_It} {ro ow : Nat} (h : sp_wy M ro ow) (hf : sp_fok M) (hq : sp_Q M M') : sp_Ln ro ow (sp_night M) (sp_night M') := by
  obtain ⟨hk, hlt⟩ := sp_ni_ok h
  have q1 := (sp_ni_rows h).1
  obtain ⟨⟨a, b, c⟩, hd, hk2⟩ := sp_nl_cong 41 _ _ (h.Q q1) (hf.Q q1) hk (sp_ni_cong h hq) hlt
  refine ⟨a, b, fun o ho => ⟨(c o ho).1, fun hnb i hi => (c o ho).2.2.2 hnb i ?_⟩⟩
  obtain ⟨a', wl, g1, g2, g3, g4⟩ := hk2 o ho
  have hd' := hd o ho
  change nn (sp_nl 41 (sp_ni M) 58 o) > i
  have hi' : i < nn (sp_nl 41 (sp_ni M) 9 o) := hi
  rw [g3, nn_nI (by omega)]
  rw [g4, nn_nI (by omega)] at hi'
  rw [g3, g4] at hd'
  have := (nI_leI (by omega) (by omega)).mp hd'
  omega
theorem sp_Ln.rf (ro ow : Nat) (M : wt_It) : sp_Ln ro ow M M := ⟨sp_Q.rf M, fun _ _ => rfl, fun _ _ => ⟨rfl, fun _ _ _ => ⟨rfl, rfl⟩⟩⟩
/-- .. and the row k of the same in its first n places -/
theorem sp_tk_cong {ro ow : Nat} {k1 o1 k2 o2 o wl : Nat} (hk2 : 60 ≤ k2) : ∀ (n i : Nat) (on any : Bool) (M M' : wt_It), i + n = wl → (∀ i, i < wl → ∃ r, r < 10 ∧ M 10 (8 * o + i) = nI r) → M' 10 = M 10 → (∀ i, i < wl → M' 54 (8 * o + i) = M 54 (8 * o + i) ∧ M' 55 (8 * o + i) = M 55 (8 * o + i)) → (∀ r, r < 10 → M' k1 (o1 + r) = M k1 (o1 + r)) → (∀ r, r < 10 → M' k2 (o2 + r) = M k2 (o2 + r)) → (sp_tk k1 o1 k2 o2 o n i on any M').2 = (sp_tk k1 o1 k2 o2 o n i on any M).2 ∧ (∀ j, M' k2 j = M k2 j → (sp_tk k1 o1 k2 o2 o n i on any M').1 k2 j = (sp_tk k1 o1 k2 o2 o n i on any M).1 k2 j) := by
  intro n
  induction n with
  | zero => intro i on any M M' _ _ _ _ _ _; exact ⟨rfl, fun j h => h⟩
  | succ n ih =>
    intro i on any M M' hi hw e10 h5 h1 h2
    obtain ⟨r, hr, er⟩ := hw i (by omega)
    rw [sp_tk, sp_tk, e10, er, nn_nI (by omega), (h5 i (by omega)).1, (h5 i (by omega)).2, h1 r hr, h2 r hr]
    by_cases hc : on = true ∧ ¬ M k2 (o2 + r) ≤ M 54 (8 * o + i)
    · rw [if_pos hc, if_pos hc]
      have up : ∀ (k j : Nat), M' k j = M k j → wt_up2 M' k2 (o2 + r) (M 54 (8 * o + i)) k j = wt_up2 M k2 (o2 + r) (M 54 (8 * o + i)) k j := by
        intro k j h
        unfold wt_up2
        split
        · rfl
        · exact h
      have h10 : ∀ N : wt_It, wt_up2 N k2 (o2 + r) (M 54 (8 * o + i)) 10 = N 10 := fun N => wt_up2_row (by omega)
      obtain ⟨g1, g2⟩ := ih (i + 1) true true (wt_up2 M k2 (o2 + r) (M 54 (8 * o + i))) (wt_up2 M' k2 (o2 + r) (M 54 (8 * o + i))) (by omega) (by rw [h10]; exact hw) (by rw [h10, h10, e10]) (fun i hi => ⟨up _ _ (h5 i hi).1, up _ _ (h5 i hi).2⟩) (fun r hr => up _ _ (h1 r hr)) (fun r hr => up _ _ (h2 r hr))
      exact ⟨g1, fun j h => g2 j (up _ _ h)⟩
    · rw [if_neg hc, if_neg hc]
      exact ih _ _ _ _ _ (by omega) hw e10 h5 h1 h2
theorem sp_wy.way {M : wt_It} {ro ow : Nat} (h : sp_wy M ro ow) {o : Nat} (ho : o < ow) : o < 5 ∧ ∃ wl, sp_way M o wl := by
  obtain ⟨h1, h2, h3, h4, h5⟩ := h
  obtain ⟨wl, g1, g2, g3⟩ := h5 o ho
  refine ⟨by omega, wl, g1, g2, fun i hi => ?_⟩
  obtain ⟨r, hr, er⟩ := g3 i hi
  exact ⟨r, by omega, er⟩
theorem sp_takes_cong {ro ow : Nat} {k1 o1 k2 o2 o : Nat} {M M' : wt_It} (hk2 : 60 ≤ k2) (hw : sp_wy M ro ow) (hL : sp_Ln ro ow M M') (ho : o < ow) (h1 : ∀ r, r < 10 → M' k1 (o1 + r) = M k1 (o1 + r)) (h2 : ∀ r, r < 10 → M' k2 (o2 + r) = M k2 (o2 + r)) : (sp_takes M' k1 o1 k2 o2 o).2 = (sp_takes M k1 o1 k2 o2 o).2 ∧ (∀ j, M' k2 j = M k2 j → (sp_takes M' k1 o1 k2 o2 o).1 k2 j = (sp_takes M k1 o1 k2 o2 o).1 k2 j) := by
  obtain ⟨wl, w1, w2, w3⟩ := (hw.way ho).2
  have e9 : M' 9 = M 9 := hL.1.row (by decide) rfl
  unfold sp_takes
  rw [sp_nb_Q hL.1, e9]
  by_cases hn : sp_nb M o = true
  · rw [if_pos hn, if_pos hn]
    exact ⟨rfl, fun j h => h⟩
  · rw [if_neg hn, if_neg hn, w2, nn_nI (by omega)]
    exact sp_tk_cong (ro := ro) (ow := ow) (wl := wl) hk2 wl 0 false false M M' (by omega) w3 (hL.1.row (by decide) rfl) (fun i hi => (hL.2.2 o ho).2 (by simpa using hn) i (by rw [w2, nn_nI (by omega)]; exact hi)) h1 h2
theorem sp_Ln.rows {ro ow : Nat} {M M' N N' : wt_It} (hL : sp_Ln ro ow M M') (h : ∀ k, k < 60 → N k = M k) (h' : ∀ k, k < 60 → N' k = M' k) (hq : sp_Q N N') : sp_Ln ro ow N N' := by
  refine ⟨hq, fun r hr => by rw [h 56 (by decide), h' 56 (by decide)]; exact hL.2.1 r hr, fun o ho => ?_⟩
  obtain ⟨a, b⟩ := hL.2.2 o ho
  refine ⟨by rw [h 57 (by decide), h' 57 (by decide)]; exact a, fun hn i hi => ?_⟩
  rw [h 54 (by decide), h' 54 (by decide), h 55 (by decide), h' 55 (by decide)]
  refine b ?_ i ?_
  · unfold sp_nb at hn ⊢
    rw [← h 47 (by decide)]
    exact hn
  · rw [← h 9 (by decide)]
    exact hi
theorem sp_Ln.takes {ro ow : Nat} {M M' : wt_It} (hL : sp_Ln ro ow M M') (k1 o1 k2 o2 o : Nat) (hk : k2 = 60 ∨ k2 = 62) : sp_Ln ro ow (sp_takes M k1 o1 k2 o2 o).1 (sp_takes M' k1 o1 k2 o2 o).1 := by
  have q : ∀ N : wt_It, sp_Q N (sp_takes N k1 o1 k2 o2 o).1 := fun N => sp_Q.of fun k hk' => sp_takes_row (by
    have := sp_S_ne hk'
    omega)
  exact hL.rows (fun k hk' => sp_takes_row (by omega)) (fun k hk' => sp_takes_row (by omega)) ((q M).sy.tr (hL.1.tr (q M')))
theorem sp_wy.takes {ro ow : Nat} {M : wt_It} (h : sp_wy M ro ow) (k1 o1 k2 o2 o : Nat) (hk : k2 = 60 ∨ k2 = 62) : sp_wy (sp_takes M k1 o1 k2 o2 o).1 ro ow := h.Q (sp_Q.of fun k hk' => sp_takes_row (by
    have := sp_S_ne hk'
    omega))
theorem sp_ps_cong {ro ow : Nat} : ∀ (n o : Nat) (more : Bool) (M M' : wt_It), o + n ≤ ow → sp_wy M ro ow → sp_Ln ro ow M M' → (∀ r, r < 10 → M' 60 r = M 60 r) → (sp_ps n o more M').2 = (sp_ps n o more M).2 ∧ (∀ r, r < 10 → (sp_ps n o more M').1 60 r = (sp_ps n o more M).1 60 r) ∧ sp_Ln ro ow (sp_ps n o more M).1 (sp_ps n o more M').1 := by
  intro n
  induction n with
  | zero => intro o more M M' _ _ hL h; exact ⟨rfl, h, hL⟩
  | succ n ih =>
    intro o more M M' ho hw hL h
    rw [sp_ps, sp_ps]
    obtain ⟨g1, g2⟩ := sp_takes_cong (k1 := 60) (o1 := 0) (k2 := 60) (o2 := 0) (o := o) (by omega) hw hL (by omega) (fun r hr => by rw [Nat.zero_add]; exact h r hr) (fun r hr => by rw [Nat.zero_add]; exact h r hr)
    rw [g1]
    exact ih (o + 1) _ _ _ (by omega) (hw.takes _ _ _ _ _ (Or.inl rfl)) (hL.takes _ _ _ _ _ (Or.inl rfl)) (fun r hr => g2 r (h r hr))
theorem sp_rl_cong {ro ow : Nat} : ∀ (n : Nat) (M M' : wt_It), sp_wy M ro ow → sp_Ln ro ow M M' → (∀ r, r < 10 → M' 60 r = M 60 r) → (∀ r, r < 10 → sp_rl n ow M' 60 r = sp_rl n ow M 60 r) ∧ sp_Ln ro ow (sp_rl n ow M) (sp_rl n ow M') := by
  intro n
  induction n with
  | zero => intro M M' _ hL h; exact ⟨h, hL⟩
  | succ n ih =>
    intro M M' hw hL h
    obtain ⟨g1, g2, g3⟩ := sp_ps_cong ow 0 false M M' (by omega) hw hL h
    have hw' : sp_wy (sp_ps ow 0 false M).1 ro ow := hw.Q (sp_Q.of fun k hk => sp_ps_row _ _ _ _ _ (sp_S_ne hk).2.2.2.2.2.2.2.2.2.1)
    rw [sp_rl, sp_rl, g1]
    by_cases hc : (sp_ps ow 0 false M).2 = true
    · rw [if_pos hc, if_pos hc]
      exact ih _ _ hw' g3 g2
    · rw [if_neg hc, if_neg hc]
      exact ⟨g2, g3⟩
theorem sp_waits_cong {M M' : wt_It} (h : M' 11 = M 11) (p : Nat) : ∀ r, r < 10 → sp_waits M' p 60 60 r = sp_waits M p 60 60 r := by
  intro r hr
  unfold sp_waits
  rw [h]
  unfold wt_up2
  split
  · rfl
  · show sp_fill M' 60 10 (fun _ => nI 1000000) 60 r = sp_fill M 60 10 (fun _ => nI 1000000) 60 r
    exact (if_pos ⟨rfl, hr⟩).trans (if_pos ⟨rfl, hr⟩).symm
theorem sp_waits_row {M : wt_It} {p k r : Nat} (h : r ≠ k) : sp_waits M p k r = M r := by
  unfold sp_waits
  rw [wt_up2_row h, sp_fill_row h]
theorem sp_Ln.row60 {ro ow : Nat} {M M' N N' : wt_It} (hL : sp_Ln ro ow M M') (h : ∀ k, k ≠ 60 → N k = M k) (h' : ∀ k, k ≠ 60 → N' k = M' k) : sp_Ln ro ow N N' := by
  have q : ∀ {A B : wt_It}, (∀ k, k ≠ 60 → B k = A k) → sp_Q A B := fun h => sp_Q.of fun k hk => h k (sp_S_ne hk).2.2.2.2.2.2.2.2.2.1
  exact hL.rows (fun k hk => h k (by omega)) (fun k hk => h' k (by omega)) ((q h).sy.tr (hL.1.tr (q h')))
theorem sp_rides_cong {ro ow : Nat} {M M' : wt_It} (hw : sp_wy M ro ow) (hL : sp_Ln ro ow M M') (p : Nat) : (∀ r, r < 10 → sp_rides M' p 60 r = sp_rides M p 60 r) ∧ sp_Ln ro ow (sp_rides M p) (sp_rides M' p) := by
  have e11 : M' 11 = M 11 := hL.1.row (by decide) rfl
  have hwt := sp_waits_cong e11 p
  obtain ⟨g1, g2⟩ := sp_rl_cong (sp_muN (sp_waits M p 60 60) 10 + 1) (sp_waits M p 60) (sp_waits M' p 60) (hw.Q (sp_Q.of fun k hk => sp_waits_row (sp_S_ne hk).2.2.2.2.2.2.2.2.2.1)) (hL.row60 (fun k hk => sp_waits_row hk) (fun k hk => sp_waits_row hk)) hwt
  unfold sp_rides
  rw [hL.1.2 3 (by decide), hw.2.2.2.1, nn_nI (by have := hw.2.1; omega), sp_mu_same 10 hwt]
  exact ⟨g1, g2⟩
theorem sp_soon_cong {ro ow : Nat} {M M' : wt_It} (hw : sp_wy M ro ow) (hL : sp_Ln ro ow M M') (p : Nat) (hp : ∃ b, b < 10 ∧ M 11 (4 * p + 1) = nI b) : sp_soon M' p = sp_soon M p := by
  obtain ⟨b, hb, eb⟩ := hp
  unfold sp_soon
  rw [hL.1.2 6 (by decide), hL.1.row (k := 11) (by decide) rfl, eb, nn_nI (by omega), (sp_rides_cong hw hL p).1 b hb]
theorem sp_hm_cong {ro ow : Nat} : ∀ (n p : Nat) (a : Int32) (M M' : wt_It), sp_wy M ro ow → sp_Ln ro ow M M' → (∀ q, p ≤ q → q < p + n → ∃ b, b < 10 ∧ M 11 (4 * q + 1) = nI b) → (sp_hm n p a M').1 = (sp_hm n p a M).1 := by
  intro n
  induction n with
  | zero => intro p a M M' _ _ _; rfl
  | succ n ih =>
    intro p a M M' hw hL hp
    rw [sp_hm, sp_hm, sp_soon_cong hw hL p (hp p (by omega) (by omega))]
    exact ih (p + 1) _ _ _ (hw.Q (sp_Q.rides M p)) (sp_rides_cong hw hL p).2 (fun q h1 h2 => by rw [sp_rides_row (by decide)]; exact hp q (by omega) (by omega))
/-- how many get home -/
def sp_hv (N : wt_It) : Int32 := (sp_homes N).1
theorem sp_hv_cong {M M' : wt_It} (hc : sp_city M) (hf : sp_fok M) (hq : sp_Q M M') : sp_hv M' = sp_hv M := by
  obtain ⟨ro, ow, hw⟩ := hc.wy
  obtain ⟨ro', ow', ri, hC⟩ := hc.cty
  unfold sp_hv sp_homes
  rw [hq.2 4 (by decide), hC.2.2.2.2.2.1, nn_nI (by have := hC.2.2.1; omega)]
  exact sp_hm_cong ri 0 (nI 0) _ _ (hw.Q (sp_Q.night M)) (sp_night_cong hw hf hq) (fun q _ h2 => by
    rw [sp_S_night M rfl]
    exact (hC.2.2.2.2.2.2.2 q (by omega)).2)
theorem sp_whL_cong {c c' lv lv' wy : Nat → Int32} {o : Nat} {m : Int32} {wl : Nat} (hc : ∀ i, i < wl → c' (8 * o + i) = c (8 * o + i) ∧ lv' (8 * o + i) = lv (8 * o + i)) : ∀ n i, i + n = wl → sp_whL c' lv' wy o m n i = sp_whL c lv wy o m n i := by
  intro n
  induction n with
  | zero => intro i _; rfl
  | succ n ih =>
    intro i hi
    rw [sp_whL, sp_whL, (hc i (by omega)).1, (hc i (by omega)).2, ih (i + 1) (by omega)]
theorem sp_wh_cong {ro ow : Nat} {M M' : wt_It} (hw : sp_wy M ro ow) (hL : sp_Ln ro ow M M') {o : Nat} (ho : o < ow) (m : Int32) : sp_wh M' o m = sp_wh M o m := by
  unfold sp_wh
  rw [sp_nb_Q hL.1, hL.1.row (k := 9) (by decide) rfl, hL.1.row (k := 10) (by decide) rfl]
  by_cases hn : sp_nb M o = true
  · rw [if_pos hn, if_pos hn]
  · rw [if_neg hn, if_neg hn]
    exact sp_whL_cong (fun i hi => (hL.2.2 o ho).2 (by simpa using hn) i hi) _ 0 (by omega)
