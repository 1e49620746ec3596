/-! THE REFERENCE: questions (printed by gen/tw27.py) -/
set_option maxRecDepth 100000
def sp_t0 (M : wt_It) : wt_It := wt_up2 M 0 0 (nI 0)
/-- rows that hold nothing from one call to the next -/
def sp_S (k : Nat) : Bool := k == 48 || (52 ≤ k && k ≤ 62) || k == 64 || k == 66 || k == 69
def sp_Q (N M : wt_It) : Prop := (∀ k, k ≠ 0 → sp_S k = false → M k = N k) ∧ ∀ j, j ≠ 0 → M 0 j = N 0 j
/-- an answer: what was thrown, the value if nothing was; the memory is as before but for scratch -/
def sp_ans (G : wt_G) (T : tw_T) (N : wt_It) (w : Int64) (thr val : Int32) : Option Value → Heap → Prop := fun v H => ∃ (r : Int32) (M : wt_It), v = some (.int r) ∧ sp_Q N M ∧ M 0 0 = thr ∧ (thr = 0 → r = val) ∧ tw_Z G T M w H
theorem sp_ans_bad {G : wt_G} {T : tw_T} {N : wt_It} {w : Int64} {k val r : Int32} {H : Heap} (hk : ¬ k = 0) (hZ : tw_Z G T (wt_up2 N 0 0 k) w H) : sp_ans G T N w k val (some (.int r)) H :=
  ⟨r, _, rfl, ⟨fun i hi _ => wt_up2_row hi, fun j hj => wt_up2_ne (fun z => hj z.2)⟩, wt_up2_self _ _ _ _, fun h => absurd h hk, hZ⟩
theorem sp_ans_ok {G : wt_G} {T : tw_T} {N M : wt_It} {w : Int64} {val r : Int32} {H : Heap} (hQ : sp_Q N M) (h0 : M 0 0 = 0) (hr : r = val) (hZ : tw_Z G T M w H) : sp_ans G T N w 0 val (some (.int r)) H := ⟨r, M, rfl, hQ, h0, fun _ => hr, hZ⟩
theorem sp_Q.rf (N : wt_It) : sp_Q N N := ⟨fun _ _ _ => rfl, fun _ _ => rfl⟩
theorem sp_Q.of {N M : wt_It} (h : ∀ k, sp_S k = false → M k = N k) : sp_Q N M := ⟨fun k _ hk => h k hk, fun j _ => congrFun (h 0 rfl) j⟩
theorem sp_S_ne {k : Nat} (h : sp_S k = false) : k ≠ 48 ∧ k ≠ 52 ∧ k ≠ 53 ∧ k ≠ 54 ∧ k ≠ 55 ∧ k ≠ 56 ∧ k ≠ 57 ∧ k ≠ 58 ∧ k ≠ 59 ∧ k ≠ 60 ∧ k ≠ 61 ∧ k ≠ 62 ∧ k ≠ 64 ∧ k ≠ 66 ∧ k ≠ 69 := by
  refine ⟨?_, ?_, ?_, ?_, ?_, ?_, ?_, ?_, ?_, ?_, ?_, ?_, ?_, ?_, ?_⟩ <;> (intro e; subst e; revert h; decide)
theorem sp_S_night (M : wt_It) {k : Nat} (h : sp_S k = false) : sp_night M k = M k := by
  obtain ⟨-, a, b, c, d, e, f, g, i, -⟩ := sp_S_ne h
  exact sp_night_same M k a b c d e f g i
theorem sp_S_rides (M : wt_It) (p : Nat) {k : Nat} (h : sp_S k = false) : sp_rides M p k = M k := sp_rides_row (sp_S_ne h).2.2.2.2.2.2.2.2.2.1
theorem sp_ix {p x : Int32} {n : Nat} (h : 0 ≤ p ∧ p < x) (e : x = nI n) (hn : n < 2 ^ 31) : ∃ q, q < n ∧ p = nI q := by
  obtain ⟨q, hq, rfl⟩ := nI_of (Int32.not_lt.mpr h.1)
  exact ⟨q, (nI_ltI hq hn).mp (by rw [← e]; exact h.2), rfl⟩
theorem sp_in {n a b : Nat} (hn : n < 2 ^ 31) (hb : b < 2 ^ 31) (h : a ≤ n ∧ n ≤ b) : nI a ≤ nI n ∧ nI n ≤ nI b := ⟨nI_le h.1 hn, nI_le h.2 hb⟩
theorem sp_ix2 {p : Int32} {a b : Nat} (h : nI a ≤ p ∧ p ≤ nI b) (hb : b < 2 ^ 31) (ha : a < 2 ^ 31) : ∃ q, a ≤ q ∧ q ≤ b ∧ p = nI q := by
  have h0 : 0 ≤ p := Int32.le_trans (nI_pos' ha) h.1
  obtain ⟨q, hq, rfl⟩ := nI_of (Int32.not_lt.mpr h0)
  exact ⟨q, (nI_leI ha hq).mp h.1, (nI_leI hq hb).mp h.2, rfl⟩
def sp_nvL : Nat → Nat → Int32 → wt_It → Int32 × wt_It
  | 0, _, a, M => (a, M)
  | n + 1, p, a, M => sp_nvL n (p + 1) (a ||| (if sp_soon M p < nI 1000000 then nI 0 else nI 1 <<< (nI p &&& 31))) (sp_rides M p)
theorem sp_nvL_row : ∀ (n p : Nat) (a : Int32) (M : wt_It) (k : Nat), k ≠ 60 → (sp_nvL n p a M).2 k = M k := by
  intro n
  induction n with
  | zero => intro p a M k _; rfl
  | succ n ih => intro p a M k hk; rw [sp_nvL, ih _ _ _ _ hk, sp_rides_row hk]
theorem sp_hm_row : ∀ (n p : Nat) (a : Int32) (M : wt_It) (k : Nat), k ≠ 60 → (sp_hm n p a M).2 k = M k := by
  intro n
  induction n with
  | zero => intro p a M k _; rfl
  | succ n ih => intro p a M k hk; rw [sp_hm, ih _ _ _ _ hk, sp_rides_row hk]
theorem sp_S_homes (M : wt_It) {k : Nat} (h : sp_S k = false) : (sp_homes M).2 k = M k := by
  unfold sp_homes
  rw [sp_hm_row _ _ _ _ _ (sp_S_ne h).2.2.2.2.2.2.2.2.2.1, sp_S_night M h]
def sp_hn (f : Nat → Int32) : Nat → Int32
  | 0 => -1
  | o + 1 => if sp_hn f o = -1 then nI o else if f o ≤ f (nn (sp_hn f o)) then sp_hn f o else nI o
theorem sp_hn_or (f : Nat → Int32) : ∀ n, sp_hn f n = -1 ∨ ∃ b, b < n ∧ sp_hn f n = nI b := by
  intro n
  induction n with
  | zero => exact Or.inl rfl
  | succ n ih =>
    rw [sp_hn]
    split
    · exact Or.inr ⟨n, by omega, rfl⟩
    · split
      · rcases ih with h | ⟨b, h1, h2⟩
        · exact Or.inl h
        · exact Or.inr ⟨b, by omega, h2⟩
      · exact Or.inr ⟨n, by omega, rfl⟩
def sp_rc (f : Nat → Int32) (m : Int32) : Nat → Int32
  | 0 => nI 0
  | r + 1 => sp_rc f m r ||| (if nI 1000000 ≤ f r then nI 0 else if m < f r then nI 0 else nI 1 <<< (nI r &&& 31))
def sp_lI (s c lv wy : Nat → Int32) (h v : Int32) (o : Nat) : Nat → Nat → Bool → Bool
  | 0, _, _ => false
  | n + 1, i, on => if on = true ∧ wy (8 * o + i) = h ∧ c (8 * o + i) = v then true else sp_lI s c lv wy h v o n (i + 1) (on || decide (s (nn (wy (8 * o + i))) ≤ lv (8 * o + i)))
def sp_lO (M : wt_It) (h v : Int32) : Nat → Nat → Int32
  | 0, _ => -1
  | n + 1, o => if sp_nb M o = false ∧ sp_lI (M 60) (M 54) (M 55) (M 10) h v o (nn (M 9 o)) 0 false = true then nI o else sp_lO M h v n (o + 1)
/-- how many of the first k owls but o .. : whether one is on the roof r in the minute m -/
def sp_tgK (M : wt_It) (o : Nat) (r m : Int32) : Nat → Bool
  | 0 => false
  | k + 1 => sp_tgK M o r m k || (decide (k ≠ o) && (decide (r ≠ -1) && decide (sp_wh M k m = r)))
def sp_tg (M : wt_It) (o ow : Nat) : Nat → Int32
  | 0 => nI 0
  | m + 1 => sp_tg M o ow m + sp_i (sp_tgK M o (sp_wh M o (nI m)) (nI m) ow)
def sp_rr (f : Nat → Int32) (r : Int32) : Nat → Int32
  | 0 => nI 0
  | p + 1 => sp_rr f r p ||| (if f (4 * p + 1) = r then nI 1 <<< (nI p &&& 31) else nI 0)
def sp_rf (f : Nat → Int32) (r : Nat) : Nat → Int32
  | 0 => nI 0
  | k + 1 => sp_rf f r k + (if f (10 * r + k) ≤ 0 then nI 0 else nI 1)
section TH
variable {l : Launch} {G : wt_G} {Z : Heap → Prop} {T : tw_T} {M N : wt_It} {w : Int64}

theorem ct_home (hE : tw_E G T) (hN : sp_t0 M = N) (hcy : sp_city N) (hf : sp_fok N) (p : Int32) : wt_Ct l G yX3_home cX3_home 2 (some .int) 5 0 0 [.ref T.1, .int p] (tw_Z G T M w) (sp_ans G T N w (if 0 ≤ p ∧ p < N 0 4 then 0 else 1) (if sp_soon (sp_night N) (nn p) < 1000000 then sp_soon (sp_night N) (nn p) else -1)) := by
  obtain ⟨ro, ow, ri, hC⟩ := hcy.cty
  have h0 : N 0 0 = 0 := by rw [← hN]; rfl
  have hri := hC.2.2.1
  refine wt_enter [some (.ref T.1), some (.int p)] (by decide +kernel) rfl (Nat.le_of_ble_eq_true rfl) (fun X hc hok => ?_)
  by_cases hp : 0 ≤ p ∧ p < N 0 4
  · obtain ⟨q, hq, rfl⟩ := sp_ix hp hC.2.2.2.2.2.1 (by omega)
    rw [if_pos hp, nn_nI (by omega)] at hok
    refine wt_aload_0 (pc := 0) hc dX3_home_0 ?_
    refine wt_iconst (pc := 1) (v := nI 0) hc dX3_home_1 (by decide) ?_
    refine tw_put (pc := 2) 0 hc hE dX3_home_2 q1604 (by decide) (fun _ _ _ => rfl) rfl rfl (rfl) rfl ?_
    refine tw_eq hN ?_
    refine wt_aload_0 (pc := 5) hc dX3_home_5 ?_
    refine wt_iload_1 (pc := 6) hc dX3_home_6 ?_
    refine wt_gofn (tw_inv (pc := 7) 1 hc hE (ct_isRider hE h0 _) dX3_home_7 rfl q2076 q2078 qs96 q116 q2079 (by decide +kernel) rfl (by decide) (by decide) (Nat.le_of_ble_eq_true rfl) rfl) ?_
    rw [if_pos hp, sp_b_t hp]
    refine wt_if_ne (pc := 10) 15 hc dX3_home_10 (by decide) (fun c_10 => ?_) (fun c_10 => ?_)
    · refine wt_aload_0 (pc := 15) hc dX3_home_15 ?_
      refine wt_gov (tw_inv (pc := 16) 0 hc hE (ct_nights hE hcy hf) dX3_home_16 rfl q1993 q1995 qs81 q116 q1996 (by decide +kernel) rfl (by decide) (by decide) (Nat.le_of_ble_eq_true rfl) rfl) (Nat.zero_le _) (Nat.zero_le _) ?_
      refine wt_aload_0 (pc := 19) hc dX3_home_19 ?_
      refine wt_iload_1 (pc := 20) hc dX3_home_20 ?_
      refine wt_gofn (tw_inv (pc := 21) 1 hc hE (ct_soonest hE ro ow ri q (hC.same (sp_night_same N)) hq) dX3_home_21 rfl q2016 q2018 qs86 q116 q2019 (by decide +kernel) rfl (by decide) (by decide) (Nat.le_of_ble_eq_true rfl) rfl) ?_
      refine wt_gofn (wt_invS (pc := 24) 1 hc (ct_shown _) dX3_home_24 rfl q2120 q2121 q116 q2122 (by decide +kernel) rfl (by decide) (by decide) (Nat.le_of_ble_eq_true rfl) rfl) ?_
      exact wt_iret (pc := 27) hc hok dX3_home_27 (rfl) (fun H hZ => sp_ans_ok (sp_Q.of fun k hk => (sp_S_rides _ _ hk).trans (sp_S_night _ hk)) ((congrFun ((sp_S_rides _ _ rfl).trans (sp_S_night _ rfl)) 0).trans h0) rfl hZ)
    · exact absurd c_10 (by decide)
  · rw [if_neg hp] at hok
    refine wt_aload_0 (pc := 0) hc dX3_home_0 ?_
    refine wt_iconst (pc := 1) (v := nI 0) hc dX3_home_1 (by decide) ?_
    refine tw_put (pc := 2) 0 hc hE dX3_home_2 q1604 (by decide) (fun _ _ _ => rfl) rfl rfl (rfl) rfl ?_
    refine tw_eq hN ?_
    refine wt_aload_0 (pc := 5) hc dX3_home_5 ?_
    refine wt_iload_1 (pc := 6) hc dX3_home_6 ?_
    refine wt_gofn (tw_inv (pc := 7) 1 hc hE (ct_isRider hE h0 _) dX3_home_7 rfl q2076 q2078 qs96 q116 q2079 (by decide +kernel) rfl (by decide) (by decide) (Nat.le_of_ble_eq_true rfl) rfl) ?_
    rw [if_neg hp, sp_b_f hp]
    refine wt_if_ne (pc := 10) 15 hc dX3_home_10 (by decide) (fun c_10 => ?_) (fun c_10 => ?_)
    · exact absurd rfl c_10
    · refine wt_iconst (pc := 13) (v := nI 0) hc dX3_home_13 (by decide) ?_
      exact wt_iret (pc := 14) hc hok dX3_home_14 (rfl) (fun H hZ => sp_ans_bad (by decide) hZ)
theorem ct_where (hE : tw_E G T) (hN : sp_t0 M = N) (hcy : sp_city N) (hf : sp_fok N) (o m : Int32) : wt_Ct l G yX3_where cX3_where 3 (some .int) 5 0 0 [.ref T.1, .int o, .int m] (tw_Z G T M w) (sp_ans G T N w (if 0 ≤ o ∧ o < N 0 3 then 0 else 1) (sp_wh (sp_night N) (nn o) m)) := by
  obtain ⟨ro, ow, ri, hC⟩ := hcy.cty
  have h0 : N 0 0 = 0 := by rw [← hN]; rfl
  have how := hC.2.1
  refine wt_enter [some (.ref T.1), some (.int o), some (.int m)] (by decide +kernel) rfl (Nat.le_of_ble_eq_true rfl) (fun X hc hok => ?_)
  by_cases hp : 0 ≤ o ∧ o < N 0 3
  · obtain ⟨q, hq, rfl⟩ := sp_ix hp hC.2.2.2.2.1 (by omega)
    rw [if_pos hp, nn_nI (by omega)] at hok
    obtain ⟨wl, hw⟩ := (hC.same (sp_night_same N)).2.2.2.2.2.2.1 q hq
    refine wt_aload_0 (pc := 0) hc dX3_where_0 ?_
    refine wt_iconst (pc := 1) (v := nI 0) hc dX3_where_1 (by decide) ?_
    refine tw_put (pc := 2) 0 hc hE dX3_where_2 q1604 (by decide) (fun _ _ _ => rfl) rfl rfl (rfl) rfl ?_
    refine tw_eq hN ?_
    refine wt_aload_0 (pc := 5) hc dX3_where_5 ?_
    refine wt_iload_1 (pc := 6) hc dX3_where_6 ?_
    refine wt_gofn (tw_inv (pc := 7) 1 hc hE (ct_isOwl hE h0 _) dX3_where_7 rfl q2056 q2058 qs93 q116 q2059 (by decide +kernel) rfl (by decide) (by decide) (Nat.le_of_ble_eq_true rfl) rfl) ?_
    rw [if_pos hp, sp_b_t hp]
    refine wt_if_ne (pc := 10) 15 hc dX3_where_10 (by decide) (fun c_10 => ?_) (fun c_10 => ?_)
    · refine wt_aload_0 (pc := 15) hc dX3_where_15 ?_
      refine wt_gov (tw_inv (pc := 16) 0 hc hE (ct_nights hE hcy hf) dX3_where_16 rfl q1993 q1995 qs81 q116 q1996 (by decide +kernel) rfl (by decide) (by decide) (Nat.le_of_ble_eq_true rfl) rfl) (Nat.zero_le _) (Nat.zero_le _) ?_
      refine wt_aload_0 (pc := 19) hc dX3_where_19 ?_
      refine wt_iload_1 (pc := 20) hc dX3_where_20 ?_
      refine wt_iload_2 (pc := 21) hc dX3_where_21 ?_
      refine wt_gofn (tw_inv (pc := 22) 2 hc hE (ct_whereIs hE q m wl (by omega) hw) dX3_where_22 rfl q2064 q2066 qs95 q116 q2067 (by decide +kernel) rfl (by decide) (by decide) (Nat.le_of_ble_eq_true rfl) rfl) ?_
      exact wt_iret (pc := 25) hc hok dX3_where_25 (rfl) (fun H hZ => sp_ans_ok (sp_Q.of fun k hk => sp_S_night _ hk) ((congrFun (sp_S_night _ rfl) 0).trans h0) rfl hZ)
    · exact absurd c_10 (by decide)
  · rw [if_neg hp] at hok
    refine wt_aload_0 (pc := 0) hc dX3_where_0 ?_
    refine wt_iconst (pc := 1) (v := nI 0) hc dX3_where_1 (by decide) ?_
    refine tw_put (pc := 2) 0 hc hE dX3_where_2 q1604 (by decide) (fun _ _ _ => rfl) rfl rfl (rfl) rfl ?_
    refine tw_eq hN ?_
    refine wt_aload_0 (pc := 5) hc dX3_where_5 ?_
    refine wt_iload_1 (pc := 6) hc dX3_where_6 ?_
    refine wt_gofn (tw_inv (pc := 7) 1 hc hE (ct_isOwl hE h0 _) dX3_where_7 rfl q2056 q2058 qs93 q116 q2059 (by decide +kernel) rfl (by decide) (by decide) (Nat.le_of_ble_eq_true rfl) rfl) ?_
    rw [if_neg hp, sp_b_f hp]
    refine wt_if_ne (pc := 10) 15 hc dX3_where_10 (by decide) (fun c_10 => ?_) (fun c_10 => ?_)
    · exact absurd rfl c_10
    · refine wt_iconst (pc := 13) (v := nI 0) hc dX3_where_13 (by decide) ?_
      exact wt_iret (pc := 14) hc hok dX3_where_14 (rfl) (fun H hZ => sp_ans_bad (by decide) hZ)
theorem ct_never (hE : tw_E G T) (hN : sp_t0 M = N) (hcy : sp_city N) (hf : sp_fok N) : wt_Ct l G yX3_never cX3_never 3 (some .int) 5 0 0 [.ref T.1] (tw_Z G T M w) (sp_ans G T N w 0 (sp_nvL (nn (N 0 4)) 0 (nI 0) (sp_night N)).1) := by
  obtain ⟨ro, ow, ri, hC⟩ := hcy.cty
  have h0 : N 0 0 = 0 := by rw [← hN]; rfl
  have hri := hC.2.2.1
  have e4 := hC.2.2.2.2.2.1
  rw [e4, nn_nI (by omega)]
  refine wt_enter [some (.ref T.1), none, none] (by decide +kernel) rfl (Nat.le_of_ble_eq_true rfl) (fun X hc hok => ?_)
  have loop : ∀ (n p : Nat) (a : Int32) (M' : wt_It), p + n = ri → sp_cty M' ro ow ri → sp_nvL ri 0 (nI 0) (sp_night N) = sp_nvL n p a M' → wt_V G X 13 [some (.ref T.1), some (.int a), some (.int (nI p))] [] (tw_Z G T M' w) 0 0 := by
    intro n
    induction n with
    | zero =>
      intro p a M' hi hC hv
      refine wt_iload_2 (pc := 13) hc dX3_never_13 ?_
      refine wt_aload_0 (pc := 14) hc dX3_never_14 ?_
      refine tw_get (pc := 15) 4 (nI ri) hc hE dX3_never_15 q1608 (by decide) (fun _ _ _ => rfl) rfl (hC.2.2.2.2.2.1) ?_
      refine wt_nicmp_ge (pc := 18) 48 (p) (ri) hc dX3_never_18 (by decide) (by omega) (by omega) (fun c_18 => ?_) (fun c_18 => ?_)
      · have hv2 := congrArg Prod.snd hv
        rw [show (sp_nvL 0 p a M').2 = M' from rfl] at hv2
        refine wt_iload_1 (pc := 48) hc dX3_never_48 ?_
        exact wt_iret (pc := 49) hc hok dX3_never_49 (rfl) (fun H hZ => by
          subst hv2
          exact sp_ans_ok (sp_Q.of fun k hk => (sp_nvL_row _ _ _ _ _ (sp_S_ne hk).2.2.2.2.2.2.2.2.2.1).trans (sp_S_night _ hk)) ((congrFun ((sp_nvL_row _ _ _ _ _ (by decide)).trans (sp_S_night _ rfl)) 0).trans h0) (congrArg Prod.fst hv).symm hZ)
      · omega
    | succ n ih =>
      intro p a M' hi hC hv
      rw [sp_nvL] at hv
      refine wt_iload_2 (pc := 13) hc dX3_never_13 ?_
      refine wt_aload_0 (pc := 14) hc dX3_never_14 ?_
      refine tw_get (pc := 15) 4 (nI ri) hc hE dX3_never_15 q1608 (by decide) (fun _ _ _ => rfl) rfl (hC.2.2.2.2.2.1) ?_
      refine wt_nicmp_ge (pc := 18) 48 (p) (ri) hc dX3_never_18 (by decide) (by omega) (by omega) (fun c_18 => ?_) (fun c_18 => ?_)
      · omega
      · refine wt_iload_1 (pc := 21) hc dX3_never_21 ?_
        refine wt_aload_0 (pc := 22) hc dX3_never_22 ?_
        refine wt_iload_2 (pc := 23) hc dX3_never_23 ?_
        refine wt_gofn (tw_inv (pc := 24) 1 hc hE (ct_soonest hE ro ow ri p hC (by omega)) dX3_never_24 rfl q2016 q2018 qs86 q116 q2019 (by decide +kernel) rfl (by decide) (by decide) (Nat.le_of_ble_eq_true rfl) rfl) ?_
        refine wt_ldcw (pc := 27) (v := nI 1000000) hc dX3_never_27 q1973 ?_
        refine wt_icmp_lt (pc := 30) 39 hc dX3_never_30 (by decide) (fun c_30 => ?_) (fun c_30 => ?_)
        · refine wt_iconst (pc := 39) (v := nI 0) hc dX3_never_39 (by decide) ?_
          refine wt_ior (pc := 40) hc dX3_never_40 ?_
          refine wt_istore_1 (pc := 41) hc dX3_never_41 rfl ?_
          refine wt_iinc_2 (pc := 42) (v := nI (p + 1)) hc dX3_never_42 (nI_add p 1) rfl ?_
          refine wt_goto (pc := 45) 13 hc dX3_never_45 (by decide) ?_
          first | (rw [if_pos c_30] at hv; exact ih (p + 1) _ _ (by omega) (hC.r60 (fun k hk => sp_rides_row hk)) hv) | (rw [if_neg c_30] at hv; exact ih (p + 1) _ _ (by omega) (hC.r60 (fun k hk => sp_rides_row hk)) hv)
        · refine wt_iconst (pc := 33) (v := nI 1) hc dX3_never_33 (by decide) ?_
          refine wt_iload_2 (pc := 34) hc dX3_never_34 ?_
          refine wt_ishl (pc := 35) hc dX3_never_35 ?_
          refine wt_goto (pc := 36) 40 hc dX3_never_36 (by decide) ?_
          refine wt_ior (pc := 40) hc dX3_never_40 ?_
          refine wt_istore_1 (pc := 41) hc dX3_never_41 rfl ?_
          refine wt_iinc_2 (pc := 42) (v := nI (p + 1)) hc dX3_never_42 (nI_add p 1) rfl ?_
          refine wt_goto (pc := 45) 13 hc dX3_never_45 (by decide) ?_
          first | (rw [if_pos c_30] at hv; exact ih (p + 1) _ _ (by omega) (hC.r60 (fun k hk => sp_rides_row hk)) hv) | (rw [if_neg c_30] at hv; exact ih (p + 1) _ _ (by omega) (hC.r60 (fun k hk => sp_rides_row hk)) hv)
  refine wt_aload_0 (pc := 0) hc dX3_never_0 ?_
  refine wt_iconst (pc := 1) (v := nI 0) hc dX3_never_1 (by decide) ?_
  refine tw_put (pc := 2) 0 hc hE dX3_never_2 q1604 (by decide) (fun _ _ _ => rfl) rfl rfl (rfl) rfl ?_
  refine tw_eq hN ?_
  refine wt_aload_0 (pc := 5) hc dX3_never_5 ?_
  refine wt_gov (tw_inv (pc := 6) 0 hc hE (ct_nights hE hcy hf) dX3_never_6 rfl q1993 q1995 qs81 q116 q1996 (by decide +kernel) rfl (by decide) (by decide) (Nat.le_of_ble_eq_true rfl) rfl) (Nat.zero_le _) (Nat.zero_le _) ?_
  refine wt_iconst (pc := 9) (v := nI 0) hc dX3_never_9 (by decide) ?_
  refine wt_istore_1 (pc := 10) hc dX3_never_10 rfl ?_
  refine wt_iconst (pc := 11) (v := nI 0) hc dX3_never_11 (by decide) ?_
  refine wt_istore_2 (pc := 12) hc dX3_never_12 rfl ?_
  exact loop ri 0 (nI 0) (sp_night N) (by omega) (hC.same (sp_night_same N)) rfl
theorem ct_hunter (hE : tw_E G T) (hN : sp_t0 M = N) (hcy : sp_city N) (hf : sp_fok N) : wt_Ct l G yX3_hunter cX3_hunter 3 (some .int) 5 0 0 [.ref T.1] (tw_Z G T M w) (sp_ans G T N w 0 (sp_hn (sp_night N 57) (nn (N 0 3)))) := by
  obtain ⟨ro, ow, ri, hC⟩ := hcy.cty
  have h0 : N 0 0 = 0 := by rw [← hN]; rfl
  have how := hC.2.1
  have e3 := hC.2.2.2.2.1
  rw [e3, nn_nI (by omega)]
  refine wt_enter [some (.ref T.1), none, none] (by decide +kernel) rfl (Nat.le_of_ble_eq_true rfl) (fun X hc hok => ?_)
  have e3' : sp_night N 0 3 = nI ow := (congrFun (sp_S_night N rfl) 3).trans e3
  have loop : ∀ (n o : Nat), o + n = ow → wt_V G X 13 [some (.ref T.1), some (.int (sp_hn (sp_night N 57) o)), some (.int (nI o))] [] (tw_Z G T (sp_night N) w) 0 0 := by
    intro n
    induction n with
    | zero =>
      intro o hi
      refine wt_iload_2 (pc := 13) hc dX3_hunter_13 ?_
      refine wt_aload_0 (pc := 14) hc dX3_hunter_14 ?_
      refine tw_get (pc := 15) 3 (nI ow) hc hE dX3_hunter_15 q1607 (by decide) (fun _ _ _ => rfl) rfl (e3') ?_
      refine wt_nicmp_ge (pc := 18) 49 (o) (ow) hc dX3_hunter_18 (by decide) (by omega) (by omega) (fun c_18 => ?_) (fun c_18 => ?_)
      · refine wt_iload_1 (pc := 49) hc dX3_hunter_49 ?_
        exact wt_iret (pc := 50) hc hok dX3_hunter_50 (rfl) (fun H hZ => sp_ans_ok (sp_Q.of fun k hk => sp_S_night _ hk) ((congrFun (sp_S_night _ rfl) 0).trans h0) (by rw [show o = ow by omega]) hZ)
      · omega
    | succ n ih =>
      intro o hi
      have hs : sp_hn (sp_night N 57) (o + 1) = if sp_hn (sp_night N 57) o = -1 then nI o else if sp_night N 57 o ≤ sp_night N 57 (nn (sp_hn (sp_night N 57) o)) then sp_hn (sp_night N 57) o else nI o := rfl
      have ih' := ih (o + 1) (by omega)
      refine wt_iload_2 (pc := 13) hc dX3_hunter_13 ?_
      refine wt_aload_0 (pc := 14) hc dX3_hunter_14 ?_
      refine tw_get (pc := 15) 3 (nI ow) hc hE dX3_hunter_15 q1607 (by decide) (fun _ _ _ => rfl) rfl (e3') ?_
      refine wt_nicmp_ge (pc := 18) 49 (o) (ow) hc dX3_hunter_18 (by decide) (by omega) (by omega) (fun c_18 => ?_) (fun c_18 => ?_)
      · omega
      · refine wt_iload_1 (pc := 21) hc dX3_hunter_21 ?_
        refine wt_iconst (pc := 22) (v := (-1 : Int32)) hc dX3_hunter_22 (by decide) ?_
        refine wt_icmp_eq (pc := 23) 41 hc dX3_hunter_23 (by decide) (fun c_23 => ?_) (fun c_23 => ?_)
        · rw [if_pos c_23] at hs
          rw [hs] at ih'
          refine wt_iload_2 (pc := 41) hc dX3_hunter_41 ?_
          refine wt_istore_1 (pc := 42) hc dX3_hunter_42 rfl ?_
          refine wt_iinc_2 (pc := 43) (v := nI (o + 1)) hc dX3_hunter_43 (nI_add o 1) rfl ?_
          refine wt_goto (pc := 46) 13 hc dX3_hunter_46 (by decide) ?_
          exact ih'
        · rcases sp_hn_or (sp_night N 57) o with hb | ⟨b, hb1, hb2⟩
          · exact absurd hb c_23
          rw [if_neg c_23, hb2, nn_nI (by omega)] at hs
          rw [hb2]
          rw [hs] at ih'
          refine wt_aload_0 (pc := 26) hc dX3_hunter_26 ?_
          refine tw_geta (pc := 27) 57 hc hE dX3_hunter_27 q1661 (by decide) (by decide) (fun _ _ _ => rfl) rfl ?_
          refine wt_iload_2 (pc := 30) hc dX3_hunter_30 ?_
          refine tw_iald (pc := 31) (k := 57) (o) _ hc hE dX3_hunter_31 rfl (rfl) (by show _ < 5; omega) (by decide) (rfl) ?_
          refine wt_aload_0 (pc := 32) hc dX3_hunter_32 ?_
          refine tw_geta (pc := 33) 57 hc hE dX3_hunter_33 q1661 (by decide) (by decide) (fun _ _ _ => rfl) rfl ?_
          refine wt_iload_1 (pc := 36) hc dX3_hunter_36 ?_
          refine tw_iald (pc := 37) (k := 57) (b) _ hc hE dX3_hunter_37 rfl (rfl) (by show _ < 5; omega) (by decide) (rfl) ?_
          refine wt_icmp_le (pc := 38) 43 hc dX3_hunter_38 (by decide) (fun c_38 => ?_) (fun c_38 => ?_)
          · refine wt_iinc_2 (pc := 43) (v := nI (o + 1)) hc dX3_hunter_43 (nI_add o 1) rfl ?_
            refine wt_goto (pc := 46) 13 hc dX3_hunter_46 (by decide) ?_
            first | (rw [if_pos c_38] at ih'; exact ih') | (rw [if_neg c_38] at ih'; exact ih')
          · refine wt_iload_2 (pc := 41) hc dX3_hunter_41 ?_
            refine wt_istore_1 (pc := 42) hc dX3_hunter_42 rfl ?_
            refine wt_iinc_2 (pc := 43) (v := nI (o + 1)) hc dX3_hunter_43 (nI_add o 1) rfl ?_
            refine wt_goto (pc := 46) 13 hc dX3_hunter_46 (by decide) ?_
            first | (rw [if_pos c_38] at ih'; exact ih') | (rw [if_neg c_38] at ih'; exact ih')
  refine wt_aload_0 (pc := 0) hc dX3_hunter_0 ?_
  refine wt_iconst (pc := 1) (v := nI 0) hc dX3_hunter_1 (by decide) ?_
  refine tw_put (pc := 2) 0 hc hE dX3_hunter_2 q1604 (by decide) (fun _ _ _ => rfl) rfl rfl (rfl) rfl ?_
  refine tw_eq hN ?_
  refine wt_aload_0 (pc := 5) hc dX3_hunter_5 ?_
  refine wt_gov (tw_inv (pc := 6) 0 hc hE (ct_nights hE hcy hf) dX3_hunter_6 rfl q1993 q1995 qs81 q116 q1996 (by decide +kernel) rfl (by decide) (by decide) (Nat.le_of_ble_eq_true rfl) rfl) (Nat.zero_le _) (Nat.zero_le _) ?_
  refine wt_iconst (pc := 9) (v := (-1 : Int32)) hc dX3_hunter_9 (by decide) ?_
  refine wt_istore_1 (pc := 10) hc dX3_hunter_10 rfl ?_
  refine wt_iconst (pc := 11) (v := nI 0) hc dX3_hunter_11 (by decide) ?_
  refine wt_istore_2 (pc := 12) hc dX3_hunter_12 rfl ?_
  exact loop ow 0 (by omega)
theorem ct_reach (hE : tw_E G T) (hN : sp_t0 M = N) (hcy : sp_city N) (hf : sp_fok N) (p m : Int32) : wt_Ct l G yX3_reach cX3_reach 5 (some .int) 5 0 0 [.ref T.1, .int p, .int m] (tw_Z G T M w) (sp_ans G T N w (if 0 ≤ p ∧ p < N 0 4 then 0 else 1) (sp_rc (sp_rides (sp_night N) (nn p) 60) m (nn (N 0 1)))) := by
  obtain ⟨ro, ow, ri, hC⟩ := hcy.cty
  have h0 : N 0 0 = 0 := by rw [← hN]; rfl
  have hri := hC.2.2.1
  have hro := hC.1
  have e1 := hC.2.2.2.1
  rw [e1, nn_nI (by omega)]
  refine wt_enter [some (.ref T.1), some (.int p), some (.int m), none, none] (by decide +kernel) rfl (Nat.le_of_ble_eq_true rfl) (fun X hc hok => ?_)
  by_cases hp : 0 ≤ p ∧ p < N 0 4
  · obtain ⟨q, hq, rfl⟩ := sp_ix hp hC.2.2.2.2.2.1 (by omega)
    rw [if_pos hp, nn_nI (by omega)] at hok
    have e1' : sp_rides (sp_night N) q 0 1 = nI ro := (congrFun ((sp_S_rides _ q rfl).trans (sp_S_night N rfl)) 1).trans e1
    have loop : ∀ (n r : Nat), r + n = ro → wt_V G X 29 [some (.ref T.1), some (.int (nI q)), some (.int m), some (.int (sp_rc (sp_rides (sp_night N) q 60) m r)), some (.int (nI r))] [] (tw_Z G T (sp_rides (sp_night N) q) w) 0 0 := by
      intro n
      induction n with
      | zero =>
        intro r hi
        refine wt_iload_4 (pc := 29) hc dX3_reach_29 ?_
        refine wt_aload_0 (pc := 31) hc dX3_reach_31 ?_
        refine tw_get (pc := 32) 1 (nI ro) hc hE dX3_reach_32 q1605 (by decide) (fun _ _ _ => rfl) rfl (e1') ?_
        refine wt_nicmp_ge (pc := 35) 79 (r) (ro) hc dX3_reach_35 (by decide) (by omega) (by omega) (fun c_35 => ?_) (fun c_35 => ?_)
        · refine wt_iload_3 (pc := 79) hc dX3_reach_79 ?_
          exact wt_iret (pc := 80) hc hok dX3_reach_80 (rfl) (fun H hZ => sp_ans_ok (sp_Q.of fun k hk => (sp_S_rides _ _ hk).trans (sp_S_night _ hk)) ((congrFun ((sp_S_rides _ _ rfl).trans (sp_S_night _ rfl)) 0).trans h0) (by rw [show r = ro by omega]) hZ)
        · omega
      | succ n ih =>
        intro r hi
        have ih' := ih (r + 1) (by omega)
        rw [sp_rc] at ih'
        refine wt_iload_4 (pc := 29) hc dX3_reach_29 ?_
        refine wt_aload_0 (pc := 31) hc dX3_reach_31 ?_
        refine tw_get (pc := 32) 1 (nI ro) hc hE dX3_reach_32 q1605 (by decide) (fun _ _ _ => rfl) rfl (e1') ?_
        refine wt_nicmp_ge (pc := 35) 79 (r) (ro) hc dX3_reach_35 (by decide) (by omega) (by omega) (fun c_35 => ?_) (fun c_35 => ?_)
        · omega
        · refine wt_iload_3 (pc := 38) hc dX3_reach_38 ?_
          refine wt_aload_0 (pc := 39) hc dX3_reach_39 ?_
          refine tw_geta (pc := 40) 60 hc hE dX3_reach_40 q1664 (by decide) (by decide) (fun _ _ _ => rfl) rfl ?_
          refine wt_iload_4 (pc := 43) hc dX3_reach_43 ?_
          refine tw_iald (pc := 45) (k := 60) (r) _ hc hE dX3_reach_45 rfl (rfl) (by show _ < 10; omega) (by decide) (rfl) ?_
          refine wt_ldcw (pc := 46) (v := nI 1000000) hc dX3_reach_46 q1973 ?_
          refine wt_icmp_ge (pc := 49) 70 hc dX3_reach_49 (by decide) (fun c_49 => ?_) (fun c_49 => ?_)
          · refine wt_iconst (pc := 70) (v := nI 0) hc dX3_reach_70 (by decide) ?_
            refine wt_ior (pc := 71) hc dX3_reach_71 ?_
            refine wt_istore_3 (pc := 72) hc dX3_reach_72 rfl ?_
            refine wt_iinc_4 (pc := 73) (v := nI (r + 1)) hc dX3_reach_73 (nI_add r 1) rfl ?_
            refine wt_goto (pc := 76) 29 hc dX3_reach_76 (by decide) ?_
            first | (rw [if_pos c_49] at ih'; exact ih') | (rw [if_neg c_49, if_pos c_60] at ih'; exact ih') | (rw [if_neg c_49, if_neg c_60] at ih'; exact ih')
          · refine wt_aload_0 (pc := 52) hc dX3_reach_52 ?_
            refine tw_geta (pc := 53) 60 hc hE dX3_reach_53 q1664 (by decide) (by decide) (fun _ _ _ => rfl) rfl ?_
            refine wt_iload_4 (pc := 56) hc dX3_reach_56 ?_
            refine tw_iald (pc := 58) (k := 60) (r) _ hc hE dX3_reach_58 rfl (rfl) (by show _ < 10; omega) (by decide) (rfl) ?_
            refine wt_iload_2 (pc := 59) hc dX3_reach_59 ?_
            refine wt_icmp_gt (pc := 60) 70 hc dX3_reach_60 (by decide) (fun c_60 => ?_) (fun c_60 => ?_)
            · refine wt_iconst (pc := 70) (v := nI 0) hc dX3_reach_70 (by decide) ?_
              refine wt_ior (pc := 71) hc dX3_reach_71 ?_
              refine wt_istore_3 (pc := 72) hc dX3_reach_72 rfl ?_
              refine wt_iinc_4 (pc := 73) (v := nI (r + 1)) hc dX3_reach_73 (nI_add r 1) rfl ?_
              refine wt_goto (pc := 76) 29 hc dX3_reach_76 (by decide) ?_
              first | (rw [if_pos c_49] at ih'; exact ih') | (rw [if_neg c_49, if_pos c_60] at ih'; exact ih') | (rw [if_neg c_49, if_neg c_60] at ih'; exact ih')
            · refine wt_iconst (pc := 63) (v := nI 1) hc dX3_reach_63 (by decide) ?_
              refine wt_iload_4 (pc := 64) hc dX3_reach_64 ?_
              refine wt_ishl (pc := 66) hc dX3_reach_66 ?_
              refine wt_goto (pc := 67) 71 hc dX3_reach_67 (by decide) ?_
              refine wt_ior (pc := 71) hc dX3_reach_71 ?_
              refine wt_istore_3 (pc := 72) hc dX3_reach_72 rfl ?_
              refine wt_iinc_4 (pc := 73) (v := nI (r + 1)) hc dX3_reach_73 (nI_add r 1) rfl ?_
              refine wt_goto (pc := 76) 29 hc dX3_reach_76 (by decide) ?_
              first | (rw [if_pos c_49] at ih'; exact ih') | (rw [if_neg c_49, if_pos c_60] at ih'; exact ih') | (rw [if_neg c_49, if_neg c_60] at ih'; exact ih')
    refine wt_aload_0 (pc := 0) hc dX3_reach_0 ?_
    refine wt_iconst (pc := 1) (v := nI 0) hc dX3_reach_1 (by decide) ?_
    refine tw_put (pc := 2) 0 hc hE dX3_reach_2 q1604 (by decide) (fun _ _ _ => rfl) rfl rfl (rfl) rfl ?_
    refine tw_eq hN ?_
    refine wt_aload_0 (pc := 5) hc dX3_reach_5 ?_
    refine wt_iload_1 (pc := 6) hc dX3_reach_6 ?_
    refine wt_gofn (tw_inv (pc := 7) 1 hc hE (ct_isRider hE h0 _) dX3_reach_7 rfl q2076 q2078 qs96 q116 q2079 (by decide +kernel) rfl (by decide) (by decide) (Nat.le_of_ble_eq_true rfl) rfl) ?_
    rw [if_pos hp, sp_b_t hp]
    refine wt_if_ne (pc := 10) 15 hc dX3_reach_10 (by decide) (fun c_10 => ?_) (fun c_10 => ?_)
    · refine wt_aload_0 (pc := 15) hc dX3_reach_15 ?_
      refine wt_gov (tw_inv (pc := 16) 0 hc hE (ct_nights hE hcy hf) dX3_reach_16 rfl q1993 q1995 qs81 q116 q1996 (by decide +kernel) rfl (by decide) (by decide) (Nat.le_of_ble_eq_true rfl) rfl) (Nat.zero_le _) (Nat.zero_le _) ?_
      refine wt_aload_0 (pc := 19) hc dX3_reach_19 ?_
      refine wt_iload_1 (pc := 20) hc dX3_reach_20 ?_
      refine wt_gov (tw_inv (pc := 21) 1 hc hE (ct_rides hE ro ow ri q (hC.same (sp_night_same N)) hq) dX3_reach_21 rfl q2020 q2022 qs87 q116 q2023 (by decide +kernel) rfl (by decide) (by decide) (Nat.le_of_ble_eq_true rfl) rfl) (Nat.zero_le _) (Nat.zero_le _) ?_
      refine wt_iconst (pc := 24) (v := nI 0) hc dX3_reach_24 (by decide) ?_
      refine wt_istore_3 (pc := 25) hc dX3_reach_25 rfl ?_
      refine wt_iconst (pc := 26) (v := nI 0) hc dX3_reach_26 (by decide) ?_
      refine wt_istore_4 (pc := 27) hc dX3_reach_27 rfl ?_
      exact loop ro 0 (by omega)
    · exact absurd c_10 (by decide)
  · rw [if_neg hp] at hok
    refine wt_aload_0 (pc := 0) hc dX3_reach_0 ?_
    refine wt_iconst (pc := 1) (v := nI 0) hc dX3_reach_1 (by decide) ?_
    refine tw_put (pc := 2) 0 hc hE dX3_reach_2 q1604 (by decide) (fun _ _ _ => rfl) rfl rfl (rfl) rfl ?_
    refine tw_eq hN ?_
    refine wt_aload_0 (pc := 5) hc dX3_reach_5 ?_
    refine wt_iload_1 (pc := 6) hc dX3_reach_6 ?_
    refine wt_gofn (tw_inv (pc := 7) 1 hc hE (ct_isRider hE h0 _) dX3_reach_7 rfl q2076 q2078 qs96 q116 q2079 (by decide +kernel) rfl (by decide) (by decide) (Nat.le_of_ble_eq_true rfl) rfl) ?_
    rw [if_neg hp, sp_b_f hp]
    refine wt_if_ne (pc := 10) 15 hc dX3_reach_10 (by decide) (fun c_10 => ?_) (fun c_10 => ?_)
    · exact absurd rfl c_10
    · refine wt_iconst (pc := 13) (v := nI 0) hc dX3_reach_13 (by decide) ?_
      exact wt_iret (pc := 14) hc hok dX3_reach_14 (rfl) (fun H hZ => sp_ans_bad (by decide) hZ)
theorem ct_flight (hE : tw_E G T) (hN : sp_t0 M = N) (hcy : sp_city N) (a b : Int32) : wt_Ct l G yX3_flight cX3_flight 3 (some .int) 3 0 0 [.ref T.1, .int a, .int b] (tw_Z G T M w) (sp_ans G T N w (if 0 ≤ a ∧ a < N 0 1 then (if 0 ≤ b ∧ b < N 0 1 then 0 else 1) else 1) (if N 7 (10 * nn a + nn b) ≤ 0 then -1 else N 7 (10 * nn a + nn b))) := by
  obtain ⟨ro, ow, ri, hC⟩ := hcy.cty
  have h0 : N 0 0 = 0 := by rw [← hN]; rfl
  have hro := hC.1
  have e1 := hC.2.2.2.1
  refine wt_enter [some (.ref T.1), some (.int a), some (.int b)] (by decide +kernel) rfl (Nat.le_of_ble_eq_true rfl) (fun X hc hok => ?_)
  by_cases hp : 0 ≤ a ∧ a < N 0 1
  · by_cases hp2 : 0 ≤ b ∧ b < N 0 1
    · obtain ⟨q, hq, rfl⟩ := sp_ix hp e1 (by omega)
      obtain ⟨q2, hq2, rfl⟩ := sp_ix hp2 e1 (by omega)
      rw [if_pos hp, if_pos hp2, nn_nI (by omega), nn_nI (by omega)] at hok
      refine wt_aload_0 (pc := 0) hc dX3_flight_0 ?_
      refine wt_iconst (pc := 1) (v := nI 0) hc dX3_flight_1 (by decide) ?_
      refine tw_put (pc := 2) 0 hc hE dX3_flight_2 q1604 (by decide) (fun _ _ _ => rfl) rfl rfl (rfl) rfl ?_
      refine tw_eq hN ?_
      refine wt_aload_0 (pc := 5) hc dX3_flight_5 ?_
      refine wt_iload_1 (pc := 6) hc dX3_flight_6 ?_
      refine wt_gofn (tw_inv (pc := 7) 1 hc hE (ct_isRoof hE h0 _) dX3_flight_7 rfl q2040 q2042 qs91 q116 q2043 (by decide +kernel) rfl (by decide) (by decide) (Nat.le_of_ble_eq_true rfl) rfl) ?_
      rw [if_pos hp, sp_b_t hp]
      refine wt_if_eq (pc := 10) 21 hc dX3_flight_10 (by decide) (fun c_10 => ?_) (fun c_10 => ?_)
      · exact absurd c_10 (by decide)
      · refine wt_aload_0 (pc := 13) hc dX3_flight_13 ?_
        refine wt_iload_2 (pc := 14) hc dX3_flight_14 ?_
        refine wt_gofn (tw_inv (pc := 15) 1 hc hE (ct_isRoof hE h0 _) dX3_flight_15 rfl q2040 q2042 qs91 q116 q2043 (by decide +kernel) rfl (by decide) (by decide) (Nat.le_of_ble_eq_true rfl) rfl) ?_
        rw [if_pos hp2, sp_b_t hp2]
        refine wt_if_ne (pc := 18) 23 hc dX3_flight_18 (by decide) (fun c_18 => ?_) (fun c_18 => ?_)
        · refine wt_aload_0 (pc := 23) hc dX3_flight_23 ?_
          refine tw_geta (pc := 24) 7 hc hE dX3_flight_24 q1611 (by decide) (by decide) (fun _ _ _ => rfl) rfl ?_
          refine wt_bipush (pc := 27) (v := nI 10) hc dX3_flight_27 (by decide) ?_
          refine wt_iload_1 (pc := 29) hc dX3_flight_29 ?_
          refine wt_imul (pc := 30) hc dX3_flight_30 ?_
          rw [pk_mul 10 q]
          refine wt_iload_2 (pc := 31) hc dX3_flight_31 ?_
          refine wt_iadd (pc := 32) hc dX3_flight_32 ?_
          rw [nI_add (10 * q) q2]
          refine tw_iald (pc := 33) (k := 7) (10 * q + q2) _ hc hE dX3_flight_33 rfl (rfl) (by show _ < 100; omega) (by decide) (rfl) ?_
          refine wt_if_le (pc := 34) 51 hc dX3_flight_34 (by decide) (fun c_34 => ?_) (fun c_34 => ?_)
          · refine wt_iconst (pc := 51) (v := (-1 : Int32)) hc dX3_flight_51 (by decide) ?_
            exact wt_iret (pc := 52) hc hok dX3_flight_52 (rfl) (fun H hZ => sp_ans_ok (sp_Q.rf N) h0 (by first | rw [if_pos c_34] | rw [if_neg c_34]) hZ)
          · refine wt_aload_0 (pc := 37) hc dX3_flight_37 ?_
            refine tw_geta (pc := 38) 7 hc hE dX3_flight_38 q1611 (by decide) (by decide) (fun _ _ _ => rfl) rfl ?_
            refine wt_bipush (pc := 41) (v := nI 10) hc dX3_flight_41 (by decide) ?_
            refine wt_iload_1 (pc := 43) hc dX3_flight_43 ?_
            refine wt_imul (pc := 44) hc dX3_flight_44 ?_
            rw [pk_mul 10 q]
            refine wt_iload_2 (pc := 45) hc dX3_flight_45 ?_
            refine wt_iadd (pc := 46) hc dX3_flight_46 ?_
            rw [nI_add (10 * q) q2]
            refine tw_iald (pc := 47) (k := 7) (10 * q + q2) _ hc hE dX3_flight_47 rfl (rfl) (by show _ < 100; omega) (by decide) (rfl) ?_
            refine wt_goto (pc := 48) 52 hc dX3_flight_48 (by decide) ?_
            exact wt_iret (pc := 52) hc hok dX3_flight_52 (rfl) (fun H hZ => sp_ans_ok (sp_Q.rf N) h0 (by first | rw [if_pos c_34] | rw [if_neg c_34]) hZ)
        · exact absurd c_18 (by decide)
    · rw [if_pos hp, if_neg hp2] at hok
      refine wt_aload_0 (pc := 0) hc dX3_flight_0 ?_
      refine wt_iconst (pc := 1) (v := nI 0) hc dX3_flight_1 (by decide) ?_
      refine tw_put (pc := 2) 0 hc hE dX3_flight_2 q1604 (by decide) (fun _ _ _ => rfl) rfl rfl (rfl) rfl ?_
      refine tw_eq hN ?_
      refine wt_aload_0 (pc := 5) hc dX3_flight_5 ?_
      refine wt_iload_1 (pc := 6) hc dX3_flight_6 ?_
      refine wt_gofn (tw_inv (pc := 7) 1 hc hE (ct_isRoof hE h0 _) dX3_flight_7 rfl q2040 q2042 qs91 q116 q2043 (by decide +kernel) rfl (by decide) (by decide) (Nat.le_of_ble_eq_true rfl) rfl) ?_
      rw [if_pos hp, sp_b_t hp]
      refine wt_if_eq (pc := 10) 21 hc dX3_flight_10 (by decide) (fun c_10 => ?_) (fun c_10 => ?_)
      · exact absurd c_10 (by decide)
      · refine wt_aload_0 (pc := 13) hc dX3_flight_13 ?_
        refine wt_iload_2 (pc := 14) hc dX3_flight_14 ?_
        refine wt_gofn (tw_inv (pc := 15) 1 hc hE (ct_isRoof hE h0 _) dX3_flight_15 rfl q2040 q2042 qs91 q116 q2043 (by decide +kernel) rfl (by decide) (by decide) (Nat.le_of_ble_eq_true rfl) rfl) ?_
        rw [if_neg hp2, sp_b_f hp2]
        refine wt_if_ne (pc := 18) 23 hc dX3_flight_18 (by decide) (fun c_18 => ?_) (fun c_18 => ?_)
        · exact absurd rfl c_18
        · refine wt_iconst (pc := 21) (v := nI 0) hc dX3_flight_21 (by decide) ?_
          exact wt_iret (pc := 22) hc hok dX3_flight_22 (rfl) (fun H hZ => sp_ans_bad (by decide) hZ)
  · rw [if_neg hp] at hok
    refine wt_aload_0 (pc := 0) hc dX3_flight_0 ?_
    refine wt_iconst (pc := 1) (v := nI 0) hc dX3_flight_1 (by decide) ?_
    refine tw_put (pc := 2) 0 hc hE dX3_flight_2 q1604 (by decide) (fun _ _ _ => rfl) rfl rfl (rfl) rfl ?_
    refine tw_eq hN ?_
    refine wt_aload_0 (pc := 5) hc dX3_flight_5 ?_
    refine wt_iload_1 (pc := 6) hc dX3_flight_6 ?_
    refine wt_gofn (tw_inv (pc := 7) 1 hc hE (ct_isRoof hE h0 _) dX3_flight_7 rfl q2040 q2042 qs91 q116 q2043 (by decide +kernel) rfl (by decide) (by decide) (Nat.le_of_ble_eq_true rfl) rfl) ?_
    rw [if_neg hp, sp_b_f hp]
    refine wt_if_eq (pc := 10) 21 hc dX3_flight_10 (by decide) (fun c_10 => ?_) (fun c_10 => ?_)
    · refine wt_iconst (pc := 21) (v := nI 0) hc dX3_flight_21 (by decide) ?_
      exact wt_iret (pc := 22) hc hok dX3_flight_22 (rfl) (fun H hZ => sp_ans_bad (by decide) hZ)
    · exact absurd rfl c_10
theorem ct_rider (hE : tw_E G T) (hN : sp_t0 M = N) (hcy : sp_city N) (p k : Int32) : wt_Ct l G yX3_rider cX3_rider 3 (some .int) 3 0 0 [.ref T.1, .int p, .int k] (tw_Z G T M w) (sp_ans G T N w (if 0 ≤ p ∧ p < N 0 4 then (if 0 ≤ k ∧ k ≤ nI 3 then 0 else 1) else 1) (N 11 (4 * nn p + nn k))) := by
  obtain ⟨ro, ow, ri, hC⟩ := hcy.cty
  have h0 : N 0 0 = 0 := by rw [← hN]; rfl
  have hri := hC.2.2.1
  refine wt_enter [some (.ref T.1), some (.int p), some (.int k)] (by decide +kernel) rfl (Nat.le_of_ble_eq_true rfl) (fun X hc hok => ?_)
  by_cases hp : 0 ≤ p ∧ p < N 0 4
  · by_cases hp2 : 0 ≤ k ∧ k ≤ nI 3
    · obtain ⟨q, hq, rfl⟩ := sp_ix hp hC.2.2.2.2.2.1 (by omega)
      obtain ⟨q2, -, hq2, rfl⟩ := sp_ix2 (a := 0) hp2 (by decide) (by decide)
      rw [if_pos hp, if_pos hp2, nn_nI (by omega), nn_nI (by omega)] at hok
      refine wt_aload_0 (pc := 0) hc dX3_rider_0 ?_
      refine wt_iconst (pc := 1) (v := nI 0) hc dX3_rider_1 (by decide) ?_
      refine tw_put (pc := 2) 0 hc hE dX3_rider_2 q1604 (by decide) (fun _ _ _ => rfl) rfl rfl (rfl) rfl ?_
      refine tw_eq hN ?_
      refine wt_aload_0 (pc := 5) hc dX3_rider_5 ?_
      refine wt_iload_1 (pc := 6) hc dX3_rider_6 ?_
      refine wt_gofn (tw_inv (pc := 7) 1 hc hE (ct_isRider hE h0 _) dX3_rider_7 rfl q2076 q2078 qs96 q116 q2079 (by decide +kernel) rfl (by decide) (by decide) (Nat.le_of_ble_eq_true rfl) rfl) ?_
      rw [if_pos hp, sp_b_t hp]
      refine wt_if_eq (pc := 10) 35 hc dX3_rider_10 (by decide) (fun c_10 => ?_) (fun c_10 => ?_)
      · exact absurd c_10 (by decide)
      · refine wt_aload_0 (pc := 13) hc dX3_rider_13 ?_
        refine wt_iload_2 (pc := 14) hc dX3_rider_14 ?_
        refine wt_iconst (pc := 15) (v := nI 3) hc dX3_rider_15 (by decide) ?_
        refine wt_gofn (tw_inv (pc := 16) 2 hc hE (ct_isWhat hE h0 _ _) dX3_rider_16 rfl q2044 q2046 qs92 q116 q2047 (by decide +kernel) rfl (by decide) (by decide) (Nat.le_of_ble_eq_true rfl) rfl) ?_
        rw [if_pos hp2, sp_b_t hp2]
        refine wt_if_eq (pc := 19) 35 hc dX3_rider_19 (by decide) (fun c_19 => ?_) (fun c_19 => ?_)
        · exact absurd c_19 (by decide)
        · refine wt_aload_0 (pc := 22) hc dX3_rider_22 ?_
          refine tw_geta (pc := 23) 11 hc hE dX3_rider_23 q1615 (by decide) (by decide) (fun _ _ _ => rfl) rfl ?_
          refine wt_iconst (pc := 26) (v := nI 4) hc dX3_rider_26 (by decide) ?_
          refine wt_iload_1 (pc := 27) hc dX3_rider_27 ?_
          refine wt_imul (pc := 28) hc dX3_rider_28 ?_
          rw [pk_mul 4 q]
          refine wt_iload_2 (pc := 29) hc dX3_rider_29 ?_
          refine wt_iadd (pc := 30) hc dX3_rider_30 ?_
          rw [nI_add (4 * q) q2]
          refine tw_iald (pc := 31) (k := 11) (4 * q + q2) _ hc hE dX3_rider_31 rfl (rfl) (by show _ < 32; omega) (by decide) (rfl) ?_
          refine wt_goto (pc := 32) 36 hc dX3_rider_32 (by decide) ?_
          exact wt_iret (pc := 36) hc hok dX3_rider_36 (rfl) (fun H hZ => sp_ans_ok (sp_Q.rf N) h0 rfl hZ)
    · rw [if_pos hp, if_neg hp2] at hok
      refine wt_aload_0 (pc := 0) hc dX3_rider_0 ?_
      refine wt_iconst (pc := 1) (v := nI 0) hc dX3_rider_1 (by decide) ?_
      refine tw_put (pc := 2) 0 hc hE dX3_rider_2 q1604 (by decide) (fun _ _ _ => rfl) rfl rfl (rfl) rfl ?_
      refine tw_eq hN ?_
      refine wt_aload_0 (pc := 5) hc dX3_rider_5 ?_
      refine wt_iload_1 (pc := 6) hc dX3_rider_6 ?_
      refine wt_gofn (tw_inv (pc := 7) 1 hc hE (ct_isRider hE h0 _) dX3_rider_7 rfl q2076 q2078 qs96 q116 q2079 (by decide +kernel) rfl (by decide) (by decide) (Nat.le_of_ble_eq_true rfl) rfl) ?_
      rw [if_pos hp, sp_b_t hp]
      refine wt_if_eq (pc := 10) 35 hc dX3_rider_10 (by decide) (fun c_10 => ?_) (fun c_10 => ?_)
      · exact absurd c_10 (by decide)
      · refine wt_aload_0 (pc := 13) hc dX3_rider_13 ?_
        refine wt_iload_2 (pc := 14) hc dX3_rider_14 ?_
        refine wt_iconst (pc := 15) (v := nI 3) hc dX3_rider_15 (by decide) ?_
        refine wt_gofn (tw_inv (pc := 16) 2 hc hE (ct_isWhat hE h0 _ _) dX3_rider_16 rfl q2044 q2046 qs92 q116 q2047 (by decide +kernel) rfl (by decide) (by decide) (Nat.le_of_ble_eq_true rfl) rfl) ?_
        rw [if_neg hp2, sp_b_f hp2]
        refine wt_if_eq (pc := 19) 35 hc dX3_rider_19 (by decide) (fun c_19 => ?_) (fun c_19 => ?_)
        · refine wt_iconst (pc := 35) (v := nI 0) hc dX3_rider_35 (by decide) ?_
          exact wt_iret (pc := 36) hc hok dX3_rider_36 (rfl) (fun H hZ => sp_ans_bad (by decide) hZ)
        · exact absurd rfl c_19
  · rw [if_neg hp] at hok
    refine wt_aload_0 (pc := 0) hc dX3_rider_0 ?_
    refine wt_iconst (pc := 1) (v := nI 0) hc dX3_rider_1 (by decide) ?_
    refine tw_put (pc := 2) 0 hc hE dX3_rider_2 q1604 (by decide) (fun _ _ _ => rfl) rfl rfl (rfl) rfl ?_
    refine tw_eq hN ?_
    refine wt_aload_0 (pc := 5) hc dX3_rider_5 ?_
    refine wt_iload_1 (pc := 6) hc dX3_rider_6 ?_
    refine wt_gofn (tw_inv (pc := 7) 1 hc hE (ct_isRider hE h0 _) dX3_rider_7 rfl q2076 q2078 qs96 q116 q2079 (by decide +kernel) rfl (by decide) (by decide) (Nat.le_of_ble_eq_true rfl) rfl) ?_
    rw [if_neg hp, sp_b_f hp]
    refine wt_if_eq (pc := 10) 35 hc dX3_rider_10 (by decide) (fun c_10 => ?_) (fun c_10 => ?_)
    · refine wt_iconst (pc := 35) (v := nI 0) hc dX3_rider_35 (by decide) ?_
      exact wt_iret (pc := 36) hc hok dX3_rider_36 (rfl) (fun H hZ => sp_ans_bad (by decide) hZ)
    · exact absurd rfl c_10
end TH
