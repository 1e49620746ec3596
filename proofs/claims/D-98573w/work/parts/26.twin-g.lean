/-! THE REFERENCE: journeys of one rider; who gets home -/
set_option maxRecDepth 100000
def sp_muN (f : Nat → Int32) : Nat → Nat
  | 0 => 0
  | n + 1 => sp_muN f n + ((f n).toInt + 2147483648).toNat
theorem sp_mu_same {f g : Nat → Int32} : ∀ n, (∀ j, j < n → g j = f j) → sp_muN g n = sp_muN f n := by
  intro n
  induction n with
  | zero => intro _; rfl
  | succ n ih => intro h; rw [sp_muN, sp_muN, ih (fun j hj => h j (by omega)), h n (by omega)]
theorem sp_mu_lt {f g : Nat → Int32} {r : Nat} (hv : g r < f r) : ∀ n, r < n → (∀ j, j < n → j ≠ r → g j = f j) → sp_muN g n < sp_muN f n := by
  intro n
  induction n with
  | zero => intro h; omega
  | succ n ih =>
    intro hr h
    rw [sp_muN, sp_muN]
    by_cases e : r = n
    · subst e
      rw [sp_mu_same (f := f) (g := g) r (fun j hj => h j (by omega) (by omega))]
      have h1 := Int32.lt_iff_toInt_lt.mp hv
      have h2 := (g r).le_toInt
      have h3 := (f r).le_toInt
      omega
    · have := ih (by omega) (fun j hj hn => h j (by omega) hn)
      rw [h n (by omega) (fun q => e q.symm)]
      omega
theorem sp_tk_row (k1 o1 k2 o2 o : Nat) : ∀ (n i : Nat) (on any : Bool) (M : wt_It) (k : Nat), k ≠ k2 → (sp_tk k1 o1 k2 o2 o n i on any M).1 k = M k := by
  intro n
  induction n with
  | zero => intro i on any M k _; rfl
  | succ n ih =>
    intro i on any M k hk
    rw [sp_tk]
    split
    · rw [ih _ _ _ _ _ hk, wt_up2_row hk]
    · rw [ih _ _ _ _ _ hk]
theorem sp_takes_row {M : wt_It} {k1 o1 k2 o2 o k : Nat} (h : k ≠ k2) : (sp_takes M k1 o1 k2 o2 o).1 k = M k := by
  unfold sp_takes
  split
  · rfl
  · exact sp_tk_row _ _ _ _ _ _ _ _ _ _ _ h
theorem sp_tk_mu (o : Nat) : ∀ (n i : Nat) (on any : Bool) (M : wt_It), (∀ j, j < n → ∃ r, r < 10 ∧ M 10 (8 * o + (i + j)) = nI r) → sp_muN ((sp_tk 60 0 60 0 o n i on any M).1 60) 10 ≤ sp_muN (M 60) 10 ∧ ((sp_tk 60 0 60 0 o n i on any M).2 = true → any = true ∨ sp_muN ((sp_tk 60 0 60 0 o n i on any M).1 60) 10 < sp_muN (M 60) 10) := by
  intro n
  induction n with
  | zero => intro i on any M _; exact ⟨Nat.le_refl _, fun h => Or.inl h⟩
  | succ n ih =>
    intro i on any M hw
    rw [sp_tk]
    obtain ⟨r, hr, er⟩ := hw 0 (by omega)
    rw [Nat.add_zero] at er
    have hw' : ∀ j, j < n → ∃ r, r < 10 ∧ M 10 (8 * o + (i + 1 + j)) = nI r := fun j hj => by
      obtain ⟨r, h1, h2⟩ := hw (j + 1) (by omega)
      exact ⟨r, h1, by rw [show i + 1 + j = i + (j + 1) by omega]; exact h2⟩
    split
    · rename_i hc
      rw [er, nn_nI (by omega)] at hc ⊢
      have hlt : sp_muN (wt_up2 M 60 (0 + r) (M 54 (8 * o + i)) 60) 10 < sp_muN (M 60) 10 := by
        refine sp_mu_lt (r := r) ?_ 10 hr (fun j _ hj => wt_up2_ne (fun z => hj (by omega)))
        rw [Nat.zero_add, wt_up2_self]
        have := hc.2
        rw [Nat.zero_add] at this
        exact Int32.not_le.mp this
      obtain ⟨g1, g2⟩ := ih (i + 1) true true (wt_up2 M 60 (0 + r) (M 54 (8 * o + i))) hw'
      exact ⟨by omega, fun _ => Or.inr (by omega)⟩
    · exact ih _ _ _ _ hw'
theorem sp_takes_mu {M : wt_It} {o wl : Nat} (hw : sp_way M o wl) : sp_muN ((sp_takes M 60 0 60 0 o).1 60) 10 ≤ sp_muN (M 60) 10 ∧ ((sp_takes M 60 0 60 0 o).2 = true → sp_muN ((sp_takes M 60 0 60 0 o).1 60) 10 < sp_muN (M 60) 10) := by
  obtain ⟨hwl, e9, hway⟩ := hw
  unfold sp_takes
  split
  · exact ⟨Nat.le_refl _, fun h => by cases h⟩
  · rw [e9, nn_nI (by omega)]
    obtain ⟨g1, g2⟩ := sp_tk_mu o wl 0 false false M (fun j hj => by rw [Nat.zero_add]; exact hway j hj)
    exact ⟨g1, fun h => (g2 h).resolve_left (by decide)⟩
/-- all owls, one behind the other -/
def sp_ps : Nat → Nat → Bool → wt_It → wt_It × Bool
  | 0, _, more, M => (M, more)
  | n + 1, o, more, M => sp_ps n (o + 1) ((sp_takes M 60 0 60 0 o).2 || more) (sp_takes M 60 0 60 0 o).1
def sp_rl : Nat → Nat → wt_It → wt_It
  | 0, _, M => M
  | n + 1, ow, M => if (sp_ps ow 0 false M).2 = true then sp_rl n ow (sp_ps ow 0 false M).1 else (sp_ps ow 0 false M).1
def sp_rides (M : wt_It) (p : Nat) : wt_It := sp_rl (sp_muN (sp_waits M p 60 60) 10 + 1) (nn (M 0 3)) (sp_waits M p 60)
def sp_soon (M : wt_It) (p : Nat) : Int32 := if M 0 6 < sp_rides M p 60 (nn (M 11 (4 * p + 1))) then nI 1000000 else sp_rides M p 60 (nn (M 11 (4 * p + 1)))
def sp_hm : Nat → Nat → Int32 → wt_It → Int32 × wt_It
  | 0, _, a, M => (a, M)
  | n + 1, p, a, M => sp_hm n (p + 1) (a + (if nI 1000000 ≤ sp_soon M p then nI 0 else nI 1)) (sp_rides M p)
def sp_homes (M : wt_It) : Int32 × wt_It := sp_hm (nn (M 0 4)) 0 (nI 0) (sp_night M)
theorem sp_ps_row : ∀ (n o : Nat) (more : Bool) (M : wt_It) (k : Nat), k ≠ 60 → (sp_ps n o more M).1 k = M k := by
  intro n
  induction n with
  | zero => intro o more M k _; rfl
  | succ n ih => intro o more M k hk; rw [sp_ps, ih _ _ _ _ hk, sp_takes_row hk]
theorem sp_rl_row : ∀ (n ow : Nat) (M : wt_It) (k : Nat), k ≠ 60 → sp_rl n ow M k = M k := by
  intro n
  induction n with
  | zero => intro ow M k _; rfl
  | succ n ih =>
    intro ow M k hk
    rw [sp_rl]
    split
    · rw [ih _ _ _ hk, sp_ps_row _ _ _ _ _ hk]
    · rw [sp_ps_row _ _ _ _ _ hk]
theorem sp_rides_row {M : wt_It} {p k : Nat} (h : k ≠ 60) : sp_rides M p k = M k := by
  unfold sp_rides sp_waits
  rw [sp_rl_row _ _ _ _ h, wt_up2_row h, sp_fill_row h]
theorem sp_nl_same : ∀ (n : Nat) (M : wt_It), sp_same M (sp_nl n M) := by
  intro n
  induction n with
  | zero => intro M k _ _ _ _ _ _ _ _; rfl
  | succ n ih =>
    intro M k a b c d e f g h
    rw [sp_nl]
    split
    · rfl
    · rw [ih _ k a b c d e f g h, sp_ns_same _ _ _ _ k a b c d e f g h]
theorem sp_night_same (M : wt_It) : sp_same M (sp_night M) := by
  intro k a b c d e f g h
  unfold sp_night sp_ni sp_n0
  rw [sp_nl_same _ _ k a b c d e f g h, sp_fill_row h, sp_fill_row g, sp_fill_row f, sp_fill_row e]
theorem sp_way.row {M M' : wt_It} {o wl : Nat} (h : sp_way M o wl) (h9 : M' 9 = M 9) (h10 : M' 10 = M 10) : sp_way M' o wl := by
  obtain ⟨a, b, c⟩ := h
  exact ⟨a, by rw [h9]; exact b, by rw [h10]; exact c⟩
/-- ways of all owls, riders in order -/
def sp_cty (M : wt_It) (ro ow ri : Nat) : Prop := ro ≤ 10 ∧ ow ≤ 5 ∧ ri ≤ 8 ∧ M 0 1 = nI ro ∧ M 0 3 = nI ow ∧ M 0 4 = nI ri ∧ (∀ o, o < ow → ∃ wl, sp_way M o wl) ∧ ∀ p, p < ri → (∃ a, a < 10 ∧ M 11 (4 * p) = nI a) ∧ ∃ b, b < 10 ∧ M 11 (4 * p + 1) = nI b
theorem sp_city.cty {M : wt_It} (h : sp_city M) : ∃ ro ow ri, sp_cty M ro ow ri := by
  have h0 := h
  obtain ⟨ro, h1, h2, ⟨ow, h3, h4, h5⟩, ri, h6, h7, h8⟩ := h
  refine ⟨ro, ow, ri, h1, h3, h6, h2, h4, h7, fun o ho => (h0.way h4 (by omega) ho).2, fun p hp => ?_⟩
  obtain ⟨⟨a, g1, g2⟩, b, g3, g4⟩ := h8 p hp
  exact ⟨⟨a, by omega, g2⟩, b, by omega, g4⟩
theorem sp_cty.row {M M' : wt_It} {ro ow ri : Nat} (h : sp_cty M ro ow ri) (h0 : ∀ j, j ≠ 0 → M' 0 j = M 0 j) (h9 : M' 9 = M 9) (h10 : M' 10 = M 10) (h11 : M' 11 = M 11) : sp_cty M' ro ow ri := by
  obtain ⟨a, b, c, d, e, f, g, i⟩ := h
  refine ⟨a, b, c, (h0 1 (by decide)).trans d, (h0 3 (by decide)).trans e, (h0 4 (by decide)).trans f, fun o ho => ?_, by rw [h11]; exact i⟩
  obtain ⟨wl, q⟩ := g o ho
  exact ⟨wl, q.row h9 h10⟩
theorem sp_cty.same {M M' : wt_It} {ro ow ri : Nat} (h : sp_cty M ro ow ri) (hs : sp_same M M') : sp_cty M' ro ow ri := h.row (fun j _ => congrFun (hs 0 (by decide) (by decide) (by decide) (by decide) (by decide) (by decide) (by decide) (by decide)) j) (hs 9 (by decide) (by decide) (by decide) (by decide) (by decide) (by decide) (by decide) (by decide)) (hs 10 (by decide) (by decide) (by decide) (by decide) (by decide) (by decide) (by decide) (by decide)) (hs 11 (by decide) (by decide) (by decide) (by decide) (by decide) (by decide) (by decide) (by decide))
theorem sp_cty.r60 {M M' : wt_It} {ro ow ri : Nat} (h : sp_cty M ro ow ri) (hs : ∀ k, k ≠ 60 → M' k = M k) : sp_cty M' ro ow ri := h.row (fun j _ => congrFun (hs 0 (by decide)) j) (hs 9 (by decide)) (hs 10 (by decide)) (hs 11 (by decide))
section TG
variable {l : Launch} {G : wt_G} {Z : Heap → Prop} {T : tw_T} {M : wt_It} {w : Int64}
theorem ct_rides (hE : tw_E G T) (ro ow ri p : Nat) (hC : sp_cty M ro ow ri) (hp : p < ri) : wt_Ct l G yX3_rides cX3_rides 4 none 3 0 0 [.ref T.1, .int (nI p)] (tw_Z G T M w) (wt_pv (tw_Z G T (sp_rides M p) w)) := by
  refine wt_enter [some (.ref T.1), some (.int (nI p)), none, none] (by decide +kernel) rfl (Nat.le_of_ble_eq_true rfl) (fun X hc hok => ?_)
  have hC0 := hC
  obtain ⟨hro, how, hri, ero, eow, eri, hway, hrid⟩ := hC
  obtain ⟨⟨a, ha, ea⟩, -⟩ := hrid p hp
  have pass : ∀ (n o : Nat) (more : Bool) (M : wt_It), o + n = ow → sp_cty M ro ow ri → wt_V G X 61 [some (.ref T.1), none, some (.int (sp_i (sp_ps n o more M).2)), none] [] (tw_Z G T (sp_ps n o more M).1 w) 0 0 → wt_V G X 19 [some (.ref T.1), none, some (.int (sp_i more)), some (.int (nI o))] [] (tw_Z G T M w) 0 0 := by
    intro n
    induction n with
    | zero =>
      intro o more M hi hq hend
      refine wt_iload_3 (pc := 19) hc dX3_rides_19 ?_
      refine wt_aload_0 (pc := 20) hc dX3_rides_20 ?_
      refine tw_get (pc := 21) 3 (nI ow) hc hE dX3_rides_21 q1607 (by decide) (fun _ _ _ => rfl) rfl (hq.2.2.2.2.1) ?_
      refine wt_nicmp_ge (pc := 24) 61 (o) (ow) hc dX3_rides_24 (by decide) (by omega) (by omega) (fun c_24 => ?_) (fun c_24 => ?_)
      · exact wt_drop hend ⟨rfl, rfl, trivial⟩
      · omega
    | succ n ih =>
      intro o more M hi hq hend
      obtain ⟨wl, hw⟩ := hq.2.2.2.2.2.2.1 o (by omega)
      rw [sp_ps] at hend
      have hc' : sp_cty (sp_takes M 60 0 60 0 o).1 ro ow ri := hq.r60 (fun k hk => sp_takes_row hk)
      have ih' := fun b => ih (o + 1) b (sp_takes M 60 0 60 0 o).1 (by omega) hc'
      refine wt_iload_3 (pc := 19) hc dX3_rides_19 ?_
      refine wt_aload_0 (pc := 20) hc dX3_rides_20 ?_
      refine tw_get (pc := 21) 3 (nI ow) hc hE dX3_rides_21 q1607 (by decide) (fun _ _ _ => rfl) rfl (hq.2.2.2.2.1) ?_
      refine wt_nicmp_ge (pc := 24) 61 (o) (ow) hc dX3_rides_24 (by decide) (by omega) (by omega) (fun c_24 => ?_) (fun c_24 => ?_)
      · omega
      · refine wt_aload_0 (pc := 27) hc dX3_rides_27 ?_
        refine wt_iload_3 (pc := 28) hc dX3_rides_28 ?_
        refine wt_aload_0 (pc := 29) hc dX3_rides_29 ?_
        refine tw_geta (pc := 30) 60 hc hE dX3_rides_30 q1664 (by decide) (by decide) (fun _ _ _ => rfl) rfl ?_
        refine wt_iconst (pc := 33) (v := nI 0) hc dX3_rides_33 (by decide) ?_
        refine wt_aload_0 (pc := 34) hc dX3_rides_34 ?_
        refine tw_geta (pc := 35) 60 hc hE dX3_rides_35 q1664 (by decide) (by decide) (fun _ _ _ => rfl) rfl ?_
        refine wt_iconst (pc := 38) (v := nI 0) hc dX3_rides_38 (by decide) ?_
        refine wt_gofn (tw_inv (pc := 39) 5 hc hE (ct_takes hE 60 0 60 0 o wl (by omega) hw (by decide) (by decide) rfl rfl (by decide) (by decide) (by decide)) dX3_rides_39 rfl q2028 q2030 qs89 q116 q2031 (by decide +kernel) rfl (by decide) (by decide) (Nat.le_of_ble_eq_true rfl) rfl) ?_
        cases hany : (sp_takes M 60 0 60 0 o).2 with
        | true =>
          rw [hany, Bool.true_or] at hend
          refine wt_if_ne (pc := 42) 49 hc dX3_rides_42 (by decide) (fun c_42 => ?_) (fun c_42 => ?_)
          · refine wt_iconst (pc := 49) (v := nI 1) hc dX3_rides_49 (by decide) ?_
            refine wt_goto (pc := 50) 54 hc dX3_rides_50 (by decide) ?_
            refine wt_istore_2 (pc := 54) hc dX3_rides_54 rfl ?_
            refine wt_iinc_3 (pc := 55) (v := nI (o + 1)) hc dX3_rides_55 (nI_add o 1) rfl ?_
            refine wt_goto (pc := 58) 19 hc dX3_rides_58 (by decide) ?_
            exact ih' true hend
          · exact absurd c_42 (by decide)
        | false =>
          rw [hany, Bool.false_or] at hend
          refine wt_if_ne (pc := 42) 49 hc dX3_rides_42 (by decide) (fun c_42 => ?_) (fun c_42 => ?_)
          · exact absurd rfl c_42
          · cases more with
            | true =>
              refine wt_iload_2 (pc := 45) hc dX3_rides_45 ?_
              refine wt_if_eq (pc := 46) 53 hc dX3_rides_46 (by decide) (fun z => absurd z (by decide)) (fun _ => ?_)
              refine wt_iconst (pc := 49) (v := nI 1) hc dX3_rides_49 (by decide) ?_
              refine wt_goto (pc := 50) 54 hc dX3_rides_50 (by decide) ?_
              refine wt_istore_2 (pc := 54) hc dX3_rides_54 rfl ?_
              refine wt_iinc_3 (pc := 55) (v := nI (o + 1)) hc dX3_rides_55 (nI_add o 1) rfl ?_
              refine wt_goto (pc := 58) 19 hc dX3_rides_58 (by decide) ?_
              exact ih' true hend
            | false =>
              refine wt_iload_2 (pc := 45) hc dX3_rides_45 ?_
              refine wt_if_eq (pc := 46) 53 hc dX3_rides_46 (by decide) (fun _ => ?_) (fun z => absurd z (by decide))
              refine wt_iconst (pc := 53) (v := nI 0) hc dX3_rides_53 (by decide) ?_
              refine wt_istore_2 (pc := 54) hc dX3_rides_54 rfl ?_
              refine wt_iinc_3 (pc := 55) (v := nI (o + 1)) hc dX3_rides_55 (nI_add o 1) rfl ?_
              refine wt_goto (pc := 58) 19 hc dX3_rides_58 (by decide) ?_
              exact ih' false hend
  have mu : ∀ (n o : Nat) (more : Bool) (M : wt_It), o + n = ow → sp_cty M ro ow ri → sp_muN ((sp_ps n o more M).1 60) 10 ≤ sp_muN (M 60) 10 ∧ ((sp_ps n o more M).2 = true → more = true ∨ sp_muN ((sp_ps n o more M).1 60) 10 < sp_muN (M 60) 10) := by
    intro n
    induction n with
    | zero => intro o more M _ _; exact ⟨Nat.le_refl _, Or.inl⟩
    | succ n ih =>
      intro o more M hi hq
      obtain ⟨wl, hw⟩ := hq.2.2.2.2.2.2.1 o (by omega)
      have hc' : sp_cty (sp_takes M 60 0 60 0 o).1 ro ow ri := hq.r60 (fun k hk => sp_takes_row hk)
      obtain ⟨g1, g2⟩ := sp_takes_mu hw
      rw [sp_ps]
      obtain ⟨g3, g4⟩ := ih (o + 1) ((sp_takes M 60 0 60 0 o).2 || more) _ (by omega) hc'
      refine ⟨by omega, fun h => ?_⟩
      rcases g4 h with q | q
      · rcases (Bool.or_eq_true _ _).mp q with z | z
        · have := g2 z
          exact Or.inr (by omega)
        · exact Or.inl z
      · exact Or.inr (by omega)
  have loop : ∀ (n : Nat) (M : wt_It), sp_cty M ro ow ri → sp_muN (M 60) 10 < n → wt_V G X 64 [some (.ref T.1), none, none, none] [] (tw_Z G T (sp_rl n ow M) w) 0 0 → wt_V G X 11 [some (.ref T.1), none, some (.int (nI 1)), none] [] (tw_Z G T M w) 0 0 := by
    intro n
    induction n with
    | zero => intro M _ h; omega
    | succ n ih =>
      intro M hq hn hend
      rw [sp_rl] at hend
      obtain ⟨g1, g2⟩ := mu ow 0 false M (by omega) hq
      refine wt_iload_2 (pc := 11) hc dX3_rides_11 ?_
      refine wt_if_eq (pc := 12) 64 hc dX3_rides_12 (by decide) (fun z => absurd z (by decide)) (fun _ => ?_)
      refine wt_iconst (pc := 15) (v := nI 0) hc dX3_rides_15 (by decide) ?_
      refine wt_istore_2 (pc := 16) hc dX3_rides_16 rfl ?_
      refine wt_iconst (pc := 17) (v := nI 0) hc dX3_rides_17 (by decide) ?_
      refine wt_istore_3 (pc := 18) hc dX3_rides_18 rfl ?_
      refine pass ow 0 false M (by omega) hq ?_
      have hc' : sp_cty (sp_ps ow 0 false M).1 ro ow ri := hq.r60 (fun k hk => sp_ps_row _ _ _ _ _ hk)
      cases hm : (sp_ps ow 0 false M).2 with
      | true =>
        rw [if_pos hm] at hend
        have := (g2 hm).resolve_left (by decide)
        refine wt_goto (pc := 61) 11 hc dX3_rides_61 (by decide) ?_
        exact ih _ hc' (by omega) hend
      | false =>
        rw [if_neg (by rw [hm]; decide)] at hend
        refine wt_goto (pc := 61) 11 hc dX3_rides_61 (by decide) ?_
        refine wt_iload_2 (pc := 11) hc dX3_rides_11 ?_
        refine wt_if_eq (pc := 12) 64 hc dX3_rides_12 (by decide) (fun _ => ?_) (fun z => absurd z (by decide))
        exact wt_drop hend ⟨rfl, trivial⟩
  refine wt_aload_0 (pc := 0) hc dX3_rides_0 ?_
  refine wt_iload_1 (pc := 1) hc dX3_rides_1 ?_
  refine wt_aload_0 (pc := 2) hc dX3_rides_2 ?_
  refine tw_geta (pc := 3) 60 hc hE dX3_rides_3 q1664 (by decide) (by decide) (fun _ _ _ => rfl) rfl ?_
  refine wt_gov (tw_inv (pc := 6) 2 hc hE (ct_waitsAt hE p 60 a (by omega) rfl ea ha) dX3_rides_6 rfl q2024 q2026 qs88 q116 q2027 (by decide +kernel) rfl (by decide) (by decide) (Nat.le_of_ble_eq_true rfl) rfl) (Nat.zero_le _) (Nat.zero_le _) ?_
  refine wt_iconst (pc := 9) (v := nI 1) hc dX3_rides_9 (by decide) ?_
  refine wt_istore_2 (pc := 10) hc dX3_rides_10 rfl ?_
  have e : sp_rides M p = sp_rl (sp_muN (sp_waits M p 60 60) 10 + 1) ow (sp_waits M p 60) := by rw [sp_rides, eow, nn_nI (by omega)]
  refine wt_drop (loop (sp_muN (sp_waits M p 60 60) 10 + 1) (sp_waits M p 60) (hC0.r60 (fun k hk => ?_)) (by omega) ?_) ⟨rfl, rfl, trivial⟩
  · unfold sp_waits
    rw [wt_up2_row hk, sp_fill_row hk]
  · rw [← e]
    exact wt_vret (pc := 64) hc hok dX3_rides_64 (fun H hZ => ⟨rfl, hZ⟩)
theorem ct_soonest (hE : tw_E G T) (ro ow ri p : Nat) (hC : sp_cty M ro ow ri) (hp : p < ri) : wt_Ct l G yX3_soonest cX3_soonest 3 (some .int) 4 0 0 [.ref T.1, .int (nI p)] (tw_Z G T M w) (wt_fn (sp_soon M p) (tw_Z G T (sp_rides M p) w)) := by
  have hC0 := hC
  obtain ⟨hro, how, hri, ero, eow, eri, hway, hrid⟩ := hC
  obtain ⟨⟨a, ha, ea⟩, b, hb, eb⟩ := hrid p hp
  refine wt_enter [some (.ref T.1), some (.int (nI p)), none] (by decide +kernel) rfl (Nat.le_of_ble_eq_true rfl) (fun X hc hok => ?_)
  refine wt_aload_0 (pc := 0) hc dX3_soonest_0 ?_
  refine wt_iload_1 (pc := 1) hc dX3_soonest_1 ?_
  refine wt_gov (tw_inv (pc := 2) 1 hc hE (ct_rides hE ro ow ri p hC0 hp) dX3_soonest_2 rfl q2020 q2022 qs87 q116 q2023 (by decide +kernel) rfl (by decide) (by decide) (Nat.le_of_ble_eq_true rfl) rfl) (Nat.zero_le _) (Nat.zero_le _) ?_
  refine wt_aload_0 (pc := 5) hc dX3_soonest_5 ?_
  refine tw_geta (pc := 6) 60 hc hE dX3_soonest_6 q1664 (by decide) (by decide) (fun _ _ _ => rfl) rfl ?_
  refine wt_aload_0 (pc := 9) hc dX3_soonest_9 ?_
  refine wt_iload_1 (pc := 10) hc dX3_soonest_10 ?_
  refine wt_gofn (tw_inv (pc := 11) 1 hc hE (ct_homeOf hE p (by omega)) dX3_soonest_11 rfl q2032 q2034 qs90 q116 q2035 (by decide +kernel) rfl (by decide) (by decide) (Nat.le_of_ble_eq_true rfl) rfl) ?_
  refine wt_topi ((congrFun (sp_rides_row (by decide)) _).trans eb) ?_
  refine tw_iald (pc := 14) (k := 60) (b) _ hc hE dX3_soonest_14 rfl (rfl) (by show _ < 10; omega) (by decide) (rfl) ?_
  refine wt_istore_2 (pc := 15) hc dX3_soonest_15 rfl ?_
  refine wt_iload_2 (pc := 16) hc dX3_soonest_16 ?_
  refine wt_aload_0 (pc := 17) hc dX3_soonest_17 ?_
  refine tw_get (pc := 18) 6 (M 0 6) hc hE dX3_soonest_18 q1610 (by decide) (fun _ _ _ => rfl) rfl (congrFun (sp_rides_row (by decide)) 6) ?_
  refine wt_icmp_gt (pc := 21) 28 hc dX3_soonest_21 (by decide) (fun c_21 => ?_) (fun c_21 => ?_)
  · refine wt_ldcw (pc := 28) (v := nI 1000000) hc dX3_soonest_28 q1973 ?_
    exact wt_iret (pc := 31) hc hok dX3_soonest_31 (rfl) (fun H hZ => ⟨by rw [sp_soon, eb, nn_nI (by omega)]; first | rw [if_pos c_21] | rw [if_neg c_21], hZ⟩)
  · refine wt_iload_2 (pc := 24) hc dX3_soonest_24 ?_
    refine wt_goto (pc := 25) 31 hc dX3_soonest_25 (by decide) ?_
    exact wt_iret (pc := 31) hc hok dX3_soonest_31 (rfl) (fun H hZ => ⟨by rw [sp_soon, eb, nn_nI (by omega)]; first | rw [if_pos c_21] | rw [if_neg c_21], hZ⟩)
theorem ct_homes (hE : tw_E G T) (ro ow ri : Nat) (hcy : sp_city M) (hC : sp_cty M ro ow ri) (hf : sp_fok M) : wt_Ct l G yX3_homes cX3_homes 3 (some .int) 5 0 0 [.ref T.1] (tw_Z G T M w) (wt_fn (sp_homes M).1 (tw_Z G T (sp_homes M).2 w)) := by
  have hri : ri ≤ 8 := hC.2.2.1
  have loop : ∀ X, wt_Cx l G X yX3_homes cX3_homes 3 5 → wt_ok G X (some .int) (wt_fn (sp_homes M).1 (tw_Z G T (sp_homes M).2 w)) → ∀ (n p : Nat) (a : Int32) (M' : wt_It), p + n = ri → sp_cty M' ro ow ri → sp_homes M = sp_hm n p a M' → wt_V G X 8 [some (.ref T.1), some (.int a), some (.int (nI p))] [] (tw_Z G T M' w) 0 0 := by
    intro X hc hok n
    induction n with
    | zero =>
      intro p a M' hi hC hv
      have e4 := hC.2.2.2.2.2.1
      refine wt_iload_2 (pc := 8) hc dX3_homes_8 ?_
      refine wt_aload_0 (pc := 9) hc dX3_homes_9 ?_
      refine tw_get (pc := 10) 4 (nI ri) hc hE dX3_homes_10 q1608 (by decide) (fun _ _ _ => rfl) rfl (e4) ?_
      refine wt_nicmp_ge (pc := 13) 41 (p) (ri) hc dX3_homes_13 (by decide) (by omega) (by omega) (fun c_13 => ?_) (fun c_13 => ?_)
      · refine wt_iload_1 (pc := 41) hc dX3_homes_41 ?_
        exact wt_iret (pc := 42) hc hok dX3_homes_42 (rfl) (fun H hZ => ⟨by rw [hv]; rfl, by rw [hv]; exact hZ⟩)
      · omega
    | succ n ih =>
      intro p a M' hi hC hv
      have e4 := hC.2.2.2.2.2.1
      rw [sp_hm] at hv
      refine wt_iload_2 (pc := 8) hc dX3_homes_8 ?_
      refine wt_aload_0 (pc := 9) hc dX3_homes_9 ?_
      refine tw_get (pc := 10) 4 (nI ri) hc hE dX3_homes_10 q1608 (by decide) (fun _ _ _ => rfl) rfl (e4) ?_
      refine wt_nicmp_ge (pc := 13) 41 (p) (ri) hc dX3_homes_13 (by decide) (by omega) (by omega) (fun c_13 => ?_) (fun c_13 => ?_)
      · omega
      · refine wt_iload_1 (pc := 16) hc dX3_homes_16 ?_
        refine wt_aload_0 (pc := 17) hc dX3_homes_17 ?_
        refine wt_iload_2 (pc := 18) hc dX3_homes_18 ?_
        refine wt_gofn (tw_inv (pc := 19) 1 hc hE (ct_soonest hE ro ow ri p hC (by omega)) dX3_homes_19 rfl q2016 q2018 qs86 q116 q2019 (by decide +kernel) rfl (by decide) (by decide) (Nat.le_of_ble_eq_true rfl) rfl) ?_
        refine wt_ldcw (pc := 22) (v := nI 1000000) hc dX3_homes_22 q1973 ?_
        refine wt_icmp_ge (pc := 25) 32 hc dX3_homes_25 (by decide) (fun c_25 => ?_) (fun c_25 => ?_)
        · refine wt_iconst (pc := 32) (v := nI 0) hc dX3_homes_32 (by decide) ?_
          refine wt_iadd (pc := 33) hc dX3_homes_33 ?_
          refine wt_istore_1 (pc := 34) hc dX3_homes_34 rfl ?_
          refine wt_iinc_2 (pc := 35) (v := nI (p + 1)) hc dX3_homes_35 (nI_add p 1) rfl ?_
          refine wt_goto (pc := 38) 8 hc dX3_homes_38 (by decide) ?_
          first | (rw [if_pos c_25] at hv; exact ih (p + 1) _ _ (by omega) (hC.r60 (fun k hk => sp_rides_row hk)) hv) | (rw [if_neg c_25] at hv; exact ih (p + 1) _ _ (by omega) (hC.r60 (fun k hk => sp_rides_row hk)) hv)
        · refine wt_iconst (pc := 28) (v := nI 1) hc dX3_homes_28 (by decide) ?_
          refine wt_goto (pc := 29) 33 hc dX3_homes_29 (by decide) ?_
          refine wt_iadd (pc := 33) hc dX3_homes_33 ?_
          refine wt_istore_1 (pc := 34) hc dX3_homes_34 rfl ?_
          refine wt_iinc_2 (pc := 35) (v := nI (p + 1)) hc dX3_homes_35 (nI_add p 1) rfl ?_
          refine wt_goto (pc := 38) 8 hc dX3_homes_38 (by decide) ?_
          first | (rw [if_pos c_25] at hv; exact ih (p + 1) _ _ (by omega) (hC.r60 (fun k hk => sp_rides_row hk)) hv) | (rw [if_neg c_25] at hv; exact ih (p + 1) _ _ (by omega) (hC.r60 (fun k hk => sp_rides_row hk)) hv)
  refine wt_enter [some (.ref T.1), none, none] (by decide +kernel) rfl (Nat.le_of_ble_eq_true rfl) (fun X hc hok => ?_)
  refine wt_aload_0 (pc := 0) hc dX3_homes_0 ?_
  refine wt_gov (tw_inv (pc := 1) 0 hc hE (ct_nights hE hcy hf) dX3_homes_1 rfl q1993 q1995 qs81 q116 q1996 (by decide +kernel) rfl (by decide) (by decide) (Nat.le_of_ble_eq_true rfl) rfl) (Nat.zero_le _) (Nat.zero_le _) ?_
  refine wt_iconst (pc := 4) (v := nI 0) hc dX3_homes_4 (by decide) ?_
  refine wt_istore_1 (pc := 5) hc dX3_homes_5 rfl ?_
  refine wt_iconst (pc := 6) (v := nI 0) hc dX3_homes_6 (by decide) ?_
  refine wt_istore_2 (pc := 7) hc dX3_homes_7 rfl ?_
  exact loop X hc hok ri 0 (nI 0) (sp_night M) (by omega) (hC.same (sp_night_same M)) (by rw [sp_homes, hC.2.2.2.2.2.1, nn_nI (by omega)])
end TG
