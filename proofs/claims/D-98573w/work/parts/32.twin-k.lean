/-! THE REFERENCE: changes, cheapest, last -/
set_option maxRecDepth 100000
def sp_os : Nat → Nat → wt_It → wt_It
  | 0, _, M => M
  | n + 1, o, M => sp_os n (o + 1) (sp_takes M 61 0 60 0 o).1
def sp_oF : Nat → Nat → Nat → wt_It → Int32 × wt_It
  | 0, _, _, M => (-1, M)
  | n + 1, i, p, M => if M 60 (nn (M 11 (4 * p + 1))) ≤ M 0 6 then (nI i, M) else sp_oF n (i + 1) p (sp_os (nn (M 0 3)) 0 (sp_cp M 60 61 10))
/-- no rows but 60, 61, 62 -/
def sp_R6 (M M' : wt_It) : Prop := ∀ k, k ≠ 60 → k ≠ 61 → k ≠ 62 → M' k = M k
theorem sp_R6.rf (M : wt_It) : sp_R6 M M := fun _ _ _ _ => rfl
theorem sp_R6.tr {A B C : wt_It} (h : sp_R6 A B) (h' : sp_R6 B C) : sp_R6 A C := fun k a b c => (h' k a b c).trans (h k a b c)
theorem sp_R6.takes (M : wt_It) (k1 o1 k2 o2 o : Nat) (hk : k2 = 60 ∨ k2 = 62) : sp_R6 M (sp_takes M k1 o1 k2 o2 o).1 := fun k a b c => sp_takes_row (by omega)
theorem sp_R6.Q {A B : wt_It} (h : sp_R6 A B) : sp_Q A B := sp_Q.of fun k hk => by
  have := sp_S_ne hk
  exact h k (by omega) (by omega) (by omega)
theorem sp_cp_row {M : wt_It} {a b n k : Nat} (h : k ≠ b) : sp_cp M a b n k = M k := by
  funext j
  exact if_neg (fun z => h z.1)
theorem sp_R6.cty {A B : wt_It} {ro ow ri : Nat} (h : sp_R6 A B) (hC : sp_cty A ro ow ri) : sp_cty B ro ow ri := hC.Q h.Q
theorem sp_R6.os : ∀ (n o : Nat) (M : wt_It), sp_R6 M (sp_os n o M) := by
  intro n
  induction n with
  | zero => intro o M; exact sp_R6.rf M
  | succ n ih => intro o M; exact (sp_R6.takes M 61 0 60 0 o (Or.inl rfl)).tr (ih _ _)
theorem sp_R6.oF : ∀ (n i p : Nat) (M : wt_It), sp_R6 M (sp_oF n i p M).2 := by
  intro n
  induction n with
  | zero => intro i p M; exact sp_R6.rf M
  | succ n ih =>
    intro i p M
    rw [sp_oF]
    split
    · exact sp_R6.rf M
    · exact (show sp_R6 M (sp_cp M 60 61 10) from fun k _ b _ => sp_cp_row b).tr ((sp_R6.os _ _ _).tr (ih _ _ _))
theorem sp_R6.waits (M : wt_It) (p : Nat) : sp_R6 M (sp_waits M p 60) := fun k a _ _ => sp_waits_row a
def sp_kd (M : wt_It) (ow : Nat) : Prop := ∀ o, o < ow → ∃ k, k ≤ 2 ∧ M 8 o = nI k
def sp_c10 (M : wt_It) (fur n : Nat) : wt_It := fun k j => if k = 62 ∧ 10 * fur + 10 ≤ j ∧ j < 10 * fur + 10 + n then M 62 (j - 10) else M k j
theorem sp_c10_0 (M : wt_It) (fur : Nat) : sp_c10 M fur 0 = M := by
  funext k j
  exact if_neg (fun z => by omega)
theorem sp_c10_up (M : wt_It) (fur n : Nat) (h : n < 10) : wt_up2 (sp_c10 M fur n) 62 (10 * fur + 10 + n) (sp_c10 M fur n 62 (10 * fur + n)) = sp_c10 M fur (n + 1) := by
  have e : sp_c10 M fur n 62 (10 * fur + n) = M 62 (10 * fur + n) := if_neg (fun z => by omega)
  rw [e]
  funext k j
  simp only [wt_up2, sp_c10]
  by_cases h1 : k = 62 ∧ j = 10 * fur + 10 + n
  · rw [if_pos h1, if_pos ⟨h1.1, by omega, by omega⟩, h1.2, show 10 * fur + 10 + n - 10 = 10 * fur + n by omega]
  · rw [if_neg h1]
    by_cases h2 : k = 62 ∧ 10 * fur + 10 ≤ j ∧ j < 10 * fur + 10 + n
    · rw [if_pos h2, if_pos ⟨h2.1, h2.2.1, by omega⟩]
    · rw [if_neg h2, if_neg (fun z => by
        by_cases e : j = 10 * fur + 10 + n
        · exact h1 ⟨z.1, e⟩
        · exact h2 ⟨z.1, z.2.1, by omega⟩)]
/-- one fare more: the rides of all owls that it pays -/
def sp_co (fur : Nat) : Nat → Nat → wt_It → wt_It
  | 0, _, M => M
  | n + 1, o, M => sp_co fur n (o + 1) (if M 8 o ≤ nI fur then (sp_takes M 62 (10 * (fur - nn (M 8 o))) 62 (10 * fur + 10) o).1 else M)
def sp_cf : Nat → Nat → Nat → wt_It → Int32 × wt_It
  | 0, _, _, M => (-1, M)
  | n + 1, fur, p, M => if M 62 (10 * fur + nn (M 11 (4 * p + 1))) ≤ M 0 6 then (nI fur, M) else if fur = 39 then (-1, M) else sp_cf n (fur + 1) p (sp_co fur (nn (M 0 3)) 0 (sp_c10 M fur 10))
theorem sp_R6.co (fur : Nat) : ∀ (n o : Nat) (M : wt_It), sp_R6 M (sp_co fur n o M) := by
  intro n
  induction n with
  | zero => intro o M; exact sp_R6.rf M
  | succ n ih =>
    intro o M
    rw [sp_co]
    split
    · exact (sp_R6.takes M _ _ _ _ o (Or.inr rfl)).tr (ih _ _)
    · exact ih _ _
theorem sp_c10_row {M : wt_It} {fur n k : Nat} (h : k ≠ 62) : sp_c10 M fur n k = M k := by
  funext j
  exact if_neg (fun z => h z.1)
theorem sp_R6.cf : ∀ (n fur p : Nat) (M : wt_It), sp_R6 M (sp_cf n fur p M).2 := by
  intro n
  induction n with
  | zero => intro fur p M; exact sp_R6.rf M
  | succ n ih =>
    intro fur p M
    rw [sp_cf]
    split
    · exact sp_R6.rf M
    · split
      · exact sp_R6.rf M
      · exact (show sp_R6 M (sp_c10 M fur 10) from fun k _ _ c => sp_c10_row c).tr ((sp_R6.co _ _ _ _).tr (ih _ _ _))
def sp_chv (N : wt_It) (p : Nat) : Int32 := if (sp_oF 11 0 p (sp_waits (sp_night N) p 60)).1 ≤ 0 then (sp_oF 11 0 p (sp_waits (sp_night N) p 60)).1 else (sp_oF 11 0 p (sp_waits (sp_night N) p 60)).1 - nI 1
/-- the first row of fares -/
def sp_cp0 (M : wt_It) (p : Nat) : wt_It := sp_fill (sp_waits M p 60) 62 10 (fun r => sp_waits M p 60 60 r)
def sp_ckv (N : wt_It) (p : Nat) : Int32 := (sp_cf 40 0 p (sp_cp0 (sp_night N) p)).1
def sp_lav (N : wt_It) (p : Nat) : Int32 := if nI 1000000 ≤ sp_soon (sp_night N) p then -1 else if N 11 (4 * p) = N 11 (4 * p + 1) then -1 else sp_lO (sp_rides (sp_night N) p) (N 11 (4 * p + 1)) (sp_soon (sp_night N) p) (nn (N 0 3)) 0
section TK
variable {l : Launch} {G : wt_G} {Z : Heap → Prop} {T : tw_T} {M N : wt_It} {w : Int64}
theorem ct_owlsFor (hE : tw_E G T) (ro ow ri p : Nat) (hC : sp_cty M ro ow ri) (hp : p < ri) : wt_Ct l G yX3_owlsFor cX3_owlsFor 4 (some .int) 3 0 0 [.ref T.1, .int (nI p)] (tw_Z G T M w) (wt_fn (sp_oF 11 0 p (sp_waits M p 60)).1 (tw_Z G T (sp_oF 11 0 p (sp_waits M p 60)).2 w)) := by
  have how := hC.2.1
  have hri := hC.2.2.1
  refine wt_enter [some (.ref T.1), some (.int (nI p)), none, none] (by decide +kernel) rfl (Nat.le_of_ble_eq_true rfl) (fun X hc hok => ?_)
  have inner : ∀ (n o i : Nat) (M' : wt_It), o + n = ow → sp_cty M' ro ow ri → wt_V G X 80 [some (.ref T.1), some (.int (nI p)), some (.int (nI i)), none] [] (tw_Z G T (sp_os n o M') w) 0 0 → wt_V G X 50 [some (.ref T.1), some (.int (nI p)), some (.int (nI i)), some (.int (nI o))] [] (tw_Z G T M' w) 0 0 := by
    intro n
    induction n with
    | zero =>
      intro o i M' ho hC hend
      have e : o = ow := by omega
      subst e
      refine wt_iload_3 (pc := 50) hc dX3_owlsFor_50 ?_
      refine wt_aload_0 (pc := 51) hc dX3_owlsFor_51 ?_
      refine tw_get (pc := 52) 3 (nI o) hc hE dX3_owlsFor_52 q1607 (by decide) (fun _ _ _ => rfl) rfl (hC.2.2.2.2.1) ?_
      refine wt_nicmp_ge (pc := 55) 80 (o) (o) hc dX3_owlsFor_55 (by decide) (by omega) (by omega) (fun c_55 => ?_) (fun c_55 => ?_)
      · exact wt_drop hend ⟨rfl, rfl, rfl, trivial⟩
      · omega
    | succ n ih =>
      intro o i M' ho hC hend
      obtain ⟨wl, hw⟩ := hC.2.2.2.2.2.2.1 o (by omega)
      refine wt_iload_3 (pc := 50) hc dX3_owlsFor_50 ?_
      refine wt_aload_0 (pc := 51) hc dX3_owlsFor_51 ?_
      refine tw_get (pc := 52) 3 (nI ow) hc hE dX3_owlsFor_52 q1607 (by decide) (fun _ _ _ => rfl) rfl (hC.2.2.2.2.1) ?_
      refine wt_nicmp_ge (pc := 55) 80 (o) (ow) hc dX3_owlsFor_55 (by decide) (by omega) (by omega) (fun c_55 => ?_) (fun c_55 => ?_)
      · omega
      · refine wt_aload_0 (pc := 58) hc dX3_owlsFor_58 ?_
        refine wt_iload_3 (pc := 59) hc dX3_owlsFor_59 ?_
        refine wt_aload_0 (pc := 60) hc dX3_owlsFor_60 ?_
        refine tw_geta (pc := 61) 61 hc hE dX3_owlsFor_61 q1665 (by decide) (by decide) (fun _ _ _ => rfl) rfl ?_
        refine wt_iconst (pc := 64) (v := nI 0) hc dX3_owlsFor_64 (by decide) ?_
        refine wt_aload_0 (pc := 65) hc dX3_owlsFor_65 ?_
        refine tw_geta (pc := 66) 60 hc hE dX3_owlsFor_66 q1664 (by decide) (by decide) (fun _ _ _ => rfl) rfl ?_
        refine wt_iconst (pc := 69) (v := nI 0) hc dX3_owlsFor_69 (by decide) ?_
        refine wt_gofn (tw_inv (pc := 70) 5 hc hE (ct_takes hE 61 0 60 0 o wl (by omega) hw (by decide) (by decide) rfl rfl (by decide) (by decide) (by omega)) dX3_owlsFor_70 rfl q2028 q2030 qs89 q116 q2031 (by decide +kernel) rfl (by decide) (by decide) (Nat.le_of_ble_eq_true rfl) rfl) ?_
        refine wt_pop (pc := 73) hc dX3_owlsFor_73 rfl ?_
        refine wt_iinc_3 (pc := 74) (v := nI (o + 1)) hc dX3_owlsFor_74 (nI_add o 1) rfl ?_
        refine wt_goto (pc := 77) 50 hc dX3_owlsFor_77 (by decide) ?_
        exact ih (o + 1) i _ (by omega) ((sp_R6.takes M' 61 0 60 0 o (Or.inl rfl)).cty hC) hend
  have outer : ∀ (n i : Nat) (M' : wt_It), i + n = 11 → sp_cty M' ro ow ri → sp_oF 11 0 p (sp_waits M p 60) = sp_oF n i p M' → wt_V G X 11 [some (.ref T.1), some (.int (nI p)), some (.int (nI i)), none] [] (tw_Z G T M' w) 0 0 := by
    intro n
    induction n with
    | zero =>
      intro i M' hi hC hv
      refine wt_iload_2 (pc := 11) hc dX3_owlsFor_11 ?_
      refine wt_bipush (pc := 12) (v := nI 10) hc dX3_owlsFor_12 (by decide) ?_
      refine wt_nicmp_gt (pc := 14) 86 (i) (10) hc dX3_owlsFor_14 (by decide) (by omega) (by omega) (fun c_14 => ?_) (fun c_14 => ?_)
      · refine wt_iconst (pc := 86) (v := (-1 : Int32)) hc dX3_owlsFor_86 (by decide) ?_
        exact wt_iret (pc := 87) hc hok dX3_owlsFor_87 (rfl) (fun H hZ => ⟨by rw [hv]; rfl, by rw [hv]; exact hZ⟩)
      · omega
    | succ n ih =>
      intro i M' hi hC hv
      conv at hv => rhs; rw [sp_oF]
      obtain ⟨b, hb, eb⟩ := (hC.2.2.2.2.2.2.2 p hp).2
      rw [eb, nn_nI (by omega), hC.2.2.2.2.1, nn_nI (by omega)] at hv
      refine wt_iload_2 (pc := 11) hc dX3_owlsFor_11 ?_
      refine wt_bipush (pc := 12) (v := nI 10) hc dX3_owlsFor_12 (by decide) ?_
      refine wt_nicmp_gt (pc := 14) 86 (i) (10) hc dX3_owlsFor_14 (by decide) (by omega) (by omega) (fun c_14 => ?_) (fun c_14 => ?_)
      · omega
      · refine wt_aload_0 (pc := 17) hc dX3_owlsFor_17 ?_
        refine tw_geta (pc := 18) 60 hc hE dX3_owlsFor_18 q1664 (by decide) (by decide) (fun _ _ _ => rfl) rfl ?_
        refine wt_aload_0 (pc := 21) hc dX3_owlsFor_21 ?_
        refine wt_iload_1 (pc := 22) hc dX3_owlsFor_22 ?_
        refine wt_gofn (tw_inv (pc := 23) 1 hc hE (ct_homeOf hE p (by omega)) dX3_owlsFor_23 rfl q2032 q2034 qs90 q116 q2035 (by decide +kernel) rfl (by decide) (by decide) (Nat.le_of_ble_eq_true rfl) rfl) ?_
        rw [eb]
        refine tw_iald (pc := 26) (k := 60) (b) _ hc hE dX3_owlsFor_26 rfl (rfl) (by show _ < 10; omega) (by decide) (rfl) ?_
        refine wt_aload_0 (pc := 27) hc dX3_owlsFor_27 ?_
        refine tw_get (pc := 28) 6 _ hc hE dX3_owlsFor_28 q1610 (by decide) (fun _ _ _ => rfl) rfl (rfl) ?_
        refine wt_icmp_gt (pc := 31) 36 hc dX3_owlsFor_31 (by decide) (fun c_31 => ?_) (fun c_31 => ?_)
        · rw [if_neg (Int32.not_le.mpr c_31)] at hv
          refine wt_aload_0 (pc := 36) hc dX3_owlsFor_36 ?_
          refine wt_aload_0 (pc := 37) hc dX3_owlsFor_37 ?_
          refine tw_geta (pc := 38) 60 hc hE dX3_owlsFor_38 q1664 (by decide) (by decide) (fun _ _ _ => rfl) rfl ?_
          refine wt_aload_0 (pc := 41) hc dX3_owlsFor_41 ?_
          refine tw_geta (pc := 42) 61 hc hE dX3_owlsFor_42 q1665 (by decide) (by decide) (fun _ _ _ => rfl) rfl ?_
          refine wt_gov (tw_inv (pc := 45) 2 hc hE (ct_copies hE 60 61 (by decide) (by decide) (by decide) (by decide) rfl rfl) dX3_owlsFor_45 rfl q1965 q1967 qs78 q116 q1968 (by decide +kernel) rfl (by decide) (by decide) (Nat.le_of_ble_eq_true rfl) rfl) (Nat.zero_le _) (Nat.zero_le _) ?_
          refine wt_iconst (pc := 48) (v := nI 0) hc dX3_owlsFor_48 (by decide) ?_
          refine wt_istore_3 (pc := 49) hc dX3_owlsFor_49 rfl ?_
          exact inner ow 0 i _ (by omega) ((show sp_R6 M' (sp_cp M' 60 61 10) from fun k _ b _ => sp_cp_row b).cty hC) (by
            refine wt_iinc_2 (pc := 80) (v := nI (i + 1)) hc dX3_owlsFor_80 (nI_add i 1) rfl ?_
            refine wt_goto (pc := 83) 11 hc dX3_owlsFor_83 (by decide) ?_
            exact ih (i + 1) _ (by omega) (((show sp_R6 M' (sp_cp M' 60 61 10) from fun k _ b _ => sp_cp_row b).tr (sp_R6.os _ _ _)).cty hC) hv)
        · rw [if_pos (Int32.not_lt.mp c_31)] at hv
          refine wt_iload_2 (pc := 34) hc dX3_owlsFor_34 ?_
          exact wt_iret (pc := 35) hc hok dX3_owlsFor_35 (rfl) (fun H hZ => ⟨by rw [hv], by rw [hv]; exact hZ⟩)
  obtain ⟨a, ha, ea⟩ := (hC.2.2.2.2.2.2.2 p hp).1
  refine wt_aload_0 (pc := 0) hc dX3_owlsFor_0 ?_
  refine wt_iload_1 (pc := 1) hc dX3_owlsFor_1 ?_
  refine wt_aload_0 (pc := 2) hc dX3_owlsFor_2 ?_
  refine tw_geta (pc := 3) 60 hc hE dX3_owlsFor_3 q1664 (by decide) (by decide) (fun _ _ _ => rfl) rfl ?_
  refine wt_gov (tw_inv (pc := 6) 2 hc hE (ct_waitsAt hE p 60 a (by omega) rfl ea ha) dX3_owlsFor_6 rfl q2024 q2026 qs88 q116 q2027 (by decide +kernel) rfl (by decide) (by decide) (Nat.le_of_ble_eq_true rfl) rfl) (Nat.zero_le _) (Nat.zero_le _) ?_
  refine wt_iconst (pc := 9) (v := nI 0) hc dX3_owlsFor_9 (by decide) ?_
  refine wt_istore_2 (pc := 10) hc dX3_owlsFor_10 rfl ?_
  exact outer 11 0 _ (by omega) ((sp_R6.waits M p).cty hC) rfl
theorem ct_changes (hE : tw_E G T) (hN : sp_t0 M = N) (hcy : sp_city N) (hf : sp_fok N) (p : Int32) : wt_Ct l G yX3_changes cX3_changes 3 (some .int) 5 0 0 [.ref T.1, .int p] (tw_Z G T M w) (sp_ans G T N w (if 0 ≤ p ∧ p < N 0 4 then 0 else 1) (sp_chv N (nn p))) := by
  obtain ⟨ro, ow, ri, hC⟩ := hcy.cty
  have h0 : N 0 0 = 0 := by rw [← hN]; rfl
  have hri := hC.2.2.1
  refine wt_enter [some (.ref T.1), some (.int p), none] (by decide +kernel) rfl (Nat.le_of_ble_eq_true rfl) (fun X hc hok => ?_)
  by_cases hp : 0 ≤ p ∧ p < N 0 4
  · obtain ⟨q, hq, rfl⟩ := sp_ix hp hC.2.2.2.2.2.1 (by omega)
    rw [if_pos hp, nn_nI (by omega)] at hok
    have h6 : sp_R6 (sp_night N) (sp_oF 11 0 q (sp_waits (sp_night N) q 60)).2 := (sp_R6.waits _ _).tr (sp_R6.oF _ _ _ _)
    have hQ := (sp_Q.night N).tr h6.Q
    have hT : (sp_oF 11 0 q (sp_waits (sp_night N) q 60)).2 0 0 = 0 := (congrFun (h6 0 (by decide) (by decide) (by decide)) 0).trans ((congrFun (sp_S_night N rfl) 0).trans h0)
    refine wt_aload_0 (pc := 0) hc dX3_changes_0 ?_
    refine wt_iconst (pc := 1) (v := nI 0) hc dX3_changes_1 (by decide) ?_
    refine tw_put (pc := 2) 0 hc hE dX3_changes_2 q1604 (by decide) (fun _ _ _ => rfl) rfl rfl (rfl) rfl ?_
    refine tw_eq hN ?_
    refine wt_aload_0 (pc := 5) hc dX3_changes_5 ?_
    refine wt_iload_1 (pc := 6) hc dX3_changes_6 ?_
    refine wt_gofn (tw_inv (pc := 7) 1 hc hE (ct_isRider hE h0 _) dX3_changes_7 rfl q2076 q2078 qs96 q116 q2079 (by decide +kernel) rfl (by decide) (by decide) (Nat.le_of_ble_eq_true rfl) rfl) ?_
    rw [if_pos hp, sp_b_t hp]
    refine wt_if_ne (pc := 10) 15 hc dX3_changes_10 (by decide) (fun c_10 => ?_) (fun c_10 => ?_)
    · refine wt_aload_0 (pc := 15) hc dX3_changes_15 ?_
      refine wt_gov (tw_inv (pc := 16) 0 hc hE (ct_nights hE hcy hf) dX3_changes_16 rfl q1993 q1995 qs81 q116 q1996 (by decide +kernel) rfl (by decide) (by decide) (Nat.le_of_ble_eq_true rfl) rfl) (Nat.zero_le _) (Nat.zero_le _) ?_
      refine wt_aload_0 (pc := 19) hc dX3_changes_19 ?_
      refine wt_iload_1 (pc := 20) hc dX3_changes_20 ?_
      refine wt_gofn (tw_inv (pc := 21) 1 hc hE (ct_owlsFor hE ro ow ri q (hC.same (sp_night_same N)) hq) dX3_changes_21 rfl q2127 q2129 qs99 q116 q2130 (by decide +kernel) rfl (by decide) (by decide) (Nat.le_of_ble_eq_true rfl) rfl) ?_
      refine wt_istore_2 (pc := 24) hc dX3_changes_24 rfl ?_
      refine wt_iload_2 (pc := 25) hc dX3_changes_25 ?_
      refine wt_if_le (pc := 26) 35 hc dX3_changes_26 (by decide) (fun c_26 => ?_) (fun c_26 => ?_)
      · refine wt_iload_2 (pc := 35) hc dX3_changes_35 ?_
        exact wt_iret (pc := 36) hc hok dX3_changes_36 (rfl) (fun H hZ => sp_ans_ok hQ hT (by unfold sp_chv; first | rw [if_pos c_26] | rw [if_neg c_26]) hZ)
      · refine wt_iload_2 (pc := 29) hc dX3_changes_29 ?_
        refine wt_iconst (pc := 30) (v := nI 1) hc dX3_changes_30 (by decide) ?_
        refine wt_isub (pc := 31) hc dX3_changes_31 ?_
        refine wt_goto (pc := 32) 36 hc dX3_changes_32 (by decide) ?_
        exact wt_iret (pc := 36) hc hok dX3_changes_36 (rfl) (fun H hZ => sp_ans_ok hQ hT (by unfold sp_chv; first | rw [if_pos c_26] | rw [if_neg c_26]) hZ)
    · exact absurd c_10 (by decide)
  · rw [if_neg hp] at hok
    refine wt_aload_0 (pc := 0) hc dX3_changes_0 ?_
    refine wt_iconst (pc := 1) (v := nI 0) hc dX3_changes_1 (by decide) ?_
    refine tw_put (pc := 2) 0 hc hE dX3_changes_2 q1604 (by decide) (fun _ _ _ => rfl) rfl rfl (rfl) rfl ?_
    refine tw_eq hN ?_
    refine wt_aload_0 (pc := 5) hc dX3_changes_5 ?_
    refine wt_iload_1 (pc := 6) hc dX3_changes_6 ?_
    refine wt_gofn (tw_inv (pc := 7) 1 hc hE (ct_isRider hE h0 _) dX3_changes_7 rfl q2076 q2078 qs96 q116 q2079 (by decide +kernel) rfl (by decide) (by decide) (Nat.le_of_ble_eq_true rfl) rfl) ?_
    rw [if_neg hp, sp_b_f hp]
    refine wt_if_ne (pc := 10) 15 hc dX3_changes_10 (by decide) (fun c_10 => ?_) (fun c_10 => ?_)
    · exact absurd rfl c_10
    · refine wt_iconst (pc := 13) (v := nI 0) hc dX3_changes_13 (by decide) ?_
      exact wt_iret (pc := 14) hc hok dX3_changes_14 (rfl) (fun H hZ => sp_ans_bad (by decide) hZ)
theorem ct_cheapest (hE : tw_E G T) (hN : sp_t0 M = N) (hcy : sp_city N) (hf : sp_fok N) (hkd : sp_kd N (nn (N 0 3))) (p : Int32) : wt_Ct l G yX3_cheapest cX3_cheapest 4 (some .int) 5 0 0 [.ref T.1, .int p] (tw_Z G T M w) (sp_ans G T N w (if 0 ≤ p ∧ p < N 0 4 then 0 else 1) (sp_ckv N (nn p))) := by
  obtain ⟨ro, ow, ri, hC⟩ := hcy.cty
  have h0 : N 0 0 = 0 := by rw [← hN]; rfl
  have hri := hC.2.2.1
  have how := hC.2.1
  rw [hC.2.2.2.2.1, nn_nI (by omega)] at hkd
  refine wt_enter [some (.ref T.1), some (.int p), none, none] (by decide +kernel) rfl (Nat.le_of_ble_eq_true rfl) (fun X hc hok => ?_)
  by_cases hp : 0 ≤ p ∧ p < N 0 4
  · obtain ⟨q, hq, rfl⟩ := sp_ix hp hC.2.2.2.2.2.1 (by omega)
    rw [if_pos hp, nn_nI (by omega)] at hok
    have hC1 := hC.same (sp_night_same N)
    have kdQ : ∀ {A B : wt_It}, sp_Q A B → sp_kd A ow → sp_kd B ow := fun h hk o ho => by
      obtain ⟨k, h1, h2⟩ := hk o ho
      exact ⟨k, h1, by rw [h.row (k := 8) (by decide) rfl]; exact h2⟩
    have hk1 : sp_kd (sp_night N) ow := kdQ (sp_Q.night N) hkd
    have hinit : sp_R6 (sp_night N) (sp_cp0 (sp_night N) q) := (sp_R6.waits _ _).tr (fun k _ _ c => sp_fill_row c)
    have fin : ∀ (r : Int32) (M' : wt_It), sp_R6 (sp_night N) M' → r = sp_ckv N q → ∀ H, tw_Z G T M' w H → sp_ans G T N w 0 (sp_ckv N q) (some (.int r)) H := by
      intro r M' h6 hr H hZ
      exact sp_ans_ok ((sp_Q.night N).tr h6.Q) ((congrFun (h6 0 (by decide) (by decide) (by decide)) 0).trans ((congrFun (sp_S_night N rfl) 0).trans h0)) hr hZ
    have owls : ∀ (fur n o : Nat) (M' : wt_It), fur < 39 → o + n = ow → sp_cty M' ro ow ri → sp_kd M' ow → wt_V G X 191 [some (.ref T.1), some (.int (nI q)), some (.int (nI fur)), none] [] (tw_Z G T (sp_co fur n o M') w) 0 0 → wt_V G X 135 [some (.ref T.1), some (.int (nI q)), some (.int (nI fur)), some (.int (nI o))] [] (tw_Z G T M' w) 0 0 := by
      intro fur n
      induction n with
      | zero =>
        intro o M' hfu ho hC hk hend
        have e : o = ow := by omega
        subst e
        refine wt_iload_3 (pc := 135) hc dX3_cheapest_135 ?_
        refine wt_aload_0 (pc := 136) hc dX3_cheapest_136 ?_
        refine tw_get (pc := 137) 3 (nI o) hc hE dX3_cheapest_137 q1607 (by decide) (fun _ _ _ => rfl) rfl (hC.2.2.2.2.1) ?_
        refine wt_nicmp_ge (pc := 140) 191 (o) (o) hc dX3_cheapest_140 (by decide) (by omega) (by omega) (fun c_140 => ?_) (fun c_140 => ?_)
        · exact wt_drop hend ⟨rfl, rfl, rfl, trivial⟩
        · omega
      | succ n ih =>
        intro o M' hfu ho hC hk hend
        obtain ⟨wl, hw⟩ := hC.2.2.2.2.2.2.1 o (by omega)
        obtain ⟨kd, hkd2, ek⟩ := hk o (by omega)
        rw [sp_co, ek, nn_nI (by omega)] at hend
        refine wt_iload_3 (pc := 135) hc dX3_cheapest_135 ?_
        refine wt_aload_0 (pc := 136) hc dX3_cheapest_136 ?_
        refine tw_get (pc := 137) 3 (nI ow) hc hE dX3_cheapest_137 q1607 (by decide) (fun _ _ _ => rfl) rfl (hC.2.2.2.2.1) ?_
        refine wt_nicmp_ge (pc := 140) 191 (o) (ow) hc dX3_cheapest_140 (by decide) (by omega) (by omega) (fun c_140 => ?_) (fun c_140 => ?_)
        · omega
        · refine wt_aload_0 (pc := 143) hc dX3_cheapest_143 ?_
          refine tw_geta (pc := 144) 8 hc hE dX3_cheapest_144 q1612 (by decide) (by decide) (fun _ _ _ => rfl) rfl ?_
          refine wt_iload_3 (pc := 147) hc dX3_cheapest_147 ?_
          refine tw_iald (pc := 148) (k := 8) (o) (nI kd) hc hE dX3_cheapest_148 rfl (rfl) (by show _ < 5; omega) (by decide) (ek) ?_
          refine wt_iload_2 (pc := 149) hc dX3_cheapest_149 ?_
          refine wt_nicmp_gt (pc := 150) 185 (kd) (fur) hc dX3_cheapest_150 (by decide) (by omega) (by omega) (fun c_150 => ?_) (fun c_150 => ?_)
          · rw [if_neg (fun z => by have := (nI_leI (by omega) (by omega)).mp z; omega)] at hend
            refine wt_iinc_3 (pc := 185) (v := nI (o + 1)) hc dX3_cheapest_185 (nI_add o 1) rfl ?_
            refine wt_goto (pc := 188) 135 hc dX3_cheapest_188 (by decide) ?_
            exact ih (o + 1) M' hfu (by omega) hC hk hend
          · rw [if_pos (nI_le (by omega) (by omega))] at hend
            refine wt_aload_0 (pc := 153) hc dX3_cheapest_153 ?_
            refine wt_iload_3 (pc := 154) hc dX3_cheapest_154 ?_
            refine wt_aload_0 (pc := 155) hc dX3_cheapest_155 ?_
            refine tw_geta (pc := 156) 62 hc hE dX3_cheapest_156 q1666 (by decide) (by decide) (fun _ _ _ => rfl) rfl ?_
            refine wt_bipush (pc := 159) (v := nI 10) hc dX3_cheapest_159 (by decide) ?_
            refine wt_iload_2 (pc := 161) hc dX3_cheapest_161 ?_
            refine wt_aload_0 (pc := 162) hc dX3_cheapest_162 ?_
            refine tw_geta (pc := 163) 8 hc hE dX3_cheapest_163 q1612 (by decide) (by decide) (fun _ _ _ => rfl) rfl ?_
            refine wt_iload_3 (pc := 166) hc dX3_cheapest_166 ?_
            refine tw_iald (pc := 167) (k := 8) (o) (nI kd) hc hE dX3_cheapest_167 rfl (rfl) (by show _ < 5; omega) (by decide) (ek) ?_
            refine wt_isub (pc := 168) hc dX3_cheapest_168 ?_
            rw [pk_sub (a := fur) (b := kd) (by omega)]
            refine wt_imul (pc := 169) hc dX3_cheapest_169 ?_
            rw [pk_mul 10 (fur - kd)]
            refine wt_aload_0 (pc := 170) hc dX3_cheapest_170 ?_
            refine tw_geta (pc := 171) 62 hc hE dX3_cheapest_171 q1666 (by decide) (by decide) (fun _ _ _ => rfl) rfl ?_
            refine wt_bipush (pc := 174) (v := nI 10) hc dX3_cheapest_174 (by decide) ?_
            refine wt_iload_2 (pc := 176) hc dX3_cheapest_176 ?_
            refine wt_imul (pc := 177) hc dX3_cheapest_177 ?_
            rw [pk_mul 10 fur]
            refine wt_bipush (pc := 178) (v := nI 10) hc dX3_cheapest_178 (by decide) ?_
            refine wt_iadd (pc := 180) hc dX3_cheapest_180 ?_
            rw [nI_add (10 * fur) 10]
            refine wt_gofn (tw_inv (pc := 181) 5 hc hE (ct_takes hE 62 (10 * (fur - kd)) 62 (10 * fur + 10) o wl (by omega) hw (by show _ ≤ 400; omega) (by show _ ≤ 400; omega) rfl rfl (by decide) (by decide) (by omega)) dX3_cheapest_181 rfl q2028 q2030 qs89 q116 q2031 (by decide +kernel) rfl (by decide) (by decide) (Nat.le_of_ble_eq_true rfl) rfl) ?_
            refine wt_pop (pc := 184) hc dX3_cheapest_184 rfl ?_
            refine wt_iinc_3 (pc := 185) (v := nI (o + 1)) hc dX3_cheapest_185 (nI_add o 1) rfl ?_
            refine wt_goto (pc := 188) 135 hc dX3_cheapest_188 (by decide) ?_
            exact ih (o + 1) _ hfu (by omega) ((sp_R6.takes M' _ _ _ _ o (Or.inr rfl)).cty hC) (kdQ (sp_R6.takes M' _ _ _ _ o (Or.inr rfl)).Q hk) hend
    have copy : ∀ (fur n r : Nat) (M' : wt_It), fur < 39 → r + n = 10 → wt_V G X 133 [some (.ref T.1), some (.int (nI q)), some (.int (nI fur)), none] [] (tw_Z G T (sp_c10 M' fur 10) w) 0 0 → wt_V G X 96 [some (.ref T.1), some (.int (nI q)), some (.int (nI fur)), some (.int (nI r))] [] (tw_Z G T (sp_c10 M' fur r) w) 0 0 := by
      intro fur n
      induction n with
      | zero =>
        intro r M' hfu hr hend
        have e : r = 10 := by omega
        subst e
        refine wt_iload_3 (pc := 96) hc dX3_cheapest_96 ?_
        refine wt_bipush (pc := 97) (v := nI 10) hc dX3_cheapest_97 (by decide) ?_
        refine wt_nicmp_ge (pc := 99) 133 (10) (10) hc dX3_cheapest_99 (by decide) (by omega) (by omega) (fun c_99 => ?_) (fun c_99 => ?_)
        · exact wt_drop hend ⟨rfl, rfl, rfl, trivial⟩
        · omega
      | succ n ih =>
        intro r M' hfu hr hend
        refine wt_iload_3 (pc := 96) hc dX3_cheapest_96 ?_
        refine wt_bipush (pc := 97) (v := nI 10) hc dX3_cheapest_97 (by decide) ?_
        refine wt_nicmp_ge (pc := 99) 133 (r) (10) hc dX3_cheapest_99 (by decide) (by omega) (by omega) (fun c_99 => ?_) (fun c_99 => ?_)
        · omega
        · refine wt_aload_0 (pc := 102) hc dX3_cheapest_102 ?_
          refine tw_geta (pc := 103) 62 hc hE dX3_cheapest_103 q1666 (by decide) (by decide) (fun _ _ _ => rfl) rfl ?_
          refine wt_bipush (pc := 106) (v := nI 10) hc dX3_cheapest_106 (by decide) ?_
          refine wt_iload_2 (pc := 108) hc dX3_cheapest_108 ?_
          refine wt_imul (pc := 109) hc dX3_cheapest_109 ?_
          rw [pk_mul 10 fur]
          refine wt_bipush (pc := 110) (v := nI 10) hc dX3_cheapest_110 (by decide) ?_
          refine wt_iadd (pc := 112) hc dX3_cheapest_112 ?_
          rw [nI_add (10 * fur) 10]
          refine wt_iload_3 (pc := 113) hc dX3_cheapest_113 ?_
          refine wt_iadd (pc := 114) hc dX3_cheapest_114 ?_
          rw [nI_add (10 * fur + 10) r]
          refine wt_aload_0 (pc := 115) hc dX3_cheapest_115 ?_
          refine tw_geta (pc := 116) 62 hc hE dX3_cheapest_116 q1666 (by decide) (by decide) (fun _ _ _ => rfl) rfl ?_
          refine wt_bipush (pc := 119) (v := nI 10) hc dX3_cheapest_119 (by decide) ?_
          refine wt_iload_2 (pc := 121) hc dX3_cheapest_121 ?_
          refine wt_imul (pc := 122) hc dX3_cheapest_122 ?_
          rw [pk_mul 10 fur]
          refine wt_iload_3 (pc := 123) hc dX3_cheapest_123 ?_
          refine wt_iadd (pc := 124) hc dX3_cheapest_124 ?_
          rw [nI_add (10 * fur) r]
          refine tw_iald (pc := 125) (k := 62) (10 * fur + r) _ hc hE dX3_cheapest_125 rfl (rfl) (by show _ < 400; omega) (by decide) (rfl) ?_
          refine tw_iast (pc := 126) (k := 62) (10 * fur + 10 + r) hc hE dX3_cheapest_126 rfl (rfl) (by show _ < 400; omega) (by decide) ?_
          refine tw_eq (sp_c10_up M' fur r (by omega)) ?_
          refine wt_iinc_3 (pc := 127) (v := nI (r + 1)) hc dX3_cheapest_127 (nI_add r 1) rfl ?_
          refine wt_goto (pc := 130) 96 hc dX3_cheapest_130 (by decide) ?_
          exact ih (r + 1) M' hfu (by omega) hend
    have outer : ∀ (n fur : Nat) (M' : wt_It), fur + n = 40 → fur < 40 → sp_cty M' ro ow ri → sp_kd M' ow → sp_R6 (sp_night N) M' → (sp_ckv N q = (sp_cf n fur q M').1) → wt_V G X 56 [some (.ref T.1), some (.int (nI q)), some (.int (nI fur)), none] [] (tw_Z G T M' w) 0 0 := by
      intro n
      induction n with
      | zero => intro fur M' h1 h2; omega
      | succ n ih =>
        intro fur M' hfu hfu2 hC hk h6 hv
        rw [sp_cf] at hv
        obtain ⟨b, hb, eb⟩ := (hC.2.2.2.2.2.2.2 q hq).2
        rw [eb, nn_nI (by omega), hC.2.2.2.2.1, nn_nI (by omega)] at hv
        refine wt_iload_2 (pc := 56) hc dX3_cheapest_56 ?_
        refine wt_bipush (pc := 57) (v := nI 40) hc dX3_cheapest_57 (by decide) ?_
        refine wt_nicmp_ge (pc := 59) 197 (fur) (40) hc dX3_cheapest_59 (by decide) (by omega) (by omega) (fun c_59 => ?_) (fun c_59 => ?_)
        · omega
        · refine wt_aload_0 (pc := 62) hc dX3_cheapest_62 ?_
          refine tw_geta (pc := 63) 62 hc hE dX3_cheapest_63 q1666 (by decide) (by decide) (fun _ _ _ => rfl) rfl ?_
          refine wt_bipush (pc := 66) (v := nI 10) hc dX3_cheapest_66 (by decide) ?_
          refine wt_iload_2 (pc := 68) hc dX3_cheapest_68 ?_
          refine wt_imul (pc := 69) hc dX3_cheapest_69 ?_
          rw [pk_mul 10 fur]
          refine wt_aload_0 (pc := 70) hc dX3_cheapest_70 ?_
          refine wt_iload_1 (pc := 71) hc dX3_cheapest_71 ?_
          refine wt_gofn (tw_inv (pc := 72) 1 hc hE (ct_homeOf hE q (by omega)) dX3_cheapest_72 rfl q2032 q2034 qs90 q116 q2035 (by decide +kernel) rfl (by decide) (by decide) (Nat.le_of_ble_eq_true rfl) rfl) ?_
          rw [eb]
          refine wt_iadd (pc := 75) hc dX3_cheapest_75 ?_
          rw [nI_add (10 * fur) b]
          refine tw_iald (pc := 76) (k := 62) (10 * fur + b) _ hc hE dX3_cheapest_76 rfl (rfl) (by show _ < 400; omega) (by decide) (rfl) ?_
          refine wt_aload_0 (pc := 77) hc dX3_cheapest_77 ?_
          refine tw_get (pc := 78) 6 _ hc hE dX3_cheapest_78 q1610 (by decide) (fun _ _ _ => rfl) rfl (rfl) ?_
          refine wt_icmp_gt (pc := 81) 86 hc dX3_cheapest_81 (by decide) (fun c_81 => ?_) (fun c_81 => ?_)
          · rw [if_neg (Int32.not_le.mpr c_81)] at hv
            refine wt_iload_2 (pc := 86) hc dX3_cheapest_86 ?_
            refine wt_bipush (pc := 87) (v := nI 39) hc dX3_cheapest_87 (by decide) ?_
            refine wt_nicmp_ne (pc := 89) 94 (fur) (39) hc dX3_cheapest_89 (by decide) (by omega) (by omega) (fun c_89 => ?_) (fun c_89 => ?_)
            · rw [if_neg c_89] at hv
              refine wt_iconst (pc := 94) (v := nI 0) hc dX3_cheapest_94 (by decide) ?_
              refine wt_istore_3 (pc := 95) hc dX3_cheapest_95 rfl ?_
              rw [← sp_c10_0 M' fur]
              refine copy fur 10 0 M' (by omega) (by omega) ?_
              refine wt_iconst (pc := 133) (v := nI 0) hc dX3_cheapest_133 (by decide) ?_
              refine wt_istore_3 (pc := 134) hc dX3_cheapest_134 rfl ?_
              have h10 : sp_R6 M' (sp_c10 M' fur 10) := fun k _ _ c => sp_c10_row c
              refine owls fur ow 0 _ (by omega) (by omega) (h10.cty hC) (kdQ h10.Q hk) ?_
              refine wt_iinc_2 (pc := 191) (v := nI (fur + 1)) hc dX3_cheapest_191 (nI_add fur 1) rfl ?_
              refine wt_goto (pc := 194) 56 hc dX3_cheapest_194 (by decide) ?_
              have h10' := h10.tr (sp_R6.co fur ow 0 _)
              exact ih (fur + 1) _ (by omega) (by omega) (h10'.cty hC) (kdQ h10'.Q hk) (h6.tr h10') hv
            · rw [if_pos c_89] at hv
              refine wt_iconst (pc := 92) (v := (-1 : Int32)) hc dX3_cheapest_92 (by decide) ?_
              exact wt_iret (pc := 93) hc hok dX3_cheapest_93 (rfl) (fun H hZ => fin _ _ h6 hv.symm H hZ)
          · rw [if_pos (Int32.not_lt.mp c_81)] at hv
            refine wt_iload_2 (pc := 84) hc dX3_cheapest_84 ?_
            exact wt_iret (pc := 85) hc hok dX3_cheapest_85 (rfl) (fun H hZ => fin _ _ h6 hv.symm H hZ)
    have loop1 : ∀ n r : Nat, r + n = 10 → wt_V G X 54 [some (.ref T.1), some (.int (nI q)), none, none] [] (tw_Z G T (sp_cp0 (sp_night N) q) w) 0 0 → wt_V G X 30 [some (.ref T.1), some (.int (nI q)), some (.int (nI r)), none] [] (tw_Z G T (sp_fill (sp_waits (sp_night N) q 60) 62 r (fun r => sp_waits (sp_night N) q 60 60 r)) w) 0 0 := by
      intro n
      induction n with
      | zero =>
        intro r hr hend
        have e : r = 10 := by omega
        subst e
        refine wt_iload_2 (pc := 30) hc dX3_cheapest_30 ?_
        refine wt_bipush (pc := 31) (v := nI 10) hc dX3_cheapest_31 (by decide) ?_
        refine wt_nicmp_ge (pc := 33) 54 (10) (10) hc dX3_cheapest_33 (by decide) (by omega) (by omega) (fun c_33 => ?_) (fun c_33 => ?_)
        · exact wt_drop hend ⟨rfl, rfl, trivial⟩
        · omega
      | succ n ih =>
        intro r hr hend
        refine wt_iload_2 (pc := 30) hc dX3_cheapest_30 ?_
        refine wt_bipush (pc := 31) (v := nI 10) hc dX3_cheapest_31 (by decide) ?_
        refine wt_nicmp_ge (pc := 33) 54 (r) (10) hc dX3_cheapest_33 (by decide) (by omega) (by omega) (fun c_33 => ?_) (fun c_33 => ?_)
        · omega
        · refine wt_aload_0 (pc := 36) hc dX3_cheapest_36 ?_
          refine tw_geta (pc := 37) 62 hc hE dX3_cheapest_37 q1666 (by decide) (by decide) (fun _ _ _ => rfl) rfl ?_
          refine wt_iload_2 (pc := 40) hc dX3_cheapest_40 ?_
          refine wt_aload_0 (pc := 41) hc dX3_cheapest_41 ?_
          refine tw_geta (pc := 42) 60 hc hE dX3_cheapest_42 q1664 (by decide) (by decide) (fun _ _ _ => rfl) rfl ?_
          refine wt_iload_2 (pc := 45) hc dX3_cheapest_45 ?_
          refine tw_iald (pc := 46) (k := 60) (r) (sp_waits (sp_night N) q 60 60 r) hc hE dX3_cheapest_46 rfl (rfl) (by show _ < 10; omega) (by decide) (congrFun (sp_fill_row (by decide)) r) ?_
          refine tw_iast (pc := 47) (k := 62) (r) hc hE dX3_cheapest_47 rfl (rfl) (by show _ < 400; omega) (by decide) ?_
          refine tw_eq (sp_fill_up _ 62 r (fun r => sp_waits (sp_night N) q 60 60 r)) ?_
          refine wt_iinc_2 (pc := 48) (v := nI (r + 1)) hc dX3_cheapest_48 (nI_add r 1) rfl ?_
          refine wt_goto (pc := 51) 30 hc dX3_cheapest_51 (by decide) ?_
          exact ih (r + 1) (by omega) hend
    obtain ⟨a, ha, ea⟩ := (hC1.2.2.2.2.2.2.2 q hq).1
    refine wt_aload_0 (pc := 0) hc dX3_cheapest_0 ?_
    refine wt_iconst (pc := 1) (v := nI 0) hc dX3_cheapest_1 (by decide) ?_
    refine tw_put (pc := 2) 0 hc hE dX3_cheapest_2 q1604 (by decide) (fun _ _ _ => rfl) rfl rfl (rfl) rfl ?_
    refine tw_eq hN ?_
    refine wt_aload_0 (pc := 5) hc dX3_cheapest_5 ?_
    refine wt_iload_1 (pc := 6) hc dX3_cheapest_6 ?_
    refine wt_gofn (tw_inv (pc := 7) 1 hc hE (ct_isRider hE h0 _) dX3_cheapest_7 rfl q2076 q2078 qs96 q116 q2079 (by decide +kernel) rfl (by decide) (by decide) (Nat.le_of_ble_eq_true rfl) rfl) ?_
    rw [if_pos hp, sp_b_t hp]
    refine wt_if_ne (pc := 10) 15 hc dX3_cheapest_10 (by decide) (fun c_10 => ?_) (fun c_10 => ?_)
    · refine wt_aload_0 (pc := 15) hc dX3_cheapest_15 ?_
      refine wt_gov (tw_inv (pc := 16) 0 hc hE (ct_nights hE hcy hf) dX3_cheapest_16 rfl q1993 q1995 qs81 q116 q1996 (by decide +kernel) rfl (by decide) (by decide) (Nat.le_of_ble_eq_true rfl) rfl) (Nat.zero_le _) (Nat.zero_le _) ?_
      refine wt_aload_0 (pc := 19) hc dX3_cheapest_19 ?_
      refine wt_iload_1 (pc := 20) hc dX3_cheapest_20 ?_
      refine wt_aload_0 (pc := 21) hc dX3_cheapest_21 ?_
      refine tw_geta (pc := 22) 60 hc hE dX3_cheapest_22 q1664 (by decide) (by decide) (fun _ _ _ => rfl) rfl ?_
      refine wt_gov (tw_inv (pc := 25) 2 hc hE (ct_waitsAt hE q 60 a (by omega) rfl ea ha) dX3_cheapest_25 rfl q2024 q2026 qs88 q116 q2027 (by decide +kernel) rfl (by decide) (by decide) (Nat.le_of_ble_eq_true rfl) rfl) (Nat.zero_le _) (Nat.zero_le _) ?_
      refine wt_iconst (pc := 28) (v := nI 0) hc dX3_cheapest_28 (by decide) ?_
      refine wt_istore_2 (pc := 29) hc dX3_cheapest_29 rfl ?_
      rw [← sp_fill_0 (sp_waits (sp_night N) q 60) 62 (fun r => sp_waits (sp_night N) q 60 60 r)]
      refine loop1 10 0 (by omega) ?_
      refine wt_iconst (pc := 54) (v := nI 0) hc dX3_cheapest_54 (by decide) ?_
      refine wt_istore_2 (pc := 55) hc dX3_cheapest_55 rfl ?_
      exact outer 40 0 _ (by omega) (by omega) (hinit.cty hC1) (kdQ hinit.Q hk1) hinit rfl
    · exact absurd c_10 (by decide)
  · rw [if_neg hp] at hok
    refine wt_aload_0 (pc := 0) hc dX3_cheapest_0 ?_
    refine wt_iconst (pc := 1) (v := nI 0) hc dX3_cheapest_1 (by decide) ?_
    refine tw_put (pc := 2) 0 hc hE dX3_cheapest_2 q1604 (by decide) (fun _ _ _ => rfl) rfl rfl (rfl) rfl ?_
    refine tw_eq hN ?_
    refine wt_aload_0 (pc := 5) hc dX3_cheapest_5 ?_
    refine wt_iload_1 (pc := 6) hc dX3_cheapest_6 ?_
    refine wt_gofn (tw_inv (pc := 7) 1 hc hE (ct_isRider hE h0 _) dX3_cheapest_7 rfl q2076 q2078 qs96 q116 q2079 (by decide +kernel) rfl (by decide) (by decide) (Nat.le_of_ble_eq_true rfl) rfl) ?_
    rw [if_neg hp, sp_b_f hp]
    refine wt_if_ne (pc := 10) 15 hc dX3_cheapest_10 (by decide) (fun c_10 => ?_) (fun c_10 => ?_)
    · exact absurd rfl c_10
    · refine wt_iconst (pc := 13) (v := nI 0) hc dX3_cheapest_13 (by decide) ?_
      exact wt_iret (pc := 14) hc hok dX3_cheapest_14 (rfl) (fun H hZ => sp_ans_bad (by decide) hZ)
theorem ct_last (hE : tw_E G T) (hN : sp_t0 M = N) (hcy : sp_city N) (hf : sp_fok N) (p : Int32) : wt_Ct l G yX3_last cX3_last 7 (some .int) 5 0 0 [.ref T.1, .int p] (tw_Z G T M w) (sp_ans G T N w (if 0 ≤ p ∧ p < N 0 4 then 0 else 1) (sp_lav N (nn p))) := by
  obtain ⟨ro, ow, ri, hC⟩ := hcy.cty
  have h0 : N 0 0 = 0 := by rw [← hN]; rfl
  have hri := hC.2.2.1
  have how := hC.2.1
  refine wt_enter [some (.ref T.1), some (.int p), none, none, none, none, none] (by decide +kernel) rfl (Nat.le_of_ble_eq_true rfl) (fun X hc hok => ?_)
  by_cases hp : 0 ≤ p ∧ p < N 0 4
  · obtain ⟨q, hq, rfl⟩ := sp_ix hp hC.2.2.2.2.2.1 (by omega)
    rw [if_pos hp, nn_nI (by omega)] at hok
    have hC1 := hC.same (sp_night_same N)
    have hQ : sp_Q N (sp_rides (sp_night N) q) := (sp_Q.night N).tr (sp_Q.rides _ q)
    have hT : sp_rides (sp_night N) q 0 0 = 0 := (congrFun ((sp_S_rides _ _ rfl).trans (sp_S_night N rfl)) 0).trans h0
    have hC2 := hC.Q hQ
    have e11 : ∀ j, sp_rides (sp_night N) q 11 j = N 11 j := fun j => congrFun (hQ.row (by decide) rfl) j
    unfold sp_lav at hok
    refine wt_aload_0 (pc := 0) hc dX3_last_0 ?_
    refine wt_iconst (pc := 1) (v := nI 0) hc dX3_last_1 (by decide) ?_
    refine tw_put (pc := 2) 0 hc hE dX3_last_2 q1604 (by decide) (fun _ _ _ => rfl) rfl rfl (rfl) rfl ?_
    refine tw_eq hN ?_
    refine wt_aload_0 (pc := 5) hc dX3_last_5 ?_
    refine wt_iload_1 (pc := 6) hc dX3_last_6 ?_
    refine wt_gofn (tw_inv (pc := 7) 1 hc hE (ct_isRider hE h0 _) dX3_last_7 rfl q2076 q2078 qs96 q116 q2079 (by decide +kernel) rfl (by decide) (by decide) (Nat.le_of_ble_eq_true rfl) rfl) ?_
    rw [if_pos hp, sp_b_t hp]
    refine wt_if_ne (pc := 10) 15 hc dX3_last_10 (by decide) (fun c_10 => ?_) (fun c_10 => ?_)
    · refine wt_aload_0 (pc := 15) hc dX3_last_15 ?_
      refine wt_gov (tw_inv (pc := 16) 0 hc hE (ct_nights hE hcy hf) dX3_last_16 rfl q1993 q1995 qs81 q116 q1996 (by decide +kernel) rfl (by decide) (by decide) (Nat.le_of_ble_eq_true rfl) rfl) (Nat.zero_le _) (Nat.zero_le _) ?_
      refine wt_aload_0 (pc := 19) hc dX3_last_19 ?_
      refine wt_iload_1 (pc := 20) hc dX3_last_20 ?_
      refine wt_gofn (tw_inv (pc := 21) 1 hc hE (ct_soonest hE ro ow ri q hC1 hq) dX3_last_21 rfl q2016 q2018 qs86 q116 q2019 (by decide +kernel) rfl (by decide) (by decide) (Nat.le_of_ble_eq_true rfl) rfl) ?_
      refine wt_istore_2 (pc := 24) hc dX3_last_24 rfl ?_
      refine wt_iload_2 (pc := 25) hc dX3_last_25 ?_
      refine wt_ldcw (pc := 26) (v := nI 1000000) hc dX3_last_26 q1973 ?_
      refine wt_icmp_ge (pc := 29) 40 hc dX3_last_29 (by decide) (fun c_29 => ?_) (fun c_29 => ?_)
      · rw [if_pos c_29] at hok
        refine wt_iconst (pc := 40) (v := (-1 : Int32)) hc dX3_last_40 (by decide) ?_
        exact wt_iret (pc := 41) hc hok dX3_last_41 (rfl) (fun H hZ => sp_ans_ok hQ hT rfl hZ)
      · rw [if_neg c_29] at hok
        refine wt_aload_0 (pc := 32) hc dX3_last_32 ?_
        refine wt_iload_1 (pc := 33) hc dX3_last_33 ?_
        refine wt_gofn (tw_inv (pc := 34) 1 hc hE (ct_isThere hE q (by omega)) dX3_last_34 rfl q2139 q2141 qs100 q116 q2142 (by decide +kernel) rfl (by decide) (by decide) (Nat.le_of_ble_eq_true rfl) rfl) ?_
        refine wt_if_eq (pc := 37) 42 hc dX3_last_37 (by decide) (fun c_37 => ?_) (fun c_37 => ?_)
        · rw [if_neg (by rw [← e11, ← e11]; exact sp_b_0.mp c_37)] at hok
          have inner : ∀ (o wl n i : Nat) (on : Bool), o < ow → sp_way (sp_rides (sp_night N) q) o wl → i + n = wl → sp_nb (sp_rides (sp_night N) q) o = false → (sp_lI (sp_rides (sp_night N) q 60) (sp_rides (sp_night N) q 54) (sp_rides (sp_night N) q 55) (sp_rides (sp_night N) q 10) (N 11 (4 * q + 1)) (sp_soon (sp_night N) q) o n i on = true → nI o = sp_lO (sp_rides (sp_night N) q) (N 11 (4 * q + 1)) (sp_soon (sp_night N) q) (nn (N 0 3)) 0) → (sp_lI (sp_rides (sp_night N) q 60) (sp_rides (sp_night N) q 54) (sp_rides (sp_night N) q 55) (sp_rides (sp_night N) q 10) (N 11 (4 * q + 1)) (sp_soon (sp_night N) q) o n i on = false → wt_V G X 164 [some (.ref T.1), some (.int (nI q)), some (.int (sp_soon (sp_night N) q)), some (.int (nI o)), none, none, none] [] (tw_Z G T (sp_rides (sp_night N) q) w) 0 0) → wt_V G X 58 [some (.ref T.1), some (.int (nI q)), some (.int (sp_soon (sp_night N) q)), some (.int (nI o)), some (.int (sp_i on)), some (.int (nI i)), none] [] (tw_Z G T (sp_rides (sp_night N) q) w) 0 0 := by
            intro o wl n
            induction n with
            | zero =>
              intro i on ho hw hi hnb hyes hno
              have hwl := hw.1
              refine wt_iload_5 (pc := 58) hc dX3_last_58 ?_
              refine wt_aload_0 (pc := 60) hc dX3_last_60 ?_
              refine tw_geta (pc := 61) 9 hc hE dX3_last_61 q1613 (by decide) (by decide) (fun _ _ _ => rfl) rfl ?_
              refine wt_iload_3 (pc := 64) hc dX3_last_64 ?_
              refine tw_iald (pc := 65) (k := 9) (o) (nI wl) hc hE dX3_last_65 rfl (rfl) (by show _ < 5; omega) (by decide) (hw.2.1) ?_
              refine wt_nicmp_ge (pc := 66) 164 (i) (wl) hc dX3_last_66 (by decide) (by omega) (by omega) (fun c_66 => ?_) (fun c_66 => ?_)
              · exact wt_drop (hno rfl) ⟨rfl, rfl, rfl, rfl, trivial⟩
              · omega
            | succ n ih =>
              intro i on ho hw hi hnb hyes hno
              have hwl := hw.1
              obtain ⟨r, hr, er⟩ := hw.2.2 i (by omega)
              rw [sp_lI, er, nn_nI (by omega)] at hyes hno
              refine wt_iload_5 (pc := 58) hc dX3_last_58 ?_
              refine wt_aload_0 (pc := 60) hc dX3_last_60 ?_
              refine tw_geta (pc := 61) 9 hc hE dX3_last_61 q1613 (by decide) (by decide) (fun _ _ _ => rfl) rfl ?_
              refine wt_iload_3 (pc := 64) hc dX3_last_64 ?_
              refine tw_iald (pc := 65) (k := 9) (o) (nI wl) hc hE dX3_last_65 rfl (rfl) (by show _ < 5; omega) (by decide) (hw.2.1) ?_
              refine wt_nicmp_ge (pc := 66) 164 (i) (wl) hc dX3_last_66 (by decide) (by omega) (by omega) (fun c_66 => ?_) (fun c_66 => ?_)
              · omega
              · refine wt_aload_0 (pc := 69) hc dX3_last_69 ?_
                refine wt_iload_3 (pc := 70) hc dX3_last_70 ?_
                refine wt_gofn (tw_inv (pc := 71) 1 hc hE (ct_nests hE _) dX3_last_71 rfl q1997 q1999 qs82 q116 q2000 (by decide +kernel) rfl (by decide) (by decide) (Nat.le_of_ble_eq_true rfl) rfl) ?_
                refine wt_if_ne (pc := 74) 164 hc dX3_last_74 (by decide) (fun c_74 => ?_) (fun c_74 => ?_)
                · exact absurd (sp_b_n0 c_74) (of_decide_eq_false hnb)
                · cases on with
                  | false =>
                    rw [if_neg (fun z => by cases z.1), Bool.false_or] at hyes hno
                    refine wt_aload_0 (pc := 77) hc dX3_last_77 ?_
                    refine tw_geta (pc := 78) 10 hc hE dX3_last_78 q1614 (by decide) (by decide) (fun _ _ _ => rfl) rfl ?_
                    refine wt_bipush (pc := 81) (v := nI 8) hc dX3_last_81 (by decide) ?_
                    refine wt_iload_3 (pc := 83) hc dX3_last_83 ?_
                    refine wt_imul (pc := 84) hc dX3_last_84 ?_
                    rw [pk_mul 8 o]
                    refine wt_iload_5 (pc := 85) hc dX3_last_85 ?_
                    refine wt_iadd (pc := 87) hc dX3_last_87 ?_
                    rw [nI_add (8 * o) i]
                    refine tw_iald (pc := 88) (k := 10) (8 * o + i) (nI r) hc hE dX3_last_88 rfl (rfl) (by show _ < 40; omega) (by decide) (er) ?_
                    refine wt_istore_6 (pc := 89) hc dX3_last_89 rfl ?_
                    refine wt_iload_4 (pc := 91) hc dX3_last_91 ?_
                    refine wt_if_eq (pc := 93) 124 hc dX3_last_93 (by decide) (fun _ => ?_) (fun z => absurd z (by decide))
                    refine wt_iload_4 (pc := 124) hc dX3_last_124 ?_
                    refine wt_if_ne (pc := 126) 151 hc dX3_last_126 (by decide) (fun z => absurd z (by decide)) (fun _ => ?_)
                    refine wt_aload_0 (pc := 129) hc dX3_last_129 ?_
                    refine tw_geta (pc := 130) 60 hc hE dX3_last_130 q1664 (by decide) (by decide) (fun _ _ _ => rfl) rfl ?_
                    refine wt_iload_6 (pc := 133) hc dX3_last_133 ?_
                    refine tw_iald (pc := 135) (k := 60) (r) _ hc hE dX3_last_135 rfl (rfl) (by show _ < 10; omega) (by decide) (rfl) ?_
                    refine wt_aload_0 (pc := 136) hc dX3_last_136 ?_
                    refine tw_geta (pc := 137) 55 hc hE dX3_last_137 q1659 (by decide) (by decide) (fun _ _ _ => rfl) rfl ?_
                    refine wt_bipush (pc := 140) (v := nI 8) hc dX3_last_140 (by decide) ?_
                    refine wt_iload_3 (pc := 142) hc dX3_last_142 ?_
                    refine wt_imul (pc := 143) hc dX3_last_143 ?_
                    rw [pk_mul 8 o]
                    refine wt_iload_5 (pc := 144) hc dX3_last_144 ?_
                    refine wt_iadd (pc := 146) hc dX3_last_146 ?_
                    rw [nI_add (8 * o) i]
                    refine tw_iald (pc := 147) (k := 55) (8 * o + i) _ hc hE dX3_last_147 rfl (rfl) (by show _ < 40; omega) (by decide) (rfl) ?_
                    refine wt_icmp_gt (pc := 148) 155 hc dX3_last_148 (by decide) (fun c_148 => ?_) (fun c_148 => ?_)
                    · refine wt_iconst (pc := 155) (v := nI 0) hc dX3_last_155 (by decide) ?_
                      refine wt_istore_4 (pc := 156) hc dX3_last_156 rfl ?_
                      refine wt_iinc_5 (pc := 158) (v := nI (i + 1)) hc dX3_last_158 (nI_add i 1) rfl ?_
                      refine wt_goto (pc := 161) 58 hc dX3_last_161 (by decide) ?_
                      first | (rw [decide_eq_false (Int32.not_le.mpr c_148)] at hyes hno; exact wt_drop (ih (i + 1) false ho hw (by omega) hnb hyes hno) ⟨rfl, rfl, rfl, rfl, rfl, rfl, trivial⟩) | (rw [decide_eq_true (Int32.not_lt.mp c_148)] at hyes hno; exact wt_drop (ih (i + 1) true ho hw (by omega) hnb hyes hno) ⟨rfl, rfl, rfl, rfl, rfl, rfl, trivial⟩)
                    · refine wt_iconst (pc := 151) (v := nI 1) hc dX3_last_151 (by decide) ?_
                      refine wt_goto (pc := 152) 156 hc dX3_last_152 (by decide) ?_
                      refine wt_istore_4 (pc := 156) hc dX3_last_156 rfl ?_
                      refine wt_iinc_5 (pc := 158) (v := nI (i + 1)) hc dX3_last_158 (nI_add i 1) rfl ?_
                      refine wt_goto (pc := 161) 58 hc dX3_last_161 (by decide) ?_
                      first | (rw [decide_eq_false (Int32.not_le.mpr c_148)] at hyes hno; exact wt_drop (ih (i + 1) false ho hw (by omega) hnb hyes hno) ⟨rfl, rfl, rfl, rfl, rfl, rfl, trivial⟩) | (rw [decide_eq_true (Int32.not_lt.mp c_148)] at hyes hno; exact wt_drop (ih (i + 1) true ho hw (by omega) hnb hyes hno) ⟨rfl, rfl, rfl, rfl, rfl, rfl, trivial⟩)
                  | true =>
                    rw [Bool.true_or] at hyes hno
                    refine wt_aload_0 (pc := 77) hc dX3_last_77 ?_
                    refine tw_geta (pc := 78) 10 hc hE dX3_last_78 q1614 (by decide) (by decide) (fun _ _ _ => rfl) rfl ?_
                    refine wt_bipush (pc := 81) (v := nI 8) hc dX3_last_81 (by decide) ?_
                    refine wt_iload_3 (pc := 83) hc dX3_last_83 ?_
                    refine wt_imul (pc := 84) hc dX3_last_84 ?_
                    rw [pk_mul 8 o]
                    refine wt_iload_5 (pc := 85) hc dX3_last_85 ?_
                    refine wt_iadd (pc := 87) hc dX3_last_87 ?_
                    rw [nI_add (8 * o) i]
                    refine tw_iald (pc := 88) (k := 10) (8 * o + i) (nI r) hc hE dX3_last_88 rfl (rfl) (by show _ < 40; omega) (by decide) (er) ?_
                    refine wt_istore_6 (pc := 89) hc dX3_last_89 rfl ?_
                    refine wt_iload_4 (pc := 91) hc dX3_last_91 ?_
                    refine wt_if_eq (pc := 93) 124 hc dX3_last_93 (by decide) (fun z => absurd z (by decide)) (fun _ => ?_)
                    refine wt_iload_6 (pc := 96) hc dX3_last_96 ?_
                    refine wt_aload_0 (pc := 98) hc dX3_last_98 ?_
                    refine wt_iload_1 (pc := 99) hc dX3_last_99 ?_
                    refine wt_gofn (tw_inv (pc := 100) 1 hc hE (ct_homeOf hE q (by omega)) dX3_last_100 rfl q2032 q2034 qs90 q116 q2035 (by decide +kernel) rfl (by decide) (by decide) (Nat.le_of_ble_eq_true rfl) rfl) ?_
                    rw [e11]
                    refine wt_icmp_ne (pc := 103) 124 hc dX3_last_103 (by decide) (fun c_103 => ?_) (fun c_103 => ?_)
                    · rw [if_neg (fun z => c_103 z.2.1)] at hyes hno
                      refine wt_iload_4 (pc := 124) hc dX3_last_124 ?_
                      refine wt_if_ne (pc := 126) 151 hc dX3_last_126 (by decide) (fun _ => ?_) (fun z => absurd z (by decide))
                      refine wt_iconst (pc := 151) (v := nI 1) hc dX3_last_151 (by decide) ?_
                      refine wt_goto (pc := 152) 156 hc dX3_last_152 (by decide) ?_
                      refine wt_istore_4 (pc := 156) hc dX3_last_156 rfl ?_
                      refine wt_iinc_5 (pc := 158) (v := nI (i + 1)) hc dX3_last_158 (nI_add i 1) rfl ?_
                      refine wt_goto (pc := 161) 58 hc dX3_last_161 (by decide) ?_
                      exact wt_drop (ih (i + 1) true ho hw (by omega) hnb hyes hno) ⟨rfl, rfl, rfl, rfl, rfl, rfl, trivial⟩
                    · refine wt_aload_0 (pc := 106) hc dX3_last_106 ?_
                      refine tw_geta (pc := 107) 54 hc hE dX3_last_107 q1658 (by decide) (by decide) (fun _ _ _ => rfl) rfl ?_
                      refine wt_bipush (pc := 110) (v := nI 8) hc dX3_last_110 (by decide) ?_
                      refine wt_iload_3 (pc := 112) hc dX3_last_112 ?_
                      refine wt_imul (pc := 113) hc dX3_last_113 ?_
                      rw [pk_mul 8 o]
                      refine wt_iload_5 (pc := 114) hc dX3_last_114 ?_
                      refine wt_iadd (pc := 116) hc dX3_last_116 ?_
                      rw [nI_add (8 * o) i]
                      refine tw_iald (pc := 117) (k := 54) (8 * o + i) _ hc hE dX3_last_117 rfl (rfl) (by show _ < 40; omega) (by decide) (rfl) ?_
                      refine wt_iload_2 (pc := 118) hc dX3_last_118 ?_
                      refine wt_icmp_ne (pc := 119) 124 hc dX3_last_119 (by decide) (fun c_119 => ?_) (fun c_119 => ?_)
                      · rw [if_neg (fun z => c_119 z.2.2)] at hyes hno
                        refine wt_iload_4 (pc := 124) hc dX3_last_124 ?_
                        refine wt_if_ne (pc := 126) 151 hc dX3_last_126 (by decide) (fun _ => ?_) (fun z => absurd z (by decide))
                        refine wt_iconst (pc := 151) (v := nI 1) hc dX3_last_151 (by decide) ?_
                        refine wt_goto (pc := 152) 156 hc dX3_last_152 (by decide) ?_
                        refine wt_istore_4 (pc := 156) hc dX3_last_156 rfl ?_
                        refine wt_iinc_5 (pc := 158) (v := nI (i + 1)) hc dX3_last_158 (nI_add i 1) rfl ?_
                        refine wt_goto (pc := 161) 58 hc dX3_last_161 (by decide) ?_
                        exact wt_drop (ih (i + 1) true ho hw (by omega) hnb hyes hno) ⟨rfl, rfl, rfl, rfl, rfl, rfl, trivial⟩
                      · rw [if_pos ⟨rfl, c_103, c_119⟩] at hyes
                        refine wt_iload_3 (pc := 122) hc dX3_last_122 ?_
                        exact wt_iret (pc := 123) hc hok dX3_last_123 (rfl) (fun H hZ => sp_ans_ok hQ hT (hyes rfl) hZ)
          have outer : ∀ (n o : Nat), o + n = ow → sp_lO (sp_rides (sp_night N) q) (N 11 (4 * q + 1)) (sp_soon (sp_night N) q) (nn (N 0 3)) 0 = sp_lO (sp_rides (sp_night N) q) (N 11 (4 * q + 1)) (sp_soon (sp_night N) q) n o → wt_V G X 44 [some (.ref T.1), some (.int (nI q)), some (.int (sp_soon (sp_night N) q)), some (.int (nI o)), none, none, none] [] (tw_Z G T (sp_rides (sp_night N) q) w) 0 0 := by
            intro n
            induction n with
            | zero =>
              intro o ho hv
              have e : o = ow := by omega
              subst e
              refine wt_iload_3 (pc := 44) hc dX3_last_44 ?_
              refine wt_aload_0 (pc := 45) hc dX3_last_45 ?_
              refine tw_get (pc := 46) 3 (nI o) hc hE dX3_last_46 q1607 (by decide) (fun _ _ _ => rfl) rfl (hC2.2.2.2.2.1) ?_
              refine wt_nicmp_ge (pc := 49) 170 (o) (o) hc dX3_last_49 (by decide) (by omega) (by omega) (fun c_49 => ?_) (fun c_49 => ?_)
              · refine wt_iconst (pc := 170) (v := (-1 : Int32)) hc dX3_last_170 (by decide) ?_
                exact wt_iret (pc := 171) hc hok dX3_last_171 (rfl) (fun H hZ => sp_ans_ok hQ hT hv.symm hZ)
              · omega
            | succ n ih =>
              intro o ho hv
              obtain ⟨wl, hw⟩ := hC2.2.2.2.2.2.2.1 o (by omega)
              have hwl := hw.1
              rw [sp_lO, hw.2.1, nn_nI (by omega)] at hv
              refine wt_iload_3 (pc := 44) hc dX3_last_44 ?_
              refine wt_aload_0 (pc := 45) hc dX3_last_45 ?_
              refine tw_get (pc := 46) 3 (nI ow) hc hE dX3_last_46 q1607 (by decide) (fun _ _ _ => rfl) rfl (hC2.2.2.2.2.1) ?_
              refine wt_nicmp_ge (pc := 49) 170 (o) (ow) hc dX3_last_49 (by decide) (by omega) (by omega) (fun c_49 => ?_) (fun c_49 => ?_)
              · omega
              · refine wt_iconst (pc := 52) (v := nI 0) hc dX3_last_52 (by decide) ?_
                refine wt_istore_4 (pc := 53) hc dX3_last_53 rfl ?_
                refine wt_iconst (pc := 55) (v := nI 0) hc dX3_last_55 (by decide) ?_
                refine wt_istore_5 (pc := 56) hc dX3_last_56 rfl ?_
                cases hnb : sp_nb (sp_rides (sp_night N) q) o with
                | true =>
                  rw [if_neg (fun z => by rw [hnb] at z; cases z.1)] at hv
                  have nxt := ih (o + 1) (by omega) hv
                  refine wt_iload_5 (pc := 58) hc dX3_last_58 ?_
                  refine wt_aload_0 (pc := 60) hc dX3_last_60 ?_
                  refine tw_geta (pc := 61) 9 hc hE dX3_last_61 q1613 (by decide) (by decide) (fun _ _ _ => rfl) rfl ?_
                  refine wt_iload_3 (pc := 64) hc dX3_last_64 ?_
                  refine tw_iald (pc := 65) (k := 9) (o) (nI wl) hc hE dX3_last_65 rfl (rfl) (by show _ < 5; omega) (by decide) (hw.2.1) ?_
                  refine wt_nicmp_ge (pc := 66) 164 (0) (wl) hc dX3_last_66 (by decide) (by omega) (by omega) (fun c_66 => ?_) (fun c_66 => ?_)
                  · refine wt_iinc_3 (pc := 164) (v := nI (o + 1)) hc dX3_last_164 (nI_add o 1) rfl ?_
                    refine wt_goto (pc := 167) 44 hc dX3_last_167 (by decide) ?_
                    exact wt_drop nxt ⟨rfl, rfl, rfl, rfl, trivial⟩
                  · refine wt_aload_0 (pc := 69) hc dX3_last_69 ?_
                    refine wt_iload_3 (pc := 70) hc dX3_last_70 ?_
                    refine wt_gofn (tw_inv (pc := 71) 1 hc hE (ct_nests hE _) dX3_last_71 rfl q1997 q1999 qs82 q116 q2000 (by decide +kernel) rfl (by decide) (by decide) (Nat.le_of_ble_eq_true rfl) rfl) ?_
                    refine wt_if_ne (pc := 74) 164 hc dX3_last_74 (by decide) (fun c_74 => ?_) (fun c_74 => ?_)
                    · refine wt_iinc_3 (pc := 164) (v := nI (o + 1)) hc dX3_last_164 (nI_add o 1) rfl ?_
                      refine wt_goto (pc := 167) 44 hc dX3_last_167 (by decide) ?_
                      exact wt_drop nxt ⟨rfl, rfl, rfl, rfl, trivial⟩
                    · exact absurd (of_decide_eq_true hnb) (sp_b_0.mp c_74)
                | false =>
                  refine inner o wl wl 0 false (by omega) hw (by omega) hnb (fun h => ?_) (fun h => ?_)
                  · rw [hv, if_pos ⟨hnb, h⟩]
                  · rw [if_neg (fun z => by rw [h] at z; cases z.2)] at hv
                    refine wt_iinc_3 (pc := 164) (v := nI (o + 1)) hc dX3_last_164 (nI_add o 1) rfl ?_
                    refine wt_goto (pc := 167) 44 hc dX3_last_167 (by decide) ?_
                    exact wt_drop (ih (o + 1) (by omega) hv) ⟨rfl, rfl, rfl, rfl, trivial⟩
          refine wt_iconst (pc := 42) (v := nI 0) hc dX3_last_42 (by decide) ?_
          refine wt_istore_3 (pc := 43) hc dX3_last_43 rfl ?_
          exact outer ow 0 (by omega) (by rw [hC.2.2.2.2.1, nn_nI (by omega)])
        · rw [if_pos (by rw [← e11, ← e11]; exact sp_b_n0 c_37)] at hok
          refine wt_iconst (pc := 40) (v := (-1 : Int32)) hc dX3_last_40 (by decide) ?_
          exact wt_iret (pc := 41) hc hok dX3_last_41 (rfl) (fun H hZ => sp_ans_ok hQ hT rfl hZ)
    · exact absurd c_10 (by decide)
  · rw [if_neg hp] at hok
    refine wt_aload_0 (pc := 0) hc dX3_last_0 ?_
    refine wt_iconst (pc := 1) (v := nI 0) hc dX3_last_1 (by decide) ?_
    refine tw_put (pc := 2) 0 hc hE dX3_last_2 q1604 (by decide) (fun _ _ _ => rfl) rfl rfl (rfl) rfl ?_
    refine tw_eq hN ?_
    refine wt_aload_0 (pc := 5) hc dX3_last_5 ?_
    refine wt_iload_1 (pc := 6) hc dX3_last_6 ?_
    refine wt_gofn (tw_inv (pc := 7) 1 hc hE (ct_isRider hE h0 _) dX3_last_7 rfl q2076 q2078 qs96 q116 q2079 (by decide +kernel) rfl (by decide) (by decide) (Nat.le_of_ble_eq_true rfl) rfl) ?_
    rw [if_neg hp, sp_b_f hp]
    refine wt_if_ne (pc := 10) 15 hc dX3_last_10 (by decide) (fun c_10 => ?_) (fun c_10 => ?_)
    · exact absurd rfl c_10
    · refine wt_iconst (pc := 13) (v := nI 0) hc dX3_last_13 (by decide) ?_
      exact wt_iret (pc := 14) hc hok dX3_last_14 (rfl) (fun H hZ => sp_ans_bad (by decide) hZ)
end TK
