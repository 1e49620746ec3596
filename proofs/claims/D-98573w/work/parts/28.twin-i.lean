/-! THE REFERENCE: acts -/
set_option maxRecDepth 100000
def sp_sh (M : wt_It) (n : Nat) : wt_It := fun k j => if k = 49 ∧ j < n then M 49 (j + 2) else M k j
theorem sp_sh_up (M : wt_It) (n : Nat) : wt_up2 (sp_sh M n) 49 n (M 49 (n + 2)) = sp_sh M (n + 1) := by
  funext k j
  simp only [wt_up2, sp_sh]
  by_cases hk : k = 49
  · by_cases hj : j = n
    · subst hk; subst hj; simp
    · by_cases hl : j < n
      · simp [hk, hj, hl, Nat.lt_succ_of_lt hl]
      · have : ¬ j < n + 1 := by omega
        simp [hk, hj, hl, this]
  · simp [hk]
theorem sp_sh_0 (M : wt_It) : sp_sh M 0 = M := by
  funext k j
  simp [sp_sh]
theorem sp_sh_at (M : wt_It) (n : Nat) : sp_sh M n 49 (n + 2) = M 49 (n + 2) := if_neg (fun z => absurd z.2 (by omega))
def sp_bec1 (M : wt_It) : wt_It := if M 0 50 = nI 40 then wt_up2 (sp_sh M 78) 0 50 (nI 39) else M
def sp_bec0 (M : wt_It) (a q : Nat) (v : Int32) : wt_It := wt_up2 (wt_up2 (wt_up2 (wt_up2 M 49 (2 * a) (nI q)) 49 (2 * a + 1) (M 47 q)) 0 50 (nI (a + 1))) 47 q v
/-- the place q becomes v, and it is kept what it was -/
def sp_bec (M : wt_It) (q : Nat) (v : Int32) : wt_It := sp_bec0 (sp_bec1 M) (nn (sp_bec1 M 0 50)) q v
def sp_ref (M : wt_It) (k : Nat) : wt_It := wt_up2 M 18 k (M 18 k + 1)
section TI
variable {l : Launch} {G : wt_G} {Z : Heap → Prop} {T : tw_T} {M N : wt_It} {w : Int64}
theorem ct_becomes (hE : tw_E G T) (a q : Nat) (v : Int32) (ha : a ≤ 40) (ea : M 0 50 = nI a) (hq : q < 19) : wt_Ct l G yX3_becomes cX3_becomes 4 (some .int) 1 0 0 [.ref T.1, .int (nI q), .int v] (tw_Z G T M w) (wt_fn (M 47 q) (tw_Z G T (sp_bec M q v) w)) := by
  refine wt_enter [some (.ref T.1), some (.int (nI q)), some (.int v), none] (by decide +kernel) rfl (Nat.le_of_ble_eq_true rfl) (fun X hc hok => ?_)
  have fin : ∀ (M' : wt_It) (a' : Nat), a' < 40 → M' 0 50 = nI a' → M' 47 q = M 47 q → sp_bec0 M' a' q v = sp_bec M q v → wt_V G X 47 [some (.ref T.1), some (.int (nI q)), some (.int v), none] [] (tw_Z G T M' w) 0 0 := by
    intro M' a' ha' ea' e47 e
    refine wt_aload_0 (pc := 47) hc dX3_becomes_47 ?_
    refine tw_geta (pc := 48) 47 hc hE dX3_becomes_48 q1651 (by decide) (by decide) (fun _ _ _ => rfl) rfl ?_
    refine wt_iload_1 (pc := 51) hc dX3_becomes_51 ?_
    refine tw_iald (pc := 52) (k := 47) (q) _ hc hE dX3_becomes_52 rfl (rfl) (by show _ < 19; omega) (by decide) (rfl) ?_
    refine wt_istore_3 (pc := 53) hc dX3_becomes_53 rfl ?_
    refine wt_aload_0 (pc := 54) hc dX3_becomes_54 ?_
    refine tw_geta (pc := 55) 49 hc hE dX3_becomes_55 q1653 (by decide) (by decide) (fun _ _ _ => rfl) rfl ?_
    refine wt_iconst (pc := 58) (v := nI 2) hc dX3_becomes_58 (by decide) ?_
    refine wt_aload_0 (pc := 59) hc dX3_becomes_59 ?_
    refine tw_get (pc := 60) 50 (nI a') hc hE dX3_becomes_60 q1654 (by decide) (fun _ _ _ => rfl) rfl (ea') ?_
    refine wt_imul (pc := 63) hc dX3_becomes_63 ?_
    rw [pk_mul 2 a']
    refine wt_iload_1 (pc := 64) hc dX3_becomes_64 ?_
    refine tw_iast (pc := 65) (k := 49) (2 * a') hc hE dX3_becomes_65 rfl (rfl) (by show _ < 80; omega) (by decide) ?_
    refine wt_aload_0 (pc := 66) hc dX3_becomes_66 ?_
    refine tw_geta (pc := 67) 49 hc hE dX3_becomes_67 q1653 (by decide) (by decide) (fun _ _ _ => rfl) rfl ?_
    refine wt_iconst (pc := 70) (v := nI 2) hc dX3_becomes_70 (by decide) ?_
    refine wt_aload_0 (pc := 71) hc dX3_becomes_71 ?_
    refine tw_get (pc := 72) 50 (nI a') hc hE dX3_becomes_72 q1654 (by decide) (fun _ _ _ => rfl) rfl (ea') ?_
    refine wt_imul (pc := 75) hc dX3_becomes_75 ?_
    rw [pk_mul 2 a']
    refine wt_iconst (pc := 76) (v := nI 1) hc dX3_becomes_76 (by decide) ?_
    refine wt_iadd (pc := 77) hc dX3_becomes_77 ?_
    rw [nI_add (2 * a') 1]
    refine wt_iload_3 (pc := 78) hc dX3_becomes_78 ?_
    refine tw_iast (pc := 79) (k := 49) (2 * a' + 1) hc hE dX3_becomes_79 rfl (rfl) (by show _ < 80; omega) (by decide) ?_
    refine wt_aload_0 (pc := 80) hc dX3_becomes_80 ?_
    refine wt_dup (pc := 81) hc dX3_becomes_81 rfl ?_
    refine tw_get (pc := 82) 50 (nI a') hc hE dX3_becomes_82 q1654 (by decide) (fun _ _ _ => rfl) rfl (ea') ?_
    refine wt_iconst (pc := 85) (v := nI 1) hc dX3_becomes_85 (by decide) ?_
    refine wt_iadd (pc := 86) hc dX3_becomes_86 ?_
    rw [nI_add a' 1]
    refine tw_put (pc := 87) 50 hc hE dX3_becomes_87 q1654 (by decide) (fun _ _ _ => rfl) rfl rfl (rfl) rfl ?_
    refine wt_aload_0 (pc := 90) hc dX3_becomes_90 ?_
    refine tw_geta (pc := 91) 47 hc hE dX3_becomes_91 q1651 (by decide) (by decide) (fun _ _ _ => rfl) rfl ?_
    refine wt_iload_1 (pc := 94) hc dX3_becomes_94 ?_
    refine wt_iload_2 (pc := 95) hc dX3_becomes_95 ?_
    refine tw_iast (pc := 96) (k := 47) (q) hc hE dX3_becomes_96 rfl (rfl) (by show _ < 19; omega) (by decide) ?_
    refine wt_iload_3 (pc := 97) hc dX3_becomes_97 ?_
    exact wt_iret (pc := 98) hc hok dX3_becomes_98 (rfl) (fun H hZ => ⟨by rw [e47], by rw [← e]; exact hZ⟩)
  have loop : ∀ n i : Nat, i ≤ 78 → 78 - i < n → a = 40 → wt_V G X 11 [some (.ref T.1), some (.int (nI q)), some (.int v), some (.int (nI (i + 2)))] [] (tw_Z G T (sp_sh M i) w) 0 0 := by
    intro n
    induction n with
    | zero => intro i _ h; omega
    | succ n ih =>
      intro i hi hn e40
      subst e40
      refine wt_iload_3 (pc := 11) hc dX3_becomes_11 ?_
      refine wt_bipush (pc := 12) (v := nI 80) hc dX3_becomes_12 (by decide) ?_
      refine wt_nicmp_ge (pc := 14) 37 (i + 2) (80) hc dX3_becomes_14 (by decide) (by omega) (by omega) (fun c_14 => ?_) (fun c_14 => ?_)
      · have e : i = 78 := by omega
        subst e
        refine wt_aload_0 (pc := 37) hc dX3_becomes_37 ?_
        refine wt_dup (pc := 38) hc dX3_becomes_38 rfl ?_
        refine tw_get (pc := 39) 50 (nI 40) hc hE dX3_becomes_39 q1654 (by decide) (fun _ _ _ => rfl) rfl (ea) ?_
        refine wt_iconst (pc := 42) (v := nI 1) hc dX3_becomes_42 (by decide) ?_
        refine wt_isub (pc := 43) hc dX3_becomes_43 ?_
        rw [show nI 40 - nI 1 = nI 39 from rfl]
        refine tw_put (pc := 44) 50 hc hE dX3_becomes_44 q1654 (by decide) (fun _ _ _ => rfl) rfl rfl (rfl) rfl ?_
        refine wt_drop (fin _ 39 (by omega) rfl rfl ?_) ⟨rfl, rfl, rfl, trivial⟩
        rw [sp_bec, sp_bec1, if_pos ea]
        rfl
      · refine wt_aload_0 (pc := 17) hc dX3_becomes_17 ?_
        refine tw_geta (pc := 18) 49 hc hE dX3_becomes_18 q1653 (by decide) (by decide) (fun _ _ _ => rfl) rfl ?_
        refine wt_iload_3 (pc := 21) hc dX3_becomes_21 ?_
        refine wt_iconst (pc := 22) (v := nI 2) hc dX3_becomes_22 (by decide) ?_
        refine wt_isub (pc := 23) hc dX3_becomes_23 ?_
        rw [show nI (i + 2) - nI 2 = nI i from pk_sub (a := i + 2) (b := 2) (by omega)]
        refine wt_aload_0 (pc := 24) hc dX3_becomes_24 ?_
        refine tw_geta (pc := 25) 49 hc hE dX3_becomes_25 q1653 (by decide) (by decide) (fun _ _ _ => rfl) rfl ?_
        refine wt_iload_3 (pc := 28) hc dX3_becomes_28 ?_
        refine tw_iald (pc := 29) (k := 49) (i + 2) (M 49 (i + 2)) hc hE dX3_becomes_29 rfl (rfl) (by show _ < 80; omega) (by decide) (sp_sh_at M i) ?_
        refine tw_iast (pc := 30) (k := 49) (i) hc hE dX3_becomes_30 rfl (rfl) (by show _ < 80; omega) (by decide) ?_
        refine tw_eq (sp_sh_up M i) ?_
        refine wt_iinc_3 (pc := 31) (v := nI (i + 2 + 1)) hc dX3_becomes_31 (nI_add (i + 2) 1) rfl ?_
        refine wt_goto (pc := 34) 11 hc dX3_becomes_34 (by decide) ?_
        exact ih (i + 1) (by omega) (by omega) rfl
  refine wt_aload_0 (pc := 0) hc dX3_becomes_0 ?_
  refine tw_get (pc := 1) 50 (nI a) hc hE dX3_becomes_1 q1654 (by decide) (fun _ _ _ => rfl) rfl (ea) ?_
  refine wt_bipush (pc := 4) (v := nI 40) hc dX3_becomes_4 (by decide) ?_
  refine wt_nicmp_ne (pc := 6) 47 (a) (40) hc dX3_becomes_6 (by decide) (by omega) (by omega) (fun c_6 => ?_) (fun c_6 => ?_)
  · refine wt_drop (fin M a (by omega) ea rfl ?_) ⟨rfl, rfl, rfl, trivial⟩
    rw [sp_bec, sp_bec1, if_neg (by rw [ea]; exact fun z => c_6 ((nI_eq (by omega) (by omega)).mp z)), ea, nn_nI (by omega)]
  · refine wt_iconst (pc := 9) (v := nI 2) hc dX3_becomes_9 (by decide) ?_
    refine wt_istore_3 (pc := 10) hc dX3_becomes_10 rfl ?_
    rw [← sp_sh_0 M]
    exact loop 79 0 (by omega) (by omega) c_6
theorem ct_obey (hE : tw_E G T) (hN : sp_t0 M = N) (a : Nat) (ha : a ≤ 40) (ea : N 0 50 = nI a) (r : Int32) : wt_Ct l G yX3_obey cX3_obey 2 (some .boolean) 2 0 0 [.ref T.1, .int r] (tw_Z G T M w) (wt_fn (if r < -1 then 0 else if r < N 0 5 then 1 else 0) (tw_Z G T (if r < -1 then sp_ref N 1 else if r < N 0 5 then sp_bec N 0 r else sp_ref N 1) w)) := by
  refine wt_enter [some (.ref T.1), some (.int r)] (by decide +kernel) rfl (Nat.le_of_ble_eq_true rfl) (fun X hc hok => ?_)
  refine wt_aload_0 (pc := 0) hc dX3_obey_0 ?_
  refine wt_iconst (pc := 1) (v := nI 0) hc dX3_obey_1 (by decide) ?_
  refine tw_put (pc := 2) 0 hc hE dX3_obey_2 q1604 (by decide) (fun _ _ _ => rfl) rfl rfl (rfl) rfl ?_
  refine tw_eq hN ?_
  refine wt_iload_1 (pc := 5) hc dX3_obey_5 ?_
  refine wt_iconst (pc := 6) (v := (-1 : Int32)) hc dX3_obey_6 (by decide) ?_
  refine wt_icmp_lt (pc := 7) 18 hc dX3_obey_7 (by decide) (fun c_7 => ?_) (fun c_7 => ?_)
  · refine wt_aload_0 (pc := 18) hc dX3_obey_18 ?_
    refine wt_iconst (pc := 19) (v := nI 1) hc dX3_obey_19 (by decide) ?_
    refine wt_gofn (tw_inv (pc := 20) 1 hc hE (ct_refuses hE 1 (by omega)) dX3_obey_20 rfl q2088 q2090 qs97 q116 q2091 (by decide +kernel) rfl (by decide) (by decide) (Nat.le_of_ble_eq_true rfl) rfl) ?_
    refine wt_if_le (pc := 23) 30 hc dX3_obey_23 (by decide) (fun c_23 => ?_) (fun c_23 => ?_)
    · refine wt_iconst (pc := 30) (v := nI 0) hc dX3_obey_30 (by decide) ?_
      exact wt_iret (pc := 31) hc hok dX3_obey_31 (rfl) (fun H hZ => by first | (rw [if_pos c_7, if_pos c_7]; exact ⟨rfl, hZ⟩) | (rw [if_neg c_7, if_neg c_7, if_neg c_15, if_neg c_15]; exact ⟨rfl, hZ⟩))
    · exact absurd (by decide) c_23
  · refine wt_iload_1 (pc := 10) hc dX3_obey_10 ?_
    refine wt_aload_0 (pc := 11) hc dX3_obey_11 ?_
    refine tw_get (pc := 12) 5 _ hc hE dX3_obey_12 q1609 (by decide) (fun _ _ _ => rfl) rfl (rfl) ?_
    refine wt_icmp_lt (pc := 15) 32 hc dX3_obey_15 (by decide) (fun c_15 => ?_) (fun c_15 => ?_)
    · refine wt_aload_0 (pc := 32) hc dX3_obey_32 ?_
      refine wt_iconst (pc := 33) (v := nI 0) hc dX3_obey_33 (by decide) ?_
      refine wt_iload_1 (pc := 34) hc dX3_obey_34 ?_
      refine wt_gofn (tw_inv (pc := 35) 2 hc hE (ct_becomes hE a 0 _ ha ea (by decide)) dX3_obey_35 rfl q2092 q2094 qs98 q116 q2095 (by decide +kernel) rfl (by decide) (by decide) (Nat.le_of_ble_eq_true rfl) rfl) ?_
      refine wt_pop (pc := 38) hc dX3_obey_38 rfl ?_
      refine wt_iconst (pc := 39) (v := nI 1) hc dX3_obey_39 (by decide) ?_
      exact wt_iret (pc := 40) hc hok dX3_obey_40 (rfl) (fun H hZ => by rw [if_neg c_7, if_neg c_7, if_pos c_15, if_pos c_15]; exact ⟨rfl, hZ⟩)
    · refine wt_aload_0 (pc := 18) hc dX3_obey_18 ?_
      refine wt_iconst (pc := 19) (v := nI 1) hc dX3_obey_19 (by decide) ?_
      refine wt_gofn (tw_inv (pc := 20) 1 hc hE (ct_refuses hE 1 (by omega)) dX3_obey_20 rfl q2088 q2090 qs97 q116 q2091 (by decide +kernel) rfl (by decide) (by decide) (Nat.le_of_ble_eq_true rfl) rfl) ?_
      refine wt_if_le (pc := 23) 30 hc dX3_obey_23 (by decide) (fun c_23 => ?_) (fun c_23 => ?_)
      · refine wt_iconst (pc := 30) (v := nI 0) hc dX3_obey_30 (by decide) ?_
        exact wt_iret (pc := 31) hc hok dX3_obey_31 (rfl) (fun H hZ => by first | (rw [if_pos c_7, if_pos c_7]; exact ⟨rfl, hZ⟩) | (rw [if_neg c_7, if_neg c_7, if_neg c_15, if_neg c_15]; exact ⟨rfl, hZ⟩))
      · exact absurd (by decide) c_23
theorem ct_moon (hE : tw_E G T) (hN : sp_t0 M = N) (a : Nat) (ha : a ≤ 40) (ea : N 0 50 = nI a) (v : Int32) : wt_Ct l G yX3_moon cX3_moon 2 (some .int) 2 0 0 [.ref T.1, .int v] (tw_Z G T M w) (wt_fn (if nI 0 ≤ v ∧ v ≤ nI 7 then N 47 1 else -1) (tw_Z G T (if nI 0 ≤ v ∧ v ≤ nI 7 then sp_bec N 1 v else sp_ref N 1) w)) := by
  refine wt_enter [some (.ref T.1), some (.int v)] (by decide +kernel) rfl (Nat.le_of_ble_eq_true rfl) (fun X hc hok => ?_)
  refine wt_aload_0 (pc := 0) hc dX3_moon_0 ?_
  refine wt_iconst (pc := 1) (v := nI 0) hc dX3_moon_1 (by decide) ?_
  refine tw_put (pc := 2) 0 hc hE dX3_moon_2 q1604 (by decide) (fun _ _ _ => rfl) rfl rfl (rfl) rfl ?_
  refine tw_eq hN ?_
  refine wt_iload_1 (pc := 5) hc dX3_moon_5 ?_
  refine wt_iconst (pc := 6) (v := nI 0) hc dX3_moon_6 (by decide) ?_
  refine wt_bipush (pc := 7) (v := nI 7) hc dX3_moon_7 (by decide) ?_
  refine wt_gofn (wt_invS (pc := 9) 3 hc (ct_within _ _ _) dX3_moon_9 rfl q1986 q1987 q116 q1988 (by decide +kernel) rfl (by decide) (by decide) (Nat.le_of_ble_eq_true rfl) rfl) ?_
  refine wt_if_eq (pc := 12) 24 hc dX3_moon_12 (by decide) (fun c_12 => ?_) (fun c_12 => ?_)
  · refine wt_aload_0 (pc := 24) hc dX3_moon_24 ?_
    refine wt_iconst (pc := 25) (v := nI 1) hc dX3_moon_25 (by decide) ?_
    refine wt_gofn (tw_inv (pc := 26) 1 hc hE (ct_refuses hE 1 (by omega)) dX3_moon_26 rfl q2088 q2090 qs97 q116 q2091 (by decide +kernel) rfl (by decide) (by decide) (Nat.le_of_ble_eq_true rfl) rfl) ?_
    exact wt_iret (pc := 29) hc hok dX3_moon_29 (rfl) (fun H hZ => by first | (rw [if_pos (sp_b_n0 c_12), if_pos (sp_b_n0 c_12)]; exact ⟨rfl, hZ⟩) | (rw [if_neg (sp_b_0.mp c_12), if_neg (sp_b_0.mp c_12)]; exact ⟨rfl, hZ⟩))
  · refine wt_aload_0 (pc := 15) hc dX3_moon_15 ?_
    refine wt_iconst (pc := 16) (v := nI 1) hc dX3_moon_16 (by decide) ?_
    refine wt_iload_1 (pc := 17) hc dX3_moon_17 ?_
    refine wt_gofn (tw_inv (pc := 18) 2 hc hE (ct_becomes hE a 1 _ ha ea (by decide)) dX3_moon_18 rfl q2092 q2094 qs98 q116 q2095 (by decide +kernel) rfl (by decide) (by decide) (Nat.le_of_ble_eq_true rfl) rfl) ?_
    refine wt_goto (pc := 21) 29 hc dX3_moon_21 (by decide) ?_
    exact wt_iret (pc := 29) hc hok dX3_moon_29 (rfl) (fun H hZ => by first | (rw [if_pos (sp_b_n0 c_12), if_pos (sp_b_n0 c_12)]; exact ⟨rfl, hZ⟩) | (rw [if_neg (sp_b_0.mp c_12), if_neg (sp_b_0.mp c_12)]; exact ⟨rfl, hZ⟩))
theorem ct_wet (hE : tw_E G T) (hN : sp_t0 M = N) (a : Nat) (ha : a ≤ 40) (ea : N 0 50 = nI a) (b : Int32) : wt_Ct l G yX3_wet cX3_wet 2 (some .boolean) 2 0 0 [.ref T.1, .int b] (tw_Z G T M w) (wt_fn (sp_b (N 47 2 = 1)) (tw_Z G T (sp_bec N 2 (if b = 0 then nI 0 else nI 1)) w)) := by
  refine wt_enter [some (.ref T.1), some (.int b)] (by decide +kernel) rfl (Nat.le_of_ble_eq_true rfl) (fun X hc hok => ?_)
  refine wt_aload_0 (pc := 0) hc dX3_wet_0 ?_
  refine wt_iconst (pc := 1) (v := nI 0) hc dX3_wet_1 (by decide) ?_
  refine tw_put (pc := 2) 0 hc hE dX3_wet_2 q1604 (by decide) (fun _ _ _ => rfl) rfl rfl (rfl) rfl ?_
  refine tw_eq hN ?_
  refine wt_aload_0 (pc := 5) hc dX3_wet_5 ?_
  refine wt_iconst (pc := 6) (v := nI 2) hc dX3_wet_6 (by decide) ?_
  refine wt_iload_1 (pc := 7) hc dX3_wet_7 ?_
  refine wt_if_eq (pc := 8) 15 hc dX3_wet_8 (by decide) (fun c_8 => ?_) (fun c_8 => ?_)
  · refine wt_iconst (pc := 15) (v := nI 0) hc dX3_wet_15 (by decide) ?_
    refine wt_gofn (tw_inv (pc := 16) 2 hc hE (ct_becomes hE a 2 _ ha ea (by decide)) dX3_wet_16 rfl q2092 q2094 qs98 q116 q2095 (by decide +kernel) rfl (by decide) (by decide) (Nat.le_of_ble_eq_true rfl) rfl) ?_
    refine wt_iconst (pc := 19) (v := nI 1) hc dX3_wet_19 (by decide) ?_
    refine wt_icmp_ne (pc := 20) 27 hc dX3_wet_20 (by decide) (fun c_20 => ?_) (fun c_20 => ?_)
    · refine wt_iconst (pc := 27) (v := nI 0) hc dX3_wet_27 (by decide) ?_
      exact wt_iret (pc := 28) hc hok dX3_wet_28 (rfl) (fun H hZ => by (first | rw [if_pos c_8] | rw [if_neg c_8]); (first | exact sp_fnT c_20 hZ | exact sp_fnF c_20 hZ))
    · refine wt_iconst (pc := 23) (v := nI 1) hc dX3_wet_23 (by decide) ?_
      refine wt_goto (pc := 24) 28 hc dX3_wet_24 (by decide) ?_
      exact wt_iret (pc := 28) hc hok dX3_wet_28 (rfl) (fun H hZ => by (first | rw [if_pos c_8] | rw [if_neg c_8]); (first | exact sp_fnT c_20 hZ | exact sp_fnF c_20 hZ))
  · refine wt_iconst (pc := 11) (v := nI 1) hc dX3_wet_11 (by decide) ?_
    refine wt_goto (pc := 12) 16 hc dX3_wet_12 (by decide) ?_
    refine wt_gofn (tw_inv (pc := 16) 2 hc hE (ct_becomes hE a 2 _ ha ea (by decide)) dX3_wet_16 rfl q2092 q2094 qs98 q116 q2095 (by decide +kernel) rfl (by decide) (by decide) (Nat.le_of_ble_eq_true rfl) rfl) ?_
    refine wt_iconst (pc := 19) (v := nI 1) hc dX3_wet_19 (by decide) ?_
    refine wt_icmp_ne (pc := 20) 27 hc dX3_wet_20 (by decide) (fun c_20 => ?_) (fun c_20 => ?_)
    · refine wt_iconst (pc := 27) (v := nI 0) hc dX3_wet_27 (by decide) ?_
      exact wt_iret (pc := 28) hc hok dX3_wet_28 (rfl) (fun H hZ => by (first | rw [if_pos c_8] | rw [if_neg c_8]); (first | exact sp_fnT c_20 hZ | exact sp_fnF c_20 hZ))
    · refine wt_iconst (pc := 23) (v := nI 1) hc dX3_wet_23 (by decide) ?_
      refine wt_goto (pc := 24) 28 hc dX3_wet_24 (by decide) ?_
      exact wt_iret (pc := 28) hc hok dX3_wet_28 (rfl) (fun H hZ => by (first | rw [if_pos c_8] | rw [if_neg c_8]); (first | exact sp_fnT c_20 hZ | exact sp_fnF c_20 hZ))
theorem ct_nest (hE : tw_E G T) (hN : sp_t0 M = N) (a : Nat) (ha : a ≤ 40) (ea : N 0 50 = nI a) (o b : Int32) : wt_Ct l G yX3_nest cX3_nest 3 (some .boolean) 3 0 0 [.ref T.1, .int o, .int b] (tw_Z G T M w) (wt_fn (if 0 ≤ o ∧ o < N 0 3 then (if sp_b (N 47 3 >>> (o &&& 31) &&& 1 = 1) = b then 0 else 1) else 0) (tw_Z G T (if 0 ≤ o ∧ o < N 0 3 then (if sp_b (N 47 3 >>> (o &&& 31) &&& 1 = 1) = b then sp_ref N 1 else sp_bec N 3 (N 47 3 ^^^ nI 1 <<< (o &&& 31))) else wt_up2 N 0 0 1) w)) := by
  have h0 : N 0 0 = 0 := by rw [← hN]; rfl
  refine wt_enter [some (.ref T.1), some (.int o), some (.int b)] (by decide +kernel) rfl (Nat.le_of_ble_eq_true rfl) (fun X hc hok => ?_)
  by_cases hp : 0 ≤ o ∧ o < N 0 3
  · rw [if_pos hp, if_pos hp] at hok
    refine wt_aload_0 (pc := 0) hc dX3_nest_0 ?_
    refine wt_iconst (pc := 1) (v := nI 0) hc dX3_nest_1 (by decide) ?_
    refine tw_put (pc := 2) 0 hc hE dX3_nest_2 q1604 (by decide) (fun _ _ _ => rfl) rfl rfl (rfl) rfl ?_
    refine tw_eq hN ?_
    refine wt_aload_0 (pc := 5) hc dX3_nest_5 ?_
    refine wt_iload_1 (pc := 6) hc dX3_nest_6 ?_
    refine wt_gofn (tw_inv (pc := 7) 1 hc hE (ct_isOwl hE h0 _) dX3_nest_7 rfl q2056 q2058 qs93 q116 q2059 (by decide +kernel) rfl (by decide) (by decide) (Nat.le_of_ble_eq_true rfl) rfl) ?_
    rw [if_pos hp, sp_b_t hp]
    refine wt_if_ne (pc := 10) 15 hc dX3_nest_10 (by decide) (fun c_10 => ?_) (fun c_10 => ?_)
    · refine wt_aload_0 (pc := 15) hc dX3_nest_15 ?_
      refine wt_iload_1 (pc := 16) hc dX3_nest_16 ?_
      refine wt_gofn (tw_inv (pc := 17) 1 hc hE (ct_nests hE _) dX3_nest_17 rfl q1997 q1999 qs82 q116 q2000 (by decide +kernel) rfl (by decide) (by decide) (Nat.le_of_ble_eq_true rfl) rfl) ?_
      refine wt_iload_2 (pc := 20) hc dX3_nest_20 ?_
      refine wt_icmp_ne (pc := 21) 38 hc dX3_nest_21 (by decide) (fun c_21 => ?_) (fun c_21 => ?_)
      · refine wt_aload_0 (pc := 38) hc dX3_nest_38 ?_
        refine wt_iconst (pc := 39) (v := nI 3) hc dX3_nest_39 (by decide) ?_
        refine wt_aload_0 (pc := 40) hc dX3_nest_40 ?_
        refine tw_geta (pc := 41) 47 hc hE dX3_nest_41 q1651 (by decide) (by decide) (fun _ _ _ => rfl) rfl ?_
        refine wt_iconst (pc := 44) (v := nI 3) hc dX3_nest_44 (by decide) ?_
        refine tw_iald (pc := 45) (k := 47) (3) _ hc hE dX3_nest_45 rfl (rfl) (by show _ < 19; omega) (by decide) (rfl) ?_
        refine wt_iconst (pc := 46) (v := nI 1) hc dX3_nest_46 (by decide) ?_
        refine wt_iload_1 (pc := 47) hc dX3_nest_47 ?_
        refine wt_ishl (pc := 48) hc dX3_nest_48 ?_
        refine wt_ixor (pc := 49) hc dX3_nest_49 ?_
        refine wt_gofn (tw_inv (pc := 50) 2 hc hE (ct_becomes hE a 3 _ ha ea (by decide)) dX3_nest_50 rfl q2092 q2094 qs98 q116 q2095 (by decide +kernel) rfl (by decide) (by decide) (Nat.le_of_ble_eq_true rfl) rfl) ?_
        refine wt_pop (pc := 53) hc dX3_nest_53 rfl ?_
        refine wt_iconst (pc := 54) (v := nI 1) hc dX3_nest_54 (by decide) ?_
        exact wt_iret (pc := 55) hc hok dX3_nest_55 (rfl) (fun H hZ => by rw [if_neg c_21, if_neg c_21]; exact ⟨rfl, hZ⟩)
      · refine wt_aload_0 (pc := 24) hc dX3_nest_24 ?_
        refine wt_iconst (pc := 25) (v := nI 1) hc dX3_nest_25 (by decide) ?_
        refine wt_gofn (tw_inv (pc := 26) 1 hc hE (ct_refuses hE 1 (by omega)) dX3_nest_26 rfl q2088 q2090 qs97 q116 q2091 (by decide +kernel) rfl (by decide) (by decide) (Nat.le_of_ble_eq_true rfl) rfl) ?_
        refine wt_if_le (pc := 29) 36 hc dX3_nest_29 (by decide) (fun c_29 => ?_) (fun c_29 => ?_)
        · refine wt_iconst (pc := 36) (v := nI 0) hc dX3_nest_36 (by decide) ?_
          exact wt_iret (pc := 37) hc hok dX3_nest_37 (rfl) (fun H hZ => by rw [if_pos c_21, if_pos c_21]; exact ⟨rfl, hZ⟩)
        · exact absurd (by decide) c_29
    · exact absurd c_10 (by decide)
  · rw [if_neg hp, if_neg hp] at hok
    refine wt_aload_0 (pc := 0) hc dX3_nest_0 ?_
    refine wt_iconst (pc := 1) (v := nI 0) hc dX3_nest_1 (by decide) ?_
    refine tw_put (pc := 2) 0 hc hE dX3_nest_2 q1604 (by decide) (fun _ _ _ => rfl) rfl rfl (rfl) rfl ?_
    refine tw_eq hN ?_
    refine wt_aload_0 (pc := 5) hc dX3_nest_5 ?_
    refine wt_iload_1 (pc := 6) hc dX3_nest_6 ?_
    refine wt_gofn (tw_inv (pc := 7) 1 hc hE (ct_isOwl hE h0 _) dX3_nest_7 rfl q2056 q2058 qs93 q116 q2059 (by decide +kernel) rfl (by decide) (by decide) (Nat.le_of_ble_eq_true rfl) rfl) ?_
    rw [if_neg hp, sp_b_f hp]
    refine wt_if_ne (pc := 10) 15 hc dX3_nest_10 (by decide) (fun c_10 => ?_) (fun c_10 => ?_)
    · exact absurd rfl c_10
    · refine wt_iconst (pc := 13) (v := nI 0) hc dX3_nest_13 (by decide) ?_
      exact wt_iret (pc := 14) hc hok dX3_nest_14 (rfl) (fun H hZ => ⟨rfl, hZ⟩)
theorem ct_grain (hE : tw_E G T) (hN : sp_t0 M = N) (hcy : sp_city N) (a : Nat) (ha : a ≤ 40) (ea : N 0 50 = nI a) (r v : Int32) : wt_Ct l G yX3_grain cX3_grain 3 (some .int) 3 0 0 [.ref T.1, .int r, .int v] (tw_Z G T M w) (wt_fn (if 0 ≤ r ∧ r < N 0 1 then (if nI 0 ≤ v ∧ v ≤ nI 9 then N 47 (4 + nn r) else -1) else 0) (tw_Z G T (if 0 ≤ r ∧ r < N 0 1 then (if nI 0 ≤ v ∧ v ≤ nI 9 then sp_bec N (4 + nn r) v else sp_ref N 1) else wt_up2 N 0 0 1) w)) := by
  obtain ⟨ro, ow, ri, hC⟩ := hcy.cty
  have hro := hC.1
  have h0 : N 0 0 = 0 := by rw [← hN]; rfl
  refine wt_enter [some (.ref T.1), some (.int r), some (.int v)] (by decide +kernel) rfl (Nat.le_of_ble_eq_true rfl) (fun X hc hok => ?_)
  by_cases hp : 0 ≤ r ∧ r < N 0 1
  · obtain ⟨q, hq, rfl⟩ := sp_ix hp hC.2.2.2.1 (by omega)
    rw [if_pos hp, if_pos hp, nn_nI (by omega)] at hok
    refine wt_aload_0 (pc := 0) hc dX3_grain_0 ?_
    refine wt_iconst (pc := 1) (v := nI 0) hc dX3_grain_1 (by decide) ?_
    refine tw_put (pc := 2) 0 hc hE dX3_grain_2 q1604 (by decide) (fun _ _ _ => rfl) rfl rfl (rfl) rfl ?_
    refine tw_eq hN ?_
    refine wt_aload_0 (pc := 5) hc dX3_grain_5 ?_
    refine wt_iload_1 (pc := 6) hc dX3_grain_6 ?_
    refine wt_gofn (tw_inv (pc := 7) 1 hc hE (ct_isRoof hE h0 _) dX3_grain_7 rfl q2040 q2042 qs91 q116 q2043 (by decide +kernel) rfl (by decide) (by decide) (Nat.le_of_ble_eq_true rfl) rfl) ?_
    rw [if_pos hp, sp_b_t hp]
    refine wt_if_ne (pc := 10) 15 hc dX3_grain_10 (by decide) (fun c_10 => ?_) (fun c_10 => ?_)
    · refine wt_iload_2 (pc := 15) hc dX3_grain_15 ?_
      refine wt_iconst (pc := 16) (v := nI 0) hc dX3_grain_16 (by decide) ?_
      refine wt_bipush (pc := 17) (v := nI 9) hc dX3_grain_17 (by decide) ?_
      refine wt_gofn (wt_invS (pc := 19) 3 hc (ct_within _ _ _) dX3_grain_19 rfl q1986 q1987 q116 q1988 (by decide +kernel) rfl (by decide) (by decide) (Nat.le_of_ble_eq_true rfl) rfl) ?_
      refine wt_if_eq (pc := 22) 36 hc dX3_grain_22 (by decide) (fun c_22 => ?_) (fun c_22 => ?_)
      · refine wt_aload_0 (pc := 36) hc dX3_grain_36 ?_
        refine wt_iconst (pc := 37) (v := nI 1) hc dX3_grain_37 (by decide) ?_
        refine wt_gofn (tw_inv (pc := 38) 1 hc hE (ct_refuses hE 1 (by omega)) dX3_grain_38 rfl q2088 q2090 qs97 q116 q2091 (by decide +kernel) rfl (by decide) (by decide) (Nat.le_of_ble_eq_true rfl) rfl) ?_
        exact wt_iret (pc := 41) hc hok dX3_grain_41 (rfl) (fun H hZ => by first | (rw [if_pos (sp_b_n0 c_22), if_pos (sp_b_n0 c_22)]; exact ⟨rfl, hZ⟩) | (rw [if_neg (sp_b_0.mp c_22), if_neg (sp_b_0.mp c_22)]; exact ⟨rfl, hZ⟩))
      · refine wt_aload_0 (pc := 25) hc dX3_grain_25 ?_
        refine wt_iconst (pc := 26) (v := nI 4) hc dX3_grain_26 (by decide) ?_
        refine wt_iload_1 (pc := 27) hc dX3_grain_27 ?_
        refine wt_iadd (pc := 28) hc dX3_grain_28 ?_
        rw [nI_add 4 q]
        refine wt_iload_2 (pc := 29) hc dX3_grain_29 ?_
        refine wt_gofn (tw_inv (pc := 30) 2 hc hE (ct_becomes hE a (4 + q) _ ha ea (by omega)) dX3_grain_30 rfl q2092 q2094 qs98 q116 q2095 (by decide +kernel) rfl (by decide) (by decide) (Nat.le_of_ble_eq_true rfl) rfl) ?_
        refine wt_goto (pc := 33) 41 hc dX3_grain_33 (by decide) ?_
        exact wt_iret (pc := 41) hc hok dX3_grain_41 (rfl) (fun H hZ => by first | (rw [if_pos (sp_b_n0 c_22), if_pos (sp_b_n0 c_22)]; exact ⟨rfl, hZ⟩) | (rw [if_neg (sp_b_0.mp c_22), if_neg (sp_b_0.mp c_22)]; exact ⟨rfl, hZ⟩))
    · exact absurd c_10 (by decide)
  · rw [if_neg hp, if_neg hp] at hok
    refine wt_aload_0 (pc := 0) hc dX3_grain_0 ?_
    refine wt_iconst (pc := 1) (v := nI 0) hc dX3_grain_1 (by decide) ?_
    refine tw_put (pc := 2) 0 hc hE dX3_grain_2 q1604 (by decide) (fun _ _ _ => rfl) rfl rfl (rfl) rfl ?_
    refine tw_eq hN ?_
    refine wt_aload_0 (pc := 5) hc dX3_grain_5 ?_
    refine wt_iload_1 (pc := 6) hc dX3_grain_6 ?_
    refine wt_gofn (tw_inv (pc := 7) 1 hc hE (ct_isRoof hE h0 _) dX3_grain_7 rfl q2040 q2042 qs91 q116 q2043 (by decide +kernel) rfl (by decide) (by decide) (Nat.le_of_ble_eq_true rfl) rfl) ?_
    rw [if_neg hp, sp_b_f hp]
    refine wt_if_ne (pc := 10) 15 hc dX3_grain_10 (by decide) (fun c_10 => ?_) (fun c_10 => ?_)
    · exact absurd rfl c_10
    · refine wt_iconst (pc := 13) (v := nI 0) hc dX3_grain_13 (by decide) ?_
      exact wt_iret (pc := 14) hc hok dX3_grain_14 (rfl) (fun H hZ => ⟨rfl, hZ⟩)
theorem ct_start (hE : tw_E G T) (hN : sp_t0 M = N) (hcy : sp_city N) (a : Nat) (ha : a ≤ 40) (ea : N 0 50 = nI a) (o v : Int32) : wt_Ct l G yX3_start cX3_start 3 (some .int) 3 0 0 [.ref T.1, .int o, .int v] (tw_Z G T M w) (wt_fn (if 0 ≤ o ∧ o < N 0 3 then (if nI 0 ≤ v ∧ v ≤ nI 300 then N 47 (14 + nn o) else -1) else 0) (tw_Z G T (if 0 ≤ o ∧ o < N 0 3 then (if nI 0 ≤ v ∧ v ≤ nI 300 then sp_bec N (14 + nn o) v else sp_ref N 1) else wt_up2 N 0 0 1) w)) := by
  obtain ⟨ro, ow, ri, hC⟩ := hcy.cty
  have how := hC.2.1
  have h0 : N 0 0 = 0 := by rw [← hN]; rfl
  refine wt_enter [some (.ref T.1), some (.int o), some (.int v)] (by decide +kernel) rfl (Nat.le_of_ble_eq_true rfl) (fun X hc hok => ?_)
  by_cases hp : 0 ≤ o ∧ o < N 0 3
  · obtain ⟨q, hq, rfl⟩ := sp_ix hp hC.2.2.2.2.1 (by omega)
    rw [if_pos hp, if_pos hp, nn_nI (by omega)] at hok
    refine wt_aload_0 (pc := 0) hc dX3_start_0 ?_
    refine wt_iconst (pc := 1) (v := nI 0) hc dX3_start_1 (by decide) ?_
    refine tw_put (pc := 2) 0 hc hE dX3_start_2 q1604 (by decide) (fun _ _ _ => rfl) rfl rfl (rfl) rfl ?_
    refine tw_eq hN ?_
    refine wt_aload_0 (pc := 5) hc dX3_start_5 ?_
    refine wt_iload_1 (pc := 6) hc dX3_start_6 ?_
    refine wt_gofn (tw_inv (pc := 7) 1 hc hE (ct_isOwl hE h0 _) dX3_start_7 rfl q2056 q2058 qs93 q116 q2059 (by decide +kernel) rfl (by decide) (by decide) (Nat.le_of_ble_eq_true rfl) rfl) ?_
    rw [if_pos hp, sp_b_t hp]
    refine wt_if_ne (pc := 10) 15 hc dX3_start_10 (by decide) (fun c_10 => ?_) (fun c_10 => ?_)
    · refine wt_iload_2 (pc := 15) hc dX3_start_15 ?_
      refine wt_iconst (pc := 16) (v := nI 0) hc dX3_start_16 (by decide) ?_
      refine wt_sipush (pc := 17) (v := nI 300) hc dX3_start_17 (by decide) ?_
      refine wt_gofn (wt_invS (pc := 20) 3 hc (ct_within _ _ _) dX3_start_20 rfl q1986 q1987 q116 q1988 (by decide +kernel) rfl (by decide) (by decide) (Nat.le_of_ble_eq_true rfl) rfl) ?_
      refine wt_if_eq (pc := 23) 38 hc dX3_start_23 (by decide) (fun c_23 => ?_) (fun c_23 => ?_)
      · refine wt_aload_0 (pc := 38) hc dX3_start_38 ?_
        refine wt_iconst (pc := 39) (v := nI 1) hc dX3_start_39 (by decide) ?_
        refine wt_gofn (tw_inv (pc := 40) 1 hc hE (ct_refuses hE 1 (by omega)) dX3_start_40 rfl q2088 q2090 qs97 q116 q2091 (by decide +kernel) rfl (by decide) (by decide) (Nat.le_of_ble_eq_true rfl) rfl) ?_
        exact wt_iret (pc := 43) hc hok dX3_start_43 (rfl) (fun H hZ => by first | (rw [if_pos (sp_b_n0 c_23), if_pos (sp_b_n0 c_23)]; exact ⟨rfl, hZ⟩) | (rw [if_neg (sp_b_0.mp c_23), if_neg (sp_b_0.mp c_23)]; exact ⟨rfl, hZ⟩))
      · refine wt_aload_0 (pc := 26) hc dX3_start_26 ?_
        refine wt_bipush (pc := 27) (v := nI 14) hc dX3_start_27 (by decide) ?_
        refine wt_iload_1 (pc := 29) hc dX3_start_29 ?_
        refine wt_iadd (pc := 30) hc dX3_start_30 ?_
        rw [nI_add 14 q]
        refine wt_iload_2 (pc := 31) hc dX3_start_31 ?_
        refine wt_gofn (tw_inv (pc := 32) 2 hc hE (ct_becomes hE a (14 + q) _ ha ea (by omega)) dX3_start_32 rfl q2092 q2094 qs98 q116 q2095 (by decide +kernel) rfl (by decide) (by decide) (Nat.le_of_ble_eq_true rfl) rfl) ?_
        refine wt_goto (pc := 35) 43 hc dX3_start_35 (by decide) ?_
        exact wt_iret (pc := 43) hc hok dX3_start_43 (rfl) (fun H hZ => by first | (rw [if_pos (sp_b_n0 c_23), if_pos (sp_b_n0 c_23)]; exact ⟨rfl, hZ⟩) | (rw [if_neg (sp_b_0.mp c_23), if_neg (sp_b_0.mp c_23)]; exact ⟨rfl, hZ⟩))
    · exact absurd c_10 (by decide)
  · rw [if_neg hp, if_neg hp] at hok
    refine wt_aload_0 (pc := 0) hc dX3_start_0 ?_
    refine wt_iconst (pc := 1) (v := nI 0) hc dX3_start_1 (by decide) ?_
    refine tw_put (pc := 2) 0 hc hE dX3_start_2 q1604 (by decide) (fun _ _ _ => rfl) rfl rfl (rfl) rfl ?_
    refine tw_eq hN ?_
    refine wt_aload_0 (pc := 5) hc dX3_start_5 ?_
    refine wt_iload_1 (pc := 6) hc dX3_start_6 ?_
    refine wt_gofn (tw_inv (pc := 7) 1 hc hE (ct_isOwl hE h0 _) dX3_start_7 rfl q2056 q2058 qs93 q116 q2059 (by decide +kernel) rfl (by decide) (by decide) (Nat.le_of_ble_eq_true rfl) rfl) ?_
    rw [if_neg hp, sp_b_f hp]
    refine wt_if_ne (pc := 10) 15 hc dX3_start_10 (by decide) (fun c_10 => ?_) (fun c_10 => ?_)
    · exact absurd rfl c_10
    · refine wt_iconst (pc := 13) (v := nI 0) hc dX3_start_13 (by decide) ?_
      exact wt_iret (pc := 14) hc hok dX3_start_14 (rfl) (fun H hZ => ⟨rfl, hZ⟩)
/-- the last act taken back -/
def sp_undo (M : wt_It) (a : Nat) : wt_It := wt_up2 (wt_up2 M 0 50 (nI a)) 47 (nn (M 49 (2 * a))) (M 49 (2 * a + 1))
theorem ct_undo (hE : tw_E G T) (hN : sp_t0 M = N) (a : Nat) (ha : a ≤ 40) (ea : N 0 50 = nI a) (hq : ∀ b, a = b + 1 → ∃ q, q < 19 ∧ N 49 (2 * b) = nI q) : wt_Ct l G yX3_undo cX3_undo 1 (some .int) 1 0 0 [.ref T.1] (tw_Z G T M w) (wt_fn (if a = 0 then -1 else nI (a - 1)) (tw_Z G T (if a = 0 then N else sp_undo N (a - 1)) w)) := by
  refine wt_enter [some (.ref T.1)] (by decide +kernel) rfl (Nat.le_of_ble_eq_true rfl) (fun X hc hok => ?_)
  by_cases hz : a = 0
  · subst hz
    refine wt_aload_0 (pc := 0) hc dX3_undo_0 ?_
    refine wt_iconst (pc := 1) (v := nI 0) hc dX3_undo_1 (by decide) ?_
    refine tw_put (pc := 2) 0 hc hE dX3_undo_2 q1604 (by decide) (fun _ _ _ => rfl) rfl rfl (rfl) rfl ?_
    refine tw_eq hN ?_
    refine wt_aload_0 (pc := 5) hc dX3_undo_5 ?_
    refine tw_get (pc := 6) 50 (nI 0) hc hE dX3_undo_6 q1654 (by decide) (fun _ _ _ => rfl) rfl (ea) ?_
    refine wt_if_ne (pc := 9) 14 hc dX3_undo_9 (by decide) (fun c_9 => ?_) (fun c_9 => ?_)
    · exact absurd rfl c_9
    · refine wt_iconst (pc := 12) (v := (-1 : Int32)) hc dX3_undo_12 (by decide) ?_
      exact wt_iret (pc := 13) hc hok dX3_undo_13 (rfl) (fun H hZ => ⟨rfl, hZ⟩)
  · obtain ⟨b, rfl⟩ : ∃ b, a = b + 1 := ⟨a - 1, by omega⟩
    obtain ⟨q, hq1, hq2⟩ := hq b rfl
    rw [if_neg hz, if_neg hz, Nat.add_sub_cancel] at hok
    refine wt_aload_0 (pc := 0) hc dX3_undo_0 ?_
    refine wt_iconst (pc := 1) (v := nI 0) hc dX3_undo_1 (by decide) ?_
    refine tw_put (pc := 2) 0 hc hE dX3_undo_2 q1604 (by decide) (fun _ _ _ => rfl) rfl rfl (rfl) rfl ?_
    refine tw_eq hN ?_
    refine wt_aload_0 (pc := 5) hc dX3_undo_5 ?_
    refine tw_get (pc := 6) 50 (nI (b + 1)) hc hE dX3_undo_6 q1654 (by decide) (fun _ _ _ => rfl) rfl (ea) ?_
    refine wt_if_ne (pc := 9) 14 hc dX3_undo_9 (by decide) (fun c_9 => ?_) (fun c_9 => ?_)
    · refine wt_aload_0 (pc := 14) hc dX3_undo_14 ?_
      refine wt_dup (pc := 15) hc dX3_undo_15 rfl ?_
      refine tw_get (pc := 16) 50 (nI (b + 1)) hc hE dX3_undo_16 q1654 (by decide) (fun _ _ _ => rfl) rfl (ea) ?_
      refine wt_iconst (pc := 19) (v := nI 1) hc dX3_undo_19 (by decide) ?_
      refine wt_isub (pc := 20) hc dX3_undo_20 ?_
      rw [show nI (b + 1) - nI 1 = nI b from nI_pred b]
      refine tw_put (pc := 21) 50 hc hE dX3_undo_21 q1654 (by decide) (fun _ _ _ => rfl) rfl rfl (rfl) rfl ?_
      refine wt_aload_0 (pc := 24) hc dX3_undo_24 ?_
      refine tw_geta (pc := 25) 47 hc hE dX3_undo_25 q1651 (by decide) (by decide) (fun _ _ _ => rfl) rfl ?_
      refine wt_aload_0 (pc := 28) hc dX3_undo_28 ?_
      refine tw_geta (pc := 29) 49 hc hE dX3_undo_29 q1653 (by decide) (by decide) (fun _ _ _ => rfl) rfl ?_
      refine wt_iconst (pc := 32) (v := nI 2) hc dX3_undo_32 (by decide) ?_
      refine wt_aload_0 (pc := 33) hc dX3_undo_33 ?_
      refine tw_get (pc := 34) 50 (nI b) hc hE dX3_undo_34 q1654 (by decide) (fun _ _ _ => rfl) rfl (rfl) ?_
      refine wt_imul (pc := 37) hc dX3_undo_37 ?_
      rw [pk_mul 2 b]
      refine tw_iald (pc := 38) (k := 49) (2 * b) (nI q) hc hE dX3_undo_38 rfl (rfl) (by show _ < 80; omega) (by decide) (hq2) ?_
      refine wt_aload_0 (pc := 39) hc dX3_undo_39 ?_
      refine tw_geta (pc := 40) 49 hc hE dX3_undo_40 q1653 (by decide) (by decide) (fun _ _ _ => rfl) rfl ?_
      refine wt_iconst (pc := 43) (v := nI 2) hc dX3_undo_43 (by decide) ?_
      refine wt_aload_0 (pc := 44) hc dX3_undo_44 ?_
      refine tw_get (pc := 45) 50 (nI b) hc hE dX3_undo_45 q1654 (by decide) (fun _ _ _ => rfl) rfl (rfl) ?_
      refine wt_imul (pc := 48) hc dX3_undo_48 ?_
      rw [pk_mul 2 b]
      refine wt_iconst (pc := 49) (v := nI 1) hc dX3_undo_49 (by decide) ?_
      refine wt_iadd (pc := 50) hc dX3_undo_50 ?_
      rw [nI_add (2 * b) 1]
      refine tw_iald (pc := 51) (k := 49) (2 * b + 1) _ hc hE dX3_undo_51 rfl (rfl) (by show _ < 80; omega) (by decide) (rfl) ?_
      refine tw_iast (pc := 52) (k := 47) (q) hc hE dX3_undo_52 rfl (rfl) (by show _ < 19; omega) (by decide) ?_
      refine wt_aload_0 (pc := 53) hc dX3_undo_53 ?_
      refine tw_get (pc := 54) 50 (nI b) hc hE dX3_undo_54 q1654 (by decide) (fun _ _ _ => rfl) rfl (rfl) ?_
      exact wt_iret (pc := 57) hc hok dX3_undo_57 (rfl) (fun H hZ => ⟨rfl, by rw [sp_undo, hq2, nn_nI (by omega)]; exact hZ⟩)
    · exact absurd c_9 (nI_ne0 (by omega) (by omega))
theorem ct_see (hE : tw_E G T) (hN : sp_t0 M = N) (s : Nat) (hs : s ≤ 8) (es : N 0 67 = nI s) (o m r : Int32) : wt_Ct l G yX3_see cX3_see 4 (some .int) 3 0 0 [.ref T.1, .int o, .int m, .int r] (tw_Z G T M w) (wt_fn (if 0 ≤ o ∧ o < N 0 3 then (if s = 8 ∨ r < -1 ∨ N 0 1 ≤ r ∨ ¬ (nI 0 ≤ m ∧ m ≤ nI 600) then -1 else nI (s + 1)) else 0) (tw_Z G T (if 0 ≤ o ∧ o < N 0 3 then (if s = 8 ∨ r < -1 ∨ N 0 1 ≤ r ∨ ¬ (nI 0 ≤ m ∧ m ≤ nI 600) then sp_ref N 2 else wt_up2 (wt_up2 (wt_up2 (wt_up2 N 68 (3 * s) o) 68 (3 * s + 1) m) 68 (3 * s + 2) r) 0 67 (nI (s + 1))) else wt_up2 N 0 0 1) w)) := by
  have h0 : N 0 0 = 0 := by rw [← hN]; rfl
  refine wt_enter [some (.ref T.1), some (.int o), some (.int m), some (.int r)] (by decide +kernel) rfl (Nat.le_of_ble_eq_true rfl) (fun X hc hok => ?_)
  by_cases hp : 0 ≤ o ∧ o < N 0 3
  · rw [if_pos hp, if_pos hp] at hok
    refine wt_aload_0 (pc := 0) hc dX3_see_0 ?_
    refine wt_iconst (pc := 1) (v := nI 0) hc dX3_see_1 (by decide) ?_
    refine tw_put (pc := 2) 0 hc hE dX3_see_2 q1604 (by decide) (fun _ _ _ => rfl) rfl rfl (rfl) rfl ?_
    refine tw_eq hN ?_
    refine wt_aload_0 (pc := 5) hc dX3_see_5 ?_
    refine wt_iload_1 (pc := 6) hc dX3_see_6 ?_
    refine wt_gofn (tw_inv (pc := 7) 1 hc hE (ct_isOwl hE h0 _) dX3_see_7 rfl q2056 q2058 qs93 q116 q2059 (by decide +kernel) rfl (by decide) (by decide) (Nat.le_of_ble_eq_true rfl) rfl) ?_
    rw [if_pos hp, sp_b_t hp]
    refine wt_if_ne (pc := 10) 15 hc dX3_see_10 (by decide) (fun c_10 => ?_) (fun c_10 => ?_)
    · refine wt_aload_0 (pc := 15) hc dX3_see_15 ?_
      refine tw_get (pc := 16) 67 (nI s) hc hE dX3_see_16 q1671 (by decide) (fun _ _ _ => rfl) rfl (es) ?_
      refine wt_bipush (pc := 19) (v := nI 8) hc dX3_see_19 (by decide) ?_
      refine wt_nicmp_eq (pc := 21) 48 (s) (8) hc dX3_see_21 (by decide) (by omega) (by omega) (fun c_21 => ?_) (fun c_21 => ?_)
      · refine wt_aload_0 (pc := 48) hc dX3_see_48 ?_
        refine wt_iconst (pc := 49) (v := nI 2) hc dX3_see_49 (by decide) ?_
        refine wt_gofn (tw_inv (pc := 50) 1 hc hE (ct_refuses hE 2 (by omega)) dX3_see_50 rfl q2088 q2090 qs97 q116 q2091 (by decide +kernel) rfl (by decide) (by decide) (Nat.le_of_ble_eq_true rfl) rfl) ?_
        exact wt_iret (pc := 53) hc hok dX3_see_53 (rfl) (fun H hZ => by (have e : s = 8 ∨ r < -1 ∨ N 0 1 ≤ r ∨ ¬ (nI 0 ≤ m ∧ m ≤ nI 600) := by first | exact Or.inl c_21 | exact Or.inr (Or.inl c_26) | exact Or.inr (Or.inr (Or.inl c_34)) | exact Or.inr (Or.inr (Or.inr (sp_b_0.mp c_45)))); rw [if_pos e, if_pos e]; exact ⟨rfl, hZ⟩)
      · refine wt_iload_3 (pc := 24) hc dX3_see_24 ?_
        refine wt_iconst (pc := 25) (v := (-1 : Int32)) hc dX3_see_25 (by decide) ?_
        refine wt_icmp_lt (pc := 26) 48 hc dX3_see_26 (by decide) (fun c_26 => ?_) (fun c_26 => ?_)
        · refine wt_aload_0 (pc := 48) hc dX3_see_48 ?_
          refine wt_iconst (pc := 49) (v := nI 2) hc dX3_see_49 (by decide) ?_
          refine wt_gofn (tw_inv (pc := 50) 1 hc hE (ct_refuses hE 2 (by omega)) dX3_see_50 rfl q2088 q2090 qs97 q116 q2091 (by decide +kernel) rfl (by decide) (by decide) (Nat.le_of_ble_eq_true rfl) rfl) ?_
          exact wt_iret (pc := 53) hc hok dX3_see_53 (rfl) (fun H hZ => by (have e : s = 8 ∨ r < -1 ∨ N 0 1 ≤ r ∨ ¬ (nI 0 ≤ m ∧ m ≤ nI 600) := by first | exact Or.inl c_21 | exact Or.inr (Or.inl c_26) | exact Or.inr (Or.inr (Or.inl c_34)) | exact Or.inr (Or.inr (Or.inr (sp_b_0.mp c_45)))); rw [if_pos e, if_pos e]; exact ⟨rfl, hZ⟩)
        · refine wt_iload_3 (pc := 29) hc dX3_see_29 ?_
          refine wt_aload_0 (pc := 30) hc dX3_see_30 ?_
          refine tw_get (pc := 31) 1 _ hc hE dX3_see_31 q1605 (by decide) (fun _ _ _ => rfl) rfl (rfl) ?_
          refine wt_icmp_ge (pc := 34) 48 hc dX3_see_34 (by decide) (fun c_34 => ?_) (fun c_34 => ?_)
          · refine wt_aload_0 (pc := 48) hc dX3_see_48 ?_
            refine wt_iconst (pc := 49) (v := nI 2) hc dX3_see_49 (by decide) ?_
            refine wt_gofn (tw_inv (pc := 50) 1 hc hE (ct_refuses hE 2 (by omega)) dX3_see_50 rfl q2088 q2090 qs97 q116 q2091 (by decide +kernel) rfl (by decide) (by decide) (Nat.le_of_ble_eq_true rfl) rfl) ?_
            exact wt_iret (pc := 53) hc hok dX3_see_53 (rfl) (fun H hZ => by (have e : s = 8 ∨ r < -1 ∨ N 0 1 ≤ r ∨ ¬ (nI 0 ≤ m ∧ m ≤ nI 600) := by first | exact Or.inl c_21 | exact Or.inr (Or.inl c_26) | exact Or.inr (Or.inr (Or.inl c_34)) | exact Or.inr (Or.inr (Or.inr (sp_b_0.mp c_45)))); rw [if_pos e, if_pos e]; exact ⟨rfl, hZ⟩)
          · refine wt_iload_2 (pc := 37) hc dX3_see_37 ?_
            refine wt_iconst (pc := 38) (v := nI 0) hc dX3_see_38 (by decide) ?_
            refine wt_sipush (pc := 39) (v := nI 600) hc dX3_see_39 (by decide) ?_
            refine wt_gofn (wt_invS (pc := 42) 3 hc (ct_within _ _ _) dX3_see_42 rfl q1986 q1987 q116 q1988 (by decide +kernel) rfl (by decide) (by decide) (Nat.le_of_ble_eq_true rfl) rfl) ?_
            refine wt_if_ne (pc := 45) 54 hc dX3_see_45 (by decide) (fun c_45 => ?_) (fun c_45 => ?_)
            · refine wt_aload_0 (pc := 54) hc dX3_see_54 ?_
              refine tw_geta (pc := 55) 68 hc hE dX3_see_55 q1672 (by decide) (by decide) (fun _ _ _ => rfl) rfl ?_
              refine wt_iconst (pc := 58) (v := nI 3) hc dX3_see_58 (by decide) ?_
              refine wt_aload_0 (pc := 59) hc dX3_see_59 ?_
              refine tw_get (pc := 60) 67 (nI s) hc hE dX3_see_60 q1671 (by decide) (fun _ _ _ => rfl) rfl (es) ?_
              refine wt_imul (pc := 63) hc dX3_see_63 ?_
              rw [pk_mul 3 s]
              refine wt_iload_1 (pc := 64) hc dX3_see_64 ?_
              refine tw_iast (pc := 65) (k := 68) (3 * s) hc hE dX3_see_65 rfl (rfl) (by show _ < 24; omega) (by decide) ?_
              refine wt_aload_0 (pc := 66) hc dX3_see_66 ?_
              refine tw_geta (pc := 67) 68 hc hE dX3_see_67 q1672 (by decide) (by decide) (fun _ _ _ => rfl) rfl ?_
              refine wt_iconst (pc := 70) (v := nI 3) hc dX3_see_70 (by decide) ?_
              refine wt_aload_0 (pc := 71) hc dX3_see_71 ?_
              refine tw_get (pc := 72) 67 (nI s) hc hE dX3_see_72 q1671 (by decide) (fun _ _ _ => rfl) rfl (es) ?_
              refine wt_imul (pc := 75) hc dX3_see_75 ?_
              rw [pk_mul 3 s]
              refine wt_iconst (pc := 76) (v := nI 1) hc dX3_see_76 (by decide) ?_
              refine wt_iadd (pc := 77) hc dX3_see_77 ?_
              rw [nI_add (3 * s) 1]
              refine wt_iload_2 (pc := 78) hc dX3_see_78 ?_
              refine tw_iast (pc := 79) (k := 68) (3 * s + 1) hc hE dX3_see_79 rfl (rfl) (by show _ < 24; omega) (by decide) ?_
              refine wt_aload_0 (pc := 80) hc dX3_see_80 ?_
              refine tw_geta (pc := 81) 68 hc hE dX3_see_81 q1672 (by decide) (by decide) (fun _ _ _ => rfl) rfl ?_
              refine wt_iconst (pc := 84) (v := nI 3) hc dX3_see_84 (by decide) ?_
              refine wt_aload_0 (pc := 85) hc dX3_see_85 ?_
              refine tw_get (pc := 86) 67 (nI s) hc hE dX3_see_86 q1671 (by decide) (fun _ _ _ => rfl) rfl (es) ?_
              refine wt_imul (pc := 89) hc dX3_see_89 ?_
              rw [pk_mul 3 s]
              refine wt_iconst (pc := 90) (v := nI 2) hc dX3_see_90 (by decide) ?_
              refine wt_iadd (pc := 91) hc dX3_see_91 ?_
              rw [nI_add (3 * s) 2]
              refine wt_iload_3 (pc := 92) hc dX3_see_92 ?_
              refine tw_iast (pc := 93) (k := 68) (3 * s + 2) hc hE dX3_see_93 rfl (rfl) (by show _ < 24; omega) (by decide) ?_
              refine wt_aload_0 (pc := 94) hc dX3_see_94 ?_
              refine wt_dup (pc := 95) hc dX3_see_95 rfl ?_
              refine tw_get (pc := 96) 67 (nI s) hc hE dX3_see_96 q1671 (by decide) (fun _ _ _ => rfl) rfl (es) ?_
              refine wt_iconst (pc := 99) (v := nI 1) hc dX3_see_99 (by decide) ?_
              refine wt_iadd (pc := 100) hc dX3_see_100 ?_
              rw [nI_add s 1]
              refine tw_put (pc := 101) 67 hc hE dX3_see_101 q1671 (by decide) (fun _ _ _ => rfl) rfl rfl (rfl) rfl ?_
              refine wt_aload_0 (pc := 104) hc dX3_see_104 ?_
              refine tw_get (pc := 105) 67 (nI (s + 1)) hc hE dX3_see_105 q1671 (by decide) (fun _ _ _ => rfl) rfl (rfl) ?_
              exact wt_iret (pc := 108) hc hok dX3_see_108 (rfl) (fun H hZ => by (have e : ¬ (s = 8 ∨ r < -1 ∨ N 0 1 ≤ r ∨ ¬ (nI 0 ≤ m ∧ m ≤ nI 600)) := fun z => z.elim c_21 (fun z => z.elim c_26 (fun z => z.elim c_34 (fun z => z (sp_b_n0 c_45))))); rw [if_neg e, if_neg e]; exact ⟨rfl, hZ⟩)
            · refine wt_aload_0 (pc := 48) hc dX3_see_48 ?_
              refine wt_iconst (pc := 49) (v := nI 2) hc dX3_see_49 (by decide) ?_
              refine wt_gofn (tw_inv (pc := 50) 1 hc hE (ct_refuses hE 2 (by omega)) dX3_see_50 rfl q2088 q2090 qs97 q116 q2091 (by decide +kernel) rfl (by decide) (by decide) (Nat.le_of_ble_eq_true rfl) rfl) ?_
              exact wt_iret (pc := 53) hc hok dX3_see_53 (rfl) (fun H hZ => by (have e : s = 8 ∨ r < -1 ∨ N 0 1 ≤ r ∨ ¬ (nI 0 ≤ m ∧ m ≤ nI 600) := by first | exact Or.inl c_21 | exact Or.inr (Or.inl c_26) | exact Or.inr (Or.inr (Or.inl c_34)) | exact Or.inr (Or.inr (Or.inr (sp_b_0.mp c_45)))); rw [if_pos e, if_pos e]; exact ⟨rfl, hZ⟩)
    · exact absurd c_10 (by decide)
  · rw [if_neg hp, if_neg hp] at hok
    refine wt_aload_0 (pc := 0) hc dX3_see_0 ?_
    refine wt_iconst (pc := 1) (v := nI 0) hc dX3_see_1 (by decide) ?_
    refine tw_put (pc := 2) 0 hc hE dX3_see_2 q1604 (by decide) (fun _ _ _ => rfl) rfl rfl (rfl) rfl ?_
    refine tw_eq hN ?_
    refine wt_aload_0 (pc := 5) hc dX3_see_5 ?_
    refine wt_iload_1 (pc := 6) hc dX3_see_6 ?_
    refine wt_gofn (tw_inv (pc := 7) 1 hc hE (ct_isOwl hE h0 _) dX3_see_7 rfl q2056 q2058 qs93 q116 q2059 (by decide +kernel) rfl (by decide) (by decide) (Nat.le_of_ble_eq_true rfl) rfl) ?_
    rw [if_neg hp, sp_b_f hp]
    refine wt_if_ne (pc := 10) 15 hc dX3_see_10 (by decide) (fun c_10 => ?_) (fun c_10 => ?_)
    · exact absurd rfl c_10
    · refine wt_iconst (pc := 13) (v := nI 0) hc dX3_see_13 (by decide) ?_
      exact wt_iret (pc := 14) hc hok dX3_see_14 (rfl) (fun H hZ => ⟨rfl, hZ⟩)
theorem ct_forget (hE : tw_E G T) (hN : sp_t0 M = N) : wt_Ct l G yX3_forget cX3_forget 1 none 1 0 0 [.ref T.1] (tw_Z G T M w) (wt_pv (tw_Z G T (wt_up2 N 0 67 (nI 0)) w)) := by
  refine wt_enter [some (.ref T.1)] (by decide +kernel) rfl (Nat.le_of_ble_eq_true rfl) (fun X hc hok => ?_)
  refine wt_aload_0 (pc := 0) hc dX3_forget_0 ?_
  refine wt_iconst (pc := 1) (v := nI 0) hc dX3_forget_1 (by decide) ?_
  refine tw_put (pc := 2) 0 hc hE dX3_forget_2 q1604 (by decide) (fun _ _ _ => rfl) rfl rfl (rfl) rfl ?_
  refine tw_eq hN ?_
  refine wt_aload_0 (pc := 5) hc dX3_forget_5 ?_
  refine wt_iconst (pc := 6) (v := nI 0) hc dX3_forget_6 (by decide) ?_
  refine tw_put (pc := 7) 67 hc hE dX3_forget_7 q1671 (by decide) (fun _ _ _ => rfl) rfl rfl (rfl) rfl ?_
  exact wt_vret (pc := 10) hc hok dX3_forget_10 (fun H hZ => ⟨rfl, hZ⟩)
theorem ct_fault (hE : tw_E G T) (hN : sp_t0 M = N) : wt_Ct l G yX3_fault cX3_fault 1 (some .int) 1 0 0 [.ref T.1] (tw_Z G T M w) (wt_fn (N 0 17) (tw_Z G T N w)) := by
  refine wt_enter [some (.ref T.1)] (by decide +kernel) rfl (Nat.le_of_ble_eq_true rfl) (fun X hc hok => ?_)
  refine wt_aload_0 (pc := 0) hc dX3_fault_0 ?_
  refine wt_iconst (pc := 1) (v := nI 0) hc dX3_fault_1 (by decide) ?_
  refine tw_put (pc := 2) 0 hc hE dX3_fault_2 q1604 (by decide) (fun _ _ _ => rfl) rfl rfl (rfl) rfl ?_
  refine tw_eq hN ?_
  refine wt_aload_0 (pc := 5) hc dX3_fault_5 ?_
  refine tw_get (pc := 6) 17 _ hc hE dX3_fault_6 q1621 (by decide) (fun _ _ _ => rfl) rfl (rfl) ?_
  exact wt_iret (pc := 9) hc hok dX3_fault_9 (rfl) (fun H hZ => ⟨rfl, hZ⟩)
theorem ct_more (hE : tw_E G T) (hN : sp_t0 M = N) (hcy : sp_city N) (r : Int32) : wt_Ct l G yX3_more cX3_more 2 (some .int) 3 0 0 [.ref T.1, .int r] (tw_Z G T M w) (sp_ans G T N w (if 0 ≤ r ∧ r < N 0 1 then (if N 0 65 = 0 then 1 else 0) else 1) (N 63 (nn r))) := by
  obtain ⟨ro, ow, ri, hC⟩ := hcy.cty
  have hro := hC.1
  have h0 : N 0 0 = 0 := by rw [← hN]; rfl
  refine wt_enter [some (.ref T.1), some (.int r)] (by decide +kernel) rfl (Nat.le_of_ble_eq_true rfl) (fun X hc hok => ?_)
  by_cases hp : 0 ≤ r ∧ r < N 0 1
  · obtain ⟨q, hq, rfl⟩ := sp_ix hp hC.2.2.2.1 (by omega)
    rw [if_pos hp, nn_nI (by omega)] at hok
    by_cases hz : N 0 65 = 0
    · rw [if_pos hz] at hok
      refine wt_aload_0 (pc := 0) hc dX3_more_0 ?_
      refine wt_iconst (pc := 1) (v := nI 0) hc dX3_more_1 (by decide) ?_
      refine tw_put (pc := 2) 0 hc hE dX3_more_2 q1604 (by decide) (fun _ _ _ => rfl) rfl rfl (rfl) rfl ?_
      refine tw_eq hN ?_
      refine wt_aload_0 (pc := 5) hc dX3_more_5 ?_
      refine wt_iload_1 (pc := 6) hc dX3_more_6 ?_
      refine wt_gofn (tw_inv (pc := 7) 1 hc hE (ct_isRoof hE h0 _) dX3_more_7 rfl q2040 q2042 qs91 q116 q2043 (by decide +kernel) rfl (by decide) (by decide) (Nat.le_of_ble_eq_true rfl) rfl) ?_
      rw [if_pos hp, sp_b_t hp]
      refine wt_if_eq (pc := 10) 34 hc dX3_more_10 (by decide) (fun c_10 => ?_) (fun c_10 => ?_)
      · exact absurd c_10 (by decide)
      · refine wt_aload_0 (pc := 13) hc dX3_more_13 ?_
        refine wt_aload_0 (pc := 14) hc dX3_more_14 ?_
        refine tw_get (pc := 15) 65 _ hc hE dX3_more_15 q1669 (by decide) (fun _ _ _ => rfl) rfl (rfl) ?_
        refine wt_iconst (pc := 18) (v := nI 1) hc dX3_more_18 (by decide) ?_
        refine wt_gofn (tw_inv (pc := 19) 2 hc hE (ct_right0 hE h0 _ _) dX3_more_19 rfl q1850 q1852 qs54 q116 q1853 (by decide +kernel) rfl (by decide) (by decide) (Nat.le_of_ble_eq_true rfl) rfl) ?_
        rw [if_pos hz, sp_b_f (fun z => z.elim (fun z => z hz) (by decide))]
        refine wt_if_eq (pc := 22) 34 hc dX3_more_22 (by decide) (fun c_22 => ?_) (fun c_22 => ?_)
        · refine wt_iconst (pc := 34) (v := nI 0) hc dX3_more_34 (by decide) ?_
          exact wt_iret (pc := 35) hc hok dX3_more_35 (rfl) (fun H hZ => sp_ans_bad (by decide) hZ)
        · exact absurd rfl c_22
    · rw [if_neg hz] at hok
      refine wt_aload_0 (pc := 0) hc dX3_more_0 ?_
      refine wt_iconst (pc := 1) (v := nI 0) hc dX3_more_1 (by decide) ?_
      refine tw_put (pc := 2) 0 hc hE dX3_more_2 q1604 (by decide) (fun _ _ _ => rfl) rfl rfl (rfl) rfl ?_
      refine tw_eq hN ?_
      refine wt_aload_0 (pc := 5) hc dX3_more_5 ?_
      refine wt_iload_1 (pc := 6) hc dX3_more_6 ?_
      refine wt_gofn (tw_inv (pc := 7) 1 hc hE (ct_isRoof hE h0 _) dX3_more_7 rfl q2040 q2042 qs91 q116 q2043 (by decide +kernel) rfl (by decide) (by decide) (Nat.le_of_ble_eq_true rfl) rfl) ?_
      rw [if_pos hp, sp_b_t hp]
      refine wt_if_eq (pc := 10) 34 hc dX3_more_10 (by decide) (fun c_10 => ?_) (fun c_10 => ?_)
      · exact absurd c_10 (by decide)
      · refine wt_aload_0 (pc := 13) hc dX3_more_13 ?_
        refine wt_aload_0 (pc := 14) hc dX3_more_14 ?_
        refine tw_get (pc := 15) 65 _ hc hE dX3_more_15 q1669 (by decide) (fun _ _ _ => rfl) rfl (rfl) ?_
        refine wt_iconst (pc := 18) (v := nI 1) hc dX3_more_18 (by decide) ?_
        refine wt_gofn (tw_inv (pc := 19) 2 hc hE (ct_right0 hE h0 _ _) dX3_more_19 rfl q1850 q1852 qs54 q116 q1853 (by decide +kernel) rfl (by decide) (by decide) (Nat.le_of_ble_eq_true rfl) rfl) ?_
        rw [if_neg hz, sp_b_t (Or.inl hz)]
        refine wt_if_eq (pc := 22) 34 hc dX3_more_22 (by decide) (fun c_22 => ?_) (fun c_22 => ?_)
        · exact absurd c_22 (by decide)
        · refine wt_aload_0 (pc := 25) hc dX3_more_25 ?_
          refine tw_geta (pc := 26) 63 hc hE dX3_more_26 q1667 (by decide) (by decide) (fun _ _ _ => rfl) rfl ?_
          refine wt_iload_1 (pc := 29) hc dX3_more_29 ?_
          refine tw_iald (pc := 30) (k := 63) (q) _ hc hE dX3_more_30 rfl (rfl) (by show _ < 10; omega) (by decide) (rfl) ?_
          refine wt_goto (pc := 31) 35 hc dX3_more_31 (by decide) ?_
          exact wt_iret (pc := 35) hc hok dX3_more_35 (rfl) (fun H hZ => sp_ans_ok (sp_Q.rf N) h0 rfl hZ)
  · rw [if_neg hp] at hok
    refine wt_aload_0 (pc := 0) hc dX3_more_0 ?_
    refine wt_iconst (pc := 1) (v := nI 0) hc dX3_more_1 (by decide) ?_
    refine tw_put (pc := 2) 0 hc hE dX3_more_2 q1604 (by decide) (fun _ _ _ => rfl) rfl rfl (rfl) rfl ?_
    refine tw_eq hN ?_
    refine wt_aload_0 (pc := 5) hc dX3_more_5 ?_
    refine wt_iload_1 (pc := 6) hc dX3_more_6 ?_
    refine wt_gofn (tw_inv (pc := 7) 1 hc hE (ct_isRoof hE h0 _) dX3_more_7 rfl q2040 q2042 qs91 q116 q2043 (by decide +kernel) rfl (by decide) (by decide) (Nat.le_of_ble_eq_true rfl) rfl) ?_
    rw [if_neg hp, sp_b_f hp]
    refine wt_if_eq (pc := 10) 34 hc dX3_more_10 (by decide) (fun c_10 => ?_) (fun c_10 => ?_)
    · refine wt_iconst (pc := 34) (v := nI 0) hc dX3_more_34 (by decide) ?_
      exact wt_iret (pc := 35) hc hok dX3_more_35 (rfl) (fun H hZ => sp_ans_bad (by decide) hZ)
    · exact absurd rfl c_10
def sp_image (N : wt_It) : wt_It := sp_cp (sp_cp (sp_cp (wt_up2 (wt_up2 (wt_up2 N 0 70 (nI 1)) 0 71 (N 0 50)) 0 72 (N 0 67)) 47 73 19) 49 74 80) 68 75 24
theorem ct_image (hE : tw_E G T) (hN : sp_t0 M = N) : wt_Ct l G yX3_image cX3_image 1 none 2 0 0 [.ref T.1] (tw_Z G T M w) (wt_pv (tw_Z G T (sp_image N) w)) := by
  refine wt_enter [some (.ref T.1)] (by decide +kernel) rfl (Nat.le_of_ble_eq_true rfl) (fun X hc hok => ?_)
  refine wt_aload_0 (pc := 0) hc dX3_image_0 ?_
  refine wt_iconst (pc := 1) (v := nI 0) hc dX3_image_1 (by decide) ?_
  refine tw_put (pc := 2) 0 hc hE dX3_image_2 q1604 (by decide) (fun _ _ _ => rfl) rfl rfl (rfl) rfl ?_
  refine tw_eq hN ?_
  refine wt_aload_0 (pc := 5) hc dX3_image_5 ?_
  refine wt_iconst (pc := 6) (v := nI 1) hc dX3_image_6 (by decide) ?_
  refine tw_put (pc := 7) 70 hc hE dX3_image_7 q1674 (by decide) (fun _ _ _ => rfl) rfl rfl (rfl) rfl ?_
  refine wt_aload_0 (pc := 10) hc dX3_image_10 ?_
  refine wt_aload_0 (pc := 11) hc dX3_image_11 ?_
  refine tw_get (pc := 12) 50 _ hc hE dX3_image_12 q1654 (by decide) (fun _ _ _ => rfl) rfl (rfl) ?_
  refine tw_put (pc := 15) 71 hc hE dX3_image_15 q1675 (by decide) (fun _ _ _ => rfl) rfl rfl (rfl) rfl ?_
  refine wt_aload_0 (pc := 18) hc dX3_image_18 ?_
  refine wt_aload_0 (pc := 19) hc dX3_image_19 ?_
  refine tw_get (pc := 20) 67 _ hc hE dX3_image_20 q1671 (by decide) (fun _ _ _ => rfl) rfl (rfl) ?_
  refine tw_put (pc := 23) 72 hc hE dX3_image_23 q1676 (by decide) (fun _ _ _ => rfl) rfl rfl (rfl) rfl ?_
  refine wt_aload_0 (pc := 26) hc dX3_image_26 ?_
  refine wt_aload_0 (pc := 27) hc dX3_image_27 ?_
  refine tw_geta (pc := 28) 47 hc hE dX3_image_28 q1651 (by decide) (by decide) (fun _ _ _ => rfl) rfl ?_
  refine wt_aload_0 (pc := 31) hc dX3_image_31 ?_
  refine tw_geta (pc := 32) 73 hc hE dX3_image_32 q1677 (by decide) (by decide) (fun _ _ _ => rfl) rfl ?_
  refine wt_gov (tw_inv (pc := 35) 2 hc hE (ct_copies hE 47 73 (by decide) (by decide) (by decide) (by decide) rfl rfl) dX3_image_35 rfl q1965 q1967 qs78 q116 q1968 (by decide +kernel) rfl (by decide) (by decide) (Nat.le_of_ble_eq_true rfl) rfl) (Nat.zero_le _) (Nat.zero_le _) ?_
  refine wt_aload_0 (pc := 38) hc dX3_image_38 ?_
  refine wt_aload_0 (pc := 39) hc dX3_image_39 ?_
  refine tw_geta (pc := 40) 49 hc hE dX3_image_40 q1653 (by decide) (by decide) (fun _ _ _ => rfl) rfl ?_
  refine wt_aload_0 (pc := 43) hc dX3_image_43 ?_
  refine tw_geta (pc := 44) 74 hc hE dX3_image_44 q1678 (by decide) (by decide) (fun _ _ _ => rfl) rfl ?_
  refine wt_gov (tw_inv (pc := 47) 2 hc hE (ct_copies hE 49 74 (by decide) (by decide) (by decide) (by decide) rfl rfl) dX3_image_47 rfl q1965 q1967 qs78 q116 q1968 (by decide +kernel) rfl (by decide) (by decide) (Nat.le_of_ble_eq_true rfl) rfl) (Nat.zero_le _) (Nat.zero_le _) ?_
  refine wt_aload_0 (pc := 50) hc dX3_image_50 ?_
  refine wt_aload_0 (pc := 51) hc dX3_image_51 ?_
  refine tw_geta (pc := 52) 68 hc hE dX3_image_52 q1672 (by decide) (by decide) (fun _ _ _ => rfl) rfl ?_
  refine wt_aload_0 (pc := 55) hc dX3_image_55 ?_
  refine tw_geta (pc := 56) 75 hc hE dX3_image_56 q1679 (by decide) (by decide) (fun _ _ _ => rfl) rfl ?_
  refine wt_gov (tw_inv (pc := 59) 2 hc hE (ct_copies hE 68 75 (by decide) (by decide) (by decide) (by decide) rfl rfl) dX3_image_59 rfl q1965 q1967 qs78 q116 q1968 (by decide +kernel) rfl (by decide) (by decide) (Nat.le_of_ble_eq_true rfl) rfl) (Nat.zero_le _) (Nat.zero_le _) ?_
  exact wt_vret (pc := 62) hc hok dX3_image_62 (fun H hZ => ⟨rfl, hZ⟩)
def sp_restore (N : wt_It) : wt_It := sp_cp (sp_cp (sp_cp (wt_up2 (wt_up2 N 0 50 (N 0 71)) 0 67 (N 0 72)) 73 47 19) 74 49 80) 75 68 24
theorem ct_restore (hE : tw_E G T) (hN : sp_t0 M = N) : wt_Ct l G yX3_restore cX3_restore 1 (some .boolean) 2 0 0 [.ref T.1] (tw_Z G T M w) (wt_fn (if N 0 70 = 0 then 0 else 1) (tw_Z G T (if N 0 70 = 0 then N else sp_restore N) w)) := by
  refine wt_enter [some (.ref T.1)] (by decide +kernel) rfl (Nat.le_of_ble_eq_true rfl) (fun X hc hok => ?_)
  refine wt_aload_0 (pc := 0) hc dX3_restore_0 ?_
  refine wt_iconst (pc := 1) (v := nI 0) hc dX3_restore_1 (by decide) ?_
  refine tw_put (pc := 2) 0 hc hE dX3_restore_2 q1604 (by decide) (fun _ _ _ => rfl) rfl rfl (rfl) rfl ?_
  refine tw_eq hN ?_
  refine wt_aload_0 (pc := 5) hc dX3_restore_5 ?_
  refine tw_get (pc := 6) 70 _ hc hE dX3_restore_6 q1674 (by decide) (fun _ _ _ => rfl) rfl (rfl) ?_
  refine wt_if_ne (pc := 9) 14 hc dX3_restore_9 (by decide) (fun c_9 => ?_) (fun c_9 => ?_)
  · refine wt_aload_0 (pc := 14) hc dX3_restore_14 ?_
    refine wt_aload_0 (pc := 15) hc dX3_restore_15 ?_
    refine tw_get (pc := 16) 71 _ hc hE dX3_restore_16 q1675 (by decide) (fun _ _ _ => rfl) rfl (rfl) ?_
    refine tw_put (pc := 19) 50 hc hE dX3_restore_19 q1654 (by decide) (fun _ _ _ => rfl) rfl rfl (rfl) rfl ?_
    refine wt_aload_0 (pc := 22) hc dX3_restore_22 ?_
    refine wt_aload_0 (pc := 23) hc dX3_restore_23 ?_
    refine tw_get (pc := 24) 72 _ hc hE dX3_restore_24 q1676 (by decide) (fun _ _ _ => rfl) rfl (rfl) ?_
    refine tw_put (pc := 27) 67 hc hE dX3_restore_27 q1671 (by decide) (fun _ _ _ => rfl) rfl rfl (rfl) rfl ?_
    refine wt_aload_0 (pc := 30) hc dX3_restore_30 ?_
    refine wt_aload_0 (pc := 31) hc dX3_restore_31 ?_
    refine tw_geta (pc := 32) 73 hc hE dX3_restore_32 q1677 (by decide) (by decide) (fun _ _ _ => rfl) rfl ?_
    refine wt_aload_0 (pc := 35) hc dX3_restore_35 ?_
    refine tw_geta (pc := 36) 47 hc hE dX3_restore_36 q1651 (by decide) (by decide) (fun _ _ _ => rfl) rfl ?_
    refine wt_gov (tw_inv (pc := 39) 2 hc hE (ct_copies hE 73 47 (by decide) (by decide) (by decide) (by decide) rfl rfl) dX3_restore_39 rfl q1965 q1967 qs78 q116 q1968 (by decide +kernel) rfl (by decide) (by decide) (Nat.le_of_ble_eq_true rfl) rfl) (Nat.zero_le _) (Nat.zero_le _) ?_
    refine wt_aload_0 (pc := 42) hc dX3_restore_42 ?_
    refine wt_aload_0 (pc := 43) hc dX3_restore_43 ?_
    refine tw_geta (pc := 44) 74 hc hE dX3_restore_44 q1678 (by decide) (by decide) (fun _ _ _ => rfl) rfl ?_
    refine wt_aload_0 (pc := 47) hc dX3_restore_47 ?_
    refine tw_geta (pc := 48) 49 hc hE dX3_restore_48 q1653 (by decide) (by decide) (fun _ _ _ => rfl) rfl ?_
    refine wt_gov (tw_inv (pc := 51) 2 hc hE (ct_copies hE 74 49 (by decide) (by decide) (by decide) (by decide) rfl rfl) dX3_restore_51 rfl q1965 q1967 qs78 q116 q1968 (by decide +kernel) rfl (by decide) (by decide) (Nat.le_of_ble_eq_true rfl) rfl) (Nat.zero_le _) (Nat.zero_le _) ?_
    refine wt_aload_0 (pc := 54) hc dX3_restore_54 ?_
    refine wt_aload_0 (pc := 55) hc dX3_restore_55 ?_
    refine tw_geta (pc := 56) 75 hc hE dX3_restore_56 q1679 (by decide) (by decide) (fun _ _ _ => rfl) rfl ?_
    refine wt_aload_0 (pc := 59) hc dX3_restore_59 ?_
    refine tw_geta (pc := 60) 68 hc hE dX3_restore_60 q1672 (by decide) (by decide) (fun _ _ _ => rfl) rfl ?_
    refine wt_gov (tw_inv (pc := 63) 2 hc hE (ct_copies hE 75 68 (by decide) (by decide) (by decide) (by decide) rfl rfl) dX3_restore_63 rfl q1965 q1967 qs78 q116 q1968 (by decide +kernel) rfl (by decide) (by decide) (Nat.le_of_ble_eq_true rfl) rfl) (Nat.zero_le _) (Nat.zero_le _) ?_
    refine wt_iconst (pc := 66) (v := nI 1) hc dX3_restore_66 (by decide) ?_
    exact wt_iret (pc := 67) hc hok dX3_restore_67 (rfl) (fun H hZ => by first | (rw [if_pos c_9, if_pos c_9]; exact ⟨rfl, hZ⟩) | (rw [if_neg c_9, if_neg c_9]; exact ⟨rfl, hZ⟩))
  · refine wt_iconst (pc := 12) (v := nI 0) hc dX3_restore_12 (by decide) ?_
    exact wt_iret (pc := 13) hc hok dX3_restore_13 (rfl) (fun H hZ => by first | (rw [if_pos c_9, if_pos c_9]; exact ⟨rfl, hZ⟩) | (rw [if_neg c_9, if_neg c_9]; exact ⟨rfl, hZ⟩))
def sp_feed (N : wt_It) (t : Nat) (a b c d e : Int32) : wt_It := sp_lays (sp_lays (sp_lays (sp_lays (sp_lays N t a) (t + 4) b) (t + 8) c) (t + 12) d) (t + 16) e
theorem ct_feed (hE : tw_E G T) (hN : sp_t0 M = N) (t : Nat) (ht : t ≤ 700) (et : N 0 15 = nI t) (a b c d e : Int32) : wt_Ct l G yX3_feed cX3_feed 6 (some .int) 2 0 0 [.ref T.1, .int a, .int b, .int c, .int d, .int e] (tw_Z G T M w) (wt_fn (if t + 20 ≤ 700 then nI (t + 20) else -1) (tw_Z G T (if t + 20 ≤ 700 then sp_feed N t a b c d e else N) w)) := by
  refine wt_enter [some (.ref T.1), some (.int a), some (.int b), some (.int c), some (.int d), some (.int e)] (by decide +kernel) rfl (Nat.le_of_ble_eq_true rfl) (fun X hc hok => ?_)
  refine wt_aload_0 (pc := 0) hc dX3_feed_0 ?_
  refine wt_iconst (pc := 1) (v := nI 0) hc dX3_feed_1 (by decide) ?_
  refine tw_put (pc := 2) 0 hc hE dX3_feed_2 q1604 (by decide) (fun _ _ _ => rfl) rfl rfl (rfl) rfl ?_
  refine tw_eq hN ?_
  refine wt_aload_0 (pc := 5) hc dX3_feed_5 ?_
  refine tw_get (pc := 6) 15 (nI t) hc hE dX3_feed_6 q1619 (by decide) (fun _ _ _ => rfl) rfl (et) ?_
  refine wt_bipush (pc := 9) (v := nI 20) hc dX3_feed_9 (by decide) ?_
  refine wt_iadd (pc := 11) hc dX3_feed_11 ?_
  rw [nI_add t 20]
  refine wt_sipush (pc := 12) (v := nI 700) hc dX3_feed_12 (by decide) ?_
  refine wt_nicmp_le (pc := 15) 20 (t + 20) (700) hc dX3_feed_15 (by decide) (by omega) (by omega) (fun c_15 => ?_) (fun c_15 => ?_)
  · rw [if_pos c_15, if_pos c_15] at hok
    refine wt_aload_0 (pc := 20) hc dX3_feed_20 ?_
    refine wt_iload_1 (pc := 21) hc dX3_feed_21 ?_
    refine wt_gov (tw_inv (pc := 22) 1 hc hE (ct_lays hE t a et (by omega)) dX3_feed_22 rfl q1842 q1844 qs53 q116 q1845 (by decide +kernel) rfl (by decide) (by decide) (Nat.le_of_ble_eq_true rfl) rfl) (Nat.zero_le _) (Nat.zero_le _) ?_
    refine wt_aload_0 (pc := 25) hc dX3_feed_25 ?_
    refine wt_iload_2 (pc := 26) hc dX3_feed_26 ?_
    refine wt_gov (tw_inv (pc := 27) 1 hc hE (ct_lays hE (t + 4) b rfl (by omega)) dX3_feed_27 rfl q1842 q1844 qs53 q116 q1845 (by decide +kernel) rfl (by decide) (by decide) (Nat.le_of_ble_eq_true rfl) rfl) (Nat.zero_le _) (Nat.zero_le _) ?_
    refine wt_aload_0 (pc := 30) hc dX3_feed_30 ?_
    refine wt_iload_3 (pc := 31) hc dX3_feed_31 ?_
    refine wt_gov (tw_inv (pc := 32) 1 hc hE (ct_lays hE (t + 8) c rfl (by omega)) dX3_feed_32 rfl q1842 q1844 qs53 q116 q1845 (by decide +kernel) rfl (by decide) (by decide) (Nat.le_of_ble_eq_true rfl) rfl) (Nat.zero_le _) (Nat.zero_le _) ?_
    refine wt_aload_0 (pc := 35) hc dX3_feed_35 ?_
    refine wt_iload_4 (pc := 36) hc dX3_feed_36 ?_
    refine wt_gov (tw_inv (pc := 38) 1 hc hE (ct_lays hE (t + 12) d rfl (by omega)) dX3_feed_38 rfl q1842 q1844 qs53 q116 q1845 (by decide +kernel) rfl (by decide) (by decide) (Nat.le_of_ble_eq_true rfl) rfl) (Nat.zero_le _) (Nat.zero_le _) ?_
    refine wt_aload_0 (pc := 41) hc dX3_feed_41 ?_
    refine wt_iload_5 (pc := 42) hc dX3_feed_42 ?_
    refine wt_gov (tw_inv (pc := 44) 1 hc hE (ct_lays hE (t + 16) e rfl (by omega)) dX3_feed_44 rfl q1842 q1844 qs53 q116 q1845 (by decide +kernel) rfl (by decide) (by decide) (Nat.le_of_ble_eq_true rfl) rfl) (Nat.zero_le _) (Nat.zero_le _) ?_
    refine wt_aload_0 (pc := 47) hc dX3_feed_47 ?_
    refine tw_get (pc := 48) 15 (nI (t + 20)) hc hE dX3_feed_48 q1619 (by decide) (fun _ _ _ => rfl) rfl (rfl) ?_
    exact wt_iret (pc := 51) hc hok dX3_feed_51 (rfl) (fun H hZ => ⟨rfl, hZ⟩)
  · rw [if_neg (by omega), if_neg (by omega)] at hok
    refine wt_iconst (pc := 18) (v := (-1 : Int32)) hc dX3_feed_18 (by decide) ?_
    exact wt_iret (pc := 19) hc hok dX3_feed_19 (rfl) (fun H hZ => ⟨rfl, hZ⟩)
end TI
