/-! THE REFERENCE: where owls are, rides -/
set_option maxRecDepth 100000
def sp_i (b : Bool) : Int32 := match b with
  | true => nI 1
  | false => nI 0
theorem sp_i_b (b : Bool) : sp_i b = sp_b (b = true) := by cases b <;> rfl
theorem sp_b_i (c : Prop) [Decidable c] : sp_b c = sp_i (decide c) := by
  by_cases h : c
  · rw [sp_b_t h, decide_eq_true h]; rfl
  · rw [sp_b_f h, decide_eq_false h]; rfl
/-- an owl stays in its nest -/
def sp_nb (M : wt_It) (o : Nat) : Bool := decide (M 47 3 >>> (nI o &&& 31) &&& 1 = 1)
/-- from the stop i on, n stops left: where the owl o is in the minute m -/
def sp_whL (c lv wy : Nat → Int32) (o : Nat) (m : Int32) : Nat → Nat → Int32
  | 0, _ => -1
  | n + 1, i => if m < c (8 * o + i) then sp_whL c lv wy o m n (i + 1) else if n = 0 then wy (8 * o + i) else if lv (8 * o + i) < m then sp_whL c lv wy o m n (i + 1) else wy (8 * o + i)
def sp_wh (M : wt_It) (o : Nat) (m : Int32) : Int32 := if sp_nb M o = true then -1 else sp_whL (M 54) (M 55) (M 10) o m (nn (M 9 o)) 0
def sp_waits (M : wt_It) (p k : Nat) : wt_It := wt_up2 (sp_fill M k 10 (fun _ => nI 1000000)) k (nn (M 11 (4 * p))) (M 11 (4 * p + 2))
/-- one owl takes whoever is somewhere by then: from the row k1 (at o1) to the row k2 (at o2) -/
def sp_tk (k1 o1 k2 o2 o : Nat) : Nat → Nat → Bool → Bool → wt_It → wt_It × Bool
  | 0, _, _, any, M => (M, any)
  | n + 1, i, on, any, M =>
    if on = true ∧ ¬ M k2 (o2 + nn (M 10 (8 * o + i))) ≤ M 54 (8 * o + i) then
      sp_tk k1 o1 k2 o2 o n (i + 1) true true (wt_up2 M k2 (o2 + nn (M 10 (8 * o + i))) (M 54 (8 * o + i)))
    else sp_tk k1 o1 k2 o2 o n (i + 1) (on || decide (M k1 (o1 + nn (M 10 (8 * o + i))) ≤ M 55 (8 * o + i))) any M
def sp_takes (M : wt_It) (k1 o1 k2 o2 o : Nat) : wt_It × Bool := if sp_nb M o = true then (M, false) else sp_tk k1 o1 k2 o2 o (nn (M 9 o)) 0 false false M
/-- the owl o has its way in order -/
def sp_way (M : wt_It) (o wl : Nat) : Prop := wl ≤ 8 ∧ M 9 o = nI wl ∧ ∀ i, i < wl → ∃ r, r < 10 ∧ M 10 (8 * o + i) = nI r
theorem sp_city.way {M : wt_It} (h : sp_city M) {ow : Nat} (e : M 0 3 = nI ow) (how : ow < 2 ^ 31) {o : Nat} (ho : o < ow) : o < 5 ∧ ∃ wl, sp_way M o wl := by
  obtain ⟨ro', h1', h2', ⟨ow', h3', h4', h5'⟩, -⟩ := h
  have e : ow' = ow := (nI_eq (by omega) how).mp (h4'.symm.trans e)
  subst e
  obtain ⟨wl, g1, g2, g3⟩ := h5' o ho
  refine ⟨by omega, wl, g1, g2, fun i hi => ?_⟩
  obtain ⟨r, hr, er⟩ := g3 i hi
  exact ⟨r, by omega, er⟩
section TF
variable {l : Launch} {G : wt_G} {Z : Heap → Prop} {T : tw_T} {M : wt_It} {w : Int64}
theorem ct_whereIs (hE : tw_E G T) (o : Nat) (m : Int32) (wl : Nat) (ho : o < 5) (hw : sp_way M o wl) : wt_Ct l G yX3_whereIs cX3_whereIs 5 (some .int) 2 0 0 [.ref T.1, .int (nI o), .int m] (tw_Z G T M w) (wt_fn (sp_wh M o m) (tw_Z G T M w)) := by
  refine wt_enter [some (.ref T.1), some (.int (nI o)), some (.int m), none, none] (by decide +kernel) rfl (Nat.le_of_ble_eq_true rfl) (fun X hc hok => ?_)
  obtain ⟨hwl, e9, hway⟩ := hw
  have loop : ∀ n i : Nat, i + n = wl → sp_wh M o m = sp_whL (M 54) (M 55) (M 10) o m n i → wt_V G X 12 [some (.ref T.1), some (.int (nI o)), some (.int m), some (.int (nI i)), none] [] (tw_Z G T M w) 0 0 := by
    intro n
    induction n with
    | zero =>
      intro i hi hv
      refine wt_iload_3 (pc := 12) hc dX3_whereIs_12 ?_
      refine wt_aload_0 (pc := 13) hc dX3_whereIs_13 ?_
      refine tw_geta (pc := 14) 9 hc hE dX3_whereIs_14 q1613 (by decide) (by decide) (fun _ _ _ => rfl) rfl ?_
      refine wt_iload_1 (pc := 17) hc dX3_whereIs_17 ?_
      refine tw_iald (pc := 18) (k := 9) (o) (nI wl) hc hE dX3_whereIs_18 rfl (rfl) (by show _ < 5; omega) (by decide) (e9) ?_
      refine wt_nicmp_ge (pc := 19) 94 (i) (wl) hc dX3_whereIs_19 (by decide) (by omega) (by omega) (fun c_19 => ?_) (fun c_19 => ?_)
      · refine wt_iconst (pc := 94) (v := (-1 : Int32)) hc dX3_whereIs_94 (by decide) ?_
        exact wt_iret (pc := 95) hc hok dX3_whereIs_95 (rfl) (fun H hZ => ⟨by rw [hv]; rfl, hZ⟩)
      · omega
    | succ n ih =>
      intro i hi hv
      rw [sp_whL] at hv
      refine wt_iload_3 (pc := 12) hc dX3_whereIs_12 ?_
      refine wt_aload_0 (pc := 13) hc dX3_whereIs_13 ?_
      refine tw_geta (pc := 14) 9 hc hE dX3_whereIs_14 q1613 (by decide) (by decide) (fun _ _ _ => rfl) rfl ?_
      refine wt_iload_1 (pc := 17) hc dX3_whereIs_17 ?_
      refine tw_iald (pc := 18) (k := 9) (o) (nI wl) hc hE dX3_whereIs_18 rfl (rfl) (by show _ < 5; omega) (by decide) (e9) ?_
      refine wt_nicmp_ge (pc := 19) 94 (i) (wl) hc dX3_whereIs_19 (by decide) (by omega) (by omega) (fun c_19 => ?_) (fun c_19 => ?_)
      · omega
      · refine wt_iload_3 (pc := 22) hc dX3_whereIs_22 ?_
        refine wt_aload_0 (pc := 23) hc dX3_whereIs_23 ?_
        refine tw_geta (pc := 24) 9 hc hE dX3_whereIs_24 q1613 (by decide) (by decide) (fun _ _ _ => rfl) rfl ?_
        refine wt_iload_1 (pc := 27) hc dX3_whereIs_27 ?_
        refine tw_iald (pc := 28) (k := 9) (o) (nI wl) hc hE dX3_whereIs_28 rfl (rfl) (by show _ < 5; omega) (by decide) (e9) ?_
        refine wt_iconst (pc := 29) (v := nI 1) hc dX3_whereIs_29 (by decide) ?_
        refine wt_isub (pc := 30) hc dX3_whereIs_30 ?_
        rw [pk_sub (a := wl) (b := 1) (by omega)]
        refine wt_nicmp_ne (pc := 31) 38 (i) (wl - 1) hc dX3_whereIs_31 (by decide) (by omega) (by omega) (fun c_31 => ?_) (fun c_31 => ?_)
        · refine wt_iconst (pc := 38) (v := nI 0) hc dX3_whereIs_38 (by decide) ?_
          refine wt_istore_4 (pc := 39) hc dX3_whereIs_39 rfl ?_
          refine wt_iload_2 (pc := 41) hc dX3_whereIs_41 ?_
          refine wt_aload_0 (pc := 42) hc dX3_whereIs_42 ?_
          refine tw_geta (pc := 43) 54 hc hE dX3_whereIs_43 q1658 (by decide) (by decide) (fun _ _ _ => rfl) rfl ?_
          refine wt_bipush (pc := 46) (v := nI 8) hc dX3_whereIs_46 (by decide) ?_
          refine wt_iload_1 (pc := 48) hc dX3_whereIs_48 ?_
          refine wt_imul (pc := 49) hc dX3_whereIs_49 ?_
          rw [pk_mul 8 o]
          refine wt_iload_3 (pc := 50) hc dX3_whereIs_50 ?_
          refine wt_iadd (pc := 51) hc dX3_whereIs_51 ?_
          rw [nI_add (8 * o) i]
          refine tw_iald (pc := 52) (k := 54) (8 * o + i) _ hc hE dX3_whereIs_52 rfl (rfl) (by show _ < 40; omega) (by decide) (rfl) ?_
          refine wt_icmp_lt (pc := 53) 88 hc dX3_whereIs_53 (by decide) (fun c_53 => ?_) (fun c_53 => ?_)
          · refine wt_iinc_3 (pc := 88) (v := nI (i + 1)) hc dX3_whereIs_88 (nI_add i 1) rfl ?_
            refine wt_goto (pc := 91) 12 hc dX3_whereIs_91 (by decide) ?_
            first | (rw [if_pos c_53] at hv; exact wt_drop (ih (i + 1) (by omega) hv) ⟨rfl, rfl, rfl, rfl, trivial⟩) | (rw [if_neg c_53, if_neg (show ¬ n = 0 by omega), if_pos c_73] at hv; exact wt_drop (ih (i + 1) (by omega) hv) ⟨rfl, rfl, rfl, rfl, trivial⟩)
          · refine wt_iload_4 (pc := 56) hc dX3_whereIs_56 ?_
            refine wt_if_ne (pc := 58) 76 hc dX3_whereIs_58 (by decide) (fun z => absurd z (by decide)) (fun _ => ?_)
            refine wt_iload_2 (pc := 61) hc dX3_whereIs_61 ?_
            refine wt_aload_0 (pc := 62) hc dX3_whereIs_62 ?_
            refine tw_geta (pc := 63) 55 hc hE dX3_whereIs_63 q1659 (by decide) (by decide) (fun _ _ _ => rfl) rfl ?_
            refine wt_bipush (pc := 66) (v := nI 8) hc dX3_whereIs_66 (by decide) ?_
            refine wt_iload_1 (pc := 68) hc dX3_whereIs_68 ?_
            refine wt_imul (pc := 69) hc dX3_whereIs_69 ?_
            rw [pk_mul 8 o]
            refine wt_iload_3 (pc := 70) hc dX3_whereIs_70 ?_
            refine wt_iadd (pc := 71) hc dX3_whereIs_71 ?_
            rw [nI_add (8 * o) i]
            refine tw_iald (pc := 72) (k := 55) (8 * o + i) _ hc hE dX3_whereIs_72 rfl (rfl) (by show _ < 40; omega) (by decide) (rfl) ?_
            refine wt_icmp_gt (pc := 73) 88 hc dX3_whereIs_73 (by decide) (fun c_73 => ?_) (fun c_73 => ?_)
            · refine wt_iinc_3 (pc := 88) (v := nI (i + 1)) hc dX3_whereIs_88 (nI_add i 1) rfl ?_
              refine wt_goto (pc := 91) 12 hc dX3_whereIs_91 (by decide) ?_
              first | (rw [if_pos c_53] at hv; exact wt_drop (ih (i + 1) (by omega) hv) ⟨rfl, rfl, rfl, rfl, trivial⟩) | (rw [if_neg c_53, if_neg (show ¬ n = 0 by omega), if_pos c_73] at hv; exact wt_drop (ih (i + 1) (by omega) hv) ⟨rfl, rfl, rfl, rfl, trivial⟩)
            · refine wt_aload_0 (pc := 76) hc dX3_whereIs_76 ?_
              refine tw_geta (pc := 77) 10 hc hE dX3_whereIs_77 q1614 (by decide) (by decide) (fun _ _ _ => rfl) rfl ?_
              refine wt_bipush (pc := 80) (v := nI 8) hc dX3_whereIs_80 (by decide) ?_
              refine wt_iload_1 (pc := 82) hc dX3_whereIs_82 ?_
              refine wt_imul (pc := 83) hc dX3_whereIs_83 ?_
              rw [pk_mul 8 o]
              refine wt_iload_3 (pc := 84) hc dX3_whereIs_84 ?_
              refine wt_iadd (pc := 85) hc dX3_whereIs_85 ?_
              rw [nI_add (8 * o) i]
              refine tw_iald (pc := 86) (k := 10) (8 * o + i) _ hc hE dX3_whereIs_86 rfl (rfl) (by show _ < 40; omega) (by decide) (rfl) ?_
              exact wt_iret (pc := 87) hc hok dX3_whereIs_87 (rfl) (fun H hZ => ⟨by first | rw [hv, if_neg c_53, if_pos (show n = 0 by omega)] | rw [hv, if_neg c_53, if_neg (show ¬ n = 0 by omega), if_neg c_73], hZ⟩)
        · refine wt_iconst (pc := 34) (v := nI 1) hc dX3_whereIs_34 (by decide) ?_
          refine wt_goto (pc := 35) 39 hc dX3_whereIs_35 (by decide) ?_
          refine wt_istore_4 (pc := 39) hc dX3_whereIs_39 rfl ?_
          refine wt_iload_2 (pc := 41) hc dX3_whereIs_41 ?_
          refine wt_aload_0 (pc := 42) hc dX3_whereIs_42 ?_
          refine tw_geta (pc := 43) 54 hc hE dX3_whereIs_43 q1658 (by decide) (by decide) (fun _ _ _ => rfl) rfl ?_
          refine wt_bipush (pc := 46) (v := nI 8) hc dX3_whereIs_46 (by decide) ?_
          refine wt_iload_1 (pc := 48) hc dX3_whereIs_48 ?_
          refine wt_imul (pc := 49) hc dX3_whereIs_49 ?_
          rw [pk_mul 8 o]
          refine wt_iload_3 (pc := 50) hc dX3_whereIs_50 ?_
          refine wt_iadd (pc := 51) hc dX3_whereIs_51 ?_
          rw [nI_add (8 * o) i]
          refine tw_iald (pc := 52) (k := 54) (8 * o + i) _ hc hE dX3_whereIs_52 rfl (rfl) (by show _ < 40; omega) (by decide) (rfl) ?_
          refine wt_icmp_lt (pc := 53) 88 hc dX3_whereIs_53 (by decide) (fun c_53 => ?_) (fun c_53 => ?_)
          · refine wt_iinc_3 (pc := 88) (v := nI (i + 1)) hc dX3_whereIs_88 (nI_add i 1) rfl ?_
            refine wt_goto (pc := 91) 12 hc dX3_whereIs_91 (by decide) ?_
            first | (rw [if_pos c_53] at hv; exact wt_drop (ih (i + 1) (by omega) hv) ⟨rfl, rfl, rfl, rfl, trivial⟩) | (rw [if_neg c_53, if_neg (show ¬ n = 0 by omega), if_pos c_73] at hv; exact wt_drop (ih (i + 1) (by omega) hv) ⟨rfl, rfl, rfl, rfl, trivial⟩)
          · refine wt_iload_4 (pc := 56) hc dX3_whereIs_56 ?_
            refine wt_if_ne (pc := 58) 76 hc dX3_whereIs_58 (by decide) (fun _ => ?_) (fun z => absurd z (by decide))
            refine wt_aload_0 (pc := 76) hc dX3_whereIs_76 ?_
            refine tw_geta (pc := 77) 10 hc hE dX3_whereIs_77 q1614 (by decide) (by decide) (fun _ _ _ => rfl) rfl ?_
            refine wt_bipush (pc := 80) (v := nI 8) hc dX3_whereIs_80 (by decide) ?_
            refine wt_iload_1 (pc := 82) hc dX3_whereIs_82 ?_
            refine wt_imul (pc := 83) hc dX3_whereIs_83 ?_
            rw [pk_mul 8 o]
            refine wt_iload_3 (pc := 84) hc dX3_whereIs_84 ?_
            refine wt_iadd (pc := 85) hc dX3_whereIs_85 ?_
            rw [nI_add (8 * o) i]
            refine tw_iald (pc := 86) (k := 10) (8 * o + i) _ hc hE dX3_whereIs_86 rfl (rfl) (by show _ < 40; omega) (by decide) (rfl) ?_
            exact wt_iret (pc := 87) hc hok dX3_whereIs_87 (rfl) (fun H hZ => ⟨by first | rw [hv, if_neg c_53, if_pos (show n = 0 by omega)] | rw [hv, if_neg c_53, if_neg (show ¬ n = 0 by omega), if_neg c_73], hZ⟩)
  refine wt_aload_0 (pc := 0) hc dX3_whereIs_0 ?_
  refine wt_iload_1 (pc := 1) hc dX3_whereIs_1 ?_
  refine wt_gofn (tw_inv (pc := 2) 1 hc hE (ct_nests hE _) dX3_whereIs_2 rfl q1997 q1999 qs82 q116 q2000 (by decide +kernel) rfl (by decide) (by decide) (Nat.le_of_ble_eq_true rfl) rfl) ?_
  refine wt_if_eq (pc := 5) 10 hc dX3_whereIs_5 (by decide) (fun c_5 => ?_) (fun c_5 => ?_)
  · refine wt_iconst (pc := 10) (v := nI 0) hc dX3_whereIs_10 (by decide) ?_
    refine wt_istore_3 (pc := 11) hc dX3_whereIs_11 rfl ?_
    exact wt_drop (loop wl 0 (by omega) (by rw [sp_wh, if_neg (by rw [sp_nb, decide_eq_true_eq]; exact sp_b_0.mp c_5), e9, nn_nI (by omega)])) ⟨rfl, rfl, rfl, rfl, trivial⟩
  · refine wt_iconst (pc := 8) (v := (-1 : Int32)) hc dX3_whereIs_8 (by decide) ?_
    exact wt_iret (pc := 9) hc hok dX3_whereIs_9 (rfl) (fun H hZ => ⟨by rw [sp_wh, if_pos (by rw [sp_nb, decide_eq_true_eq]; exact sp_b_n0 c_5)], hZ⟩)
theorem ct_waitsAt (hE : tw_E G T) (p k a : Nat) (hp : p < 8) (hk : k = 60) (ea : M 11 (4 * p) = nI a) (ha : a < 10) : wt_Ct l G yX3_waitsAt cX3_waitsAt 4 none 1 0 0 [.ref T.1, .int (nI p), .ref (T.2.1 k)] (tw_Z G T M w) (wt_pv (tw_Z G T (sp_waits M p k) w)) := by
  subst hk
  refine wt_enter [some (.ref T.1), some (.int (nI p)), some (.ref (T.2.1 60)), none] (by decide +kernel) rfl (Nat.le_of_ble_eq_true rfl) (fun X hc hok => ?_)
  have loop : ∀ n r : Nat, r ≤ 10 → 10 - r < n → wt_V G X 2 [some (.ref T.1), some (.int (nI p)), some (.ref (T.2.1 60)), some (.int (nI r))] [] (tw_Z G T (sp_fill M 60 r (fun _ => nI 1000000)) w) 0 0 := by
    intro n
    induction n with
    | zero => intro r _ h; omega
    | succ n ih =>
      intro r hr hn
      refine wt_iload_3 (pc := 2) hc dX3_waitsAt_2 ?_
      refine wt_bipush (pc := 3) (v := nI 10) hc dX3_waitsAt_3 (by decide) ?_
      refine wt_nicmp_ge (pc := 5) 20 (r) (10) hc dX3_waitsAt_5 (by decide) (by omega) (by omega) (fun c_5 => ?_) (fun c_5 => ?_)
      · refine wt_aload_2 (pc := 20) hc dX3_waitsAt_20 ?_
        refine wt_aload_0 (pc := 21) hc dX3_waitsAt_21 ?_
        refine tw_geta (pc := 22) 11 hc hE dX3_waitsAt_22 q1615 (by decide) (by decide) (fun _ _ _ => rfl) rfl ?_
        refine wt_iconst (pc := 25) (v := nI 4) hc dX3_waitsAt_25 (by decide) ?_
        refine wt_iload_1 (pc := 26) hc dX3_waitsAt_26 ?_
        refine wt_imul (pc := 27) hc dX3_waitsAt_27 ?_
        rw [pk_mul 4 p]
        refine tw_iald (pc := 28) (k := 11) (4 * p) (nI a) hc hE dX3_waitsAt_28 rfl (rfl) (by show _ < 32; omega) (by decide) (ea) ?_
        refine wt_aload_0 (pc := 29) hc dX3_waitsAt_29 ?_
        refine tw_geta (pc := 30) 11 hc hE dX3_waitsAt_30 q1615 (by decide) (by decide) (fun _ _ _ => rfl) rfl ?_
        refine wt_iconst (pc := 33) (v := nI 4) hc dX3_waitsAt_33 (by decide) ?_
        refine wt_iload_1 (pc := 34) hc dX3_waitsAt_34 ?_
        refine wt_imul (pc := 35) hc dX3_waitsAt_35 ?_
        rw [pk_mul 4 p]
        refine wt_iconst (pc := 36) (v := nI 2) hc dX3_waitsAt_36 (by decide) ?_
        refine wt_iadd (pc := 37) hc dX3_waitsAt_37 ?_
        rw [nI_add (4 * p) 2]
        refine tw_iald (pc := 38) (k := 11) (4 * p + 2) _ hc hE dX3_waitsAt_38 rfl (rfl) (by show _ < 32; omega) (by decide) (rfl) ?_
        refine tw_iast (pc := 39) (k := 60) (a) hc hE dX3_waitsAt_39 rfl (rfl) (by show _ < 10; omega) (by decide) ?_
        exact wt_vret (pc := 40) hc hok dX3_waitsAt_40 (fun H hZ => ⟨rfl, by (have e : r = 10 := by omega); subst e; rw [sp_waits, ea, nn_nI (by omega)]; exact hZ⟩)
      · refine wt_aload_2 (pc := 8) hc dX3_waitsAt_8 ?_
        refine wt_iload_3 (pc := 9) hc dX3_waitsAt_9 ?_
        refine wt_ldcw (pc := 10) (v := nI 1000000) hc dX3_waitsAt_10 q1973 ?_
        refine tw_iast (pc := 13) (k := 60) (r) hc hE dX3_waitsAt_13 rfl (rfl) (by show _ < 10; omega) (by decide) ?_
        refine tw_eq (sp_fill_up M 60 r (fun _ => nI 1000000)) ?_
        refine wt_iinc_3 (pc := 14) (v := nI (r + 1)) hc dX3_waitsAt_14 (nI_add r 1) rfl ?_
        refine wt_goto (pc := 17) 2 hc dX3_waitsAt_17 (by decide) ?_
        exact ih (r + 1) (by omega) (by omega)
  refine wt_iconst (pc := 0) (v := nI 0) hc dX3_waitsAt_0 (by decide) ?_
  refine wt_istore_3 (pc := 1) hc dX3_waitsAt_1 rfl ?_
  rw [← sp_fill_0 M 60 (fun _ => nI 1000000)]
  exact loop 11 0 (by omega) (by omega)
theorem ct_takes (hE : tw_E G T) (k1 o1 k2 o2 o wl : Nat) (ho : o < 5) (hw : sp_way M o wl) (h1 : o1 + 10 ≤ tw_len k1) (h2 : o2 + 10 ≤ tw_len k2) (t1 : tw_ty k1 = 0) (t2 : tw_ty k2 = 0) (s1 : tw_len k1 ≤ 4000) (s2 : tw_len k2 ≤ 4000) (hk : 60 ≤ k2) : wt_Ct l G yX3_takes cX3_takes 10 (some .boolean) 2 0 0 [.ref T.1, .int (nI o), .ref (T.2.1 k1), .int (nI o1), .ref (T.2.1 k2), .int (nI o2)] (tw_Z G T M w) (wt_fn (sp_i (sp_takes M k1 o1 k2 o2 o).2) (tw_Z G T (sp_takes M k1 o1 k2 o2 o).1 w)) := by
  refine wt_enter [some (.ref T.1), some (.int (nI o)), some (.ref (T.2.1 k1)), some (.int (nI o1)), some (.ref (T.2.1 k2)), some (.int (nI o2)), none, none, none, none] (by decide +kernel) rfl (Nat.le_of_ble_eq_true rfl) (fun X hc hok => ?_)
  have loop : ∀ (n i : Nat) (on any : Bool) (M' : wt_It), i + n = wl → sp_way M' o wl → sp_nb M' o = false → sp_takes M k1 o1 k2 o2 o = sp_tk k1 o1 k2 o2 o n i on any M' → wt_V G X 9 [some (.ref T.1), some (.int (nI o)), some (.ref (T.2.1 k1)), some (.int (nI o1)), some (.ref (T.2.1 k2)), some (.int (nI o2)), some (.int (sp_i on)), some (.int (sp_i any)), some (.int (nI i)), none] [] (tw_Z G T M' w) 0 0 := by
    intro n
    induction n with
    | zero =>
      intro i on any M' hi hw hnb hv
      rw [sp_tk] at hv
      obtain ⟨hwl, e9, hway⟩ := hw
      refine wt_iload_8 (pc := 9) hc dX3_takes_9 ?_
      refine wt_aload_0 (pc := 11) hc dX3_takes_11 ?_
      refine tw_geta (pc := 12) 9 hc hE dX3_takes_12 q1613 (by decide) (by decide) (fun _ _ _ => rfl) rfl ?_
      refine wt_iload_1 (pc := 15) hc dX3_takes_15 ?_
      refine tw_iald (pc := 16) (k := 9) (o) (nI wl) hc hE dX3_takes_16 rfl (rfl) (by show _ < 5; omega) (by decide) (e9) ?_
      refine wt_nicmp_ge (pc := 17) 132 (i) (wl) hc dX3_takes_17 (by decide) (by omega) (by omega) (fun c_17 => ?_) (fun c_17 => ?_)
      · refine wt_iload_7 (pc := 132) hc dX3_takes_132 ?_
        exact wt_iret (pc := 134) hc hok dX3_takes_134 (by cases any <;> rfl) (fun H hZ => ⟨by rw [hv], by rw [hv]; exact hZ⟩)
      · omega
    | succ n ih =>
      intro i on any M' hi hw hnb hv
      rw [sp_tk] at hv
      obtain ⟨hwl, e9, hway⟩ := hw
      obtain ⟨r, hr, er⟩ := hway i (by omega)
      rw [er, nn_nI (by omega)] at hv
      refine wt_iload_8 (pc := 9) hc dX3_takes_9 ?_
      refine wt_aload_0 (pc := 11) hc dX3_takes_11 ?_
      refine tw_geta (pc := 12) 9 hc hE dX3_takes_12 q1613 (by decide) (by decide) (fun _ _ _ => rfl) rfl ?_
      refine wt_iload_1 (pc := 15) hc dX3_takes_15 ?_
      refine tw_iald (pc := 16) (k := 9) (o) (nI wl) hc hE dX3_takes_16 rfl (rfl) (by show _ < 5; omega) (by decide) (e9) ?_
      refine wt_nicmp_ge (pc := 17) 132 (i) (wl) hc dX3_takes_17 (by decide) (by omega) (by omega) (fun c_17 => ?_) (fun c_17 => ?_)
      · omega
      · refine wt_aload_0 (pc := 20) hc dX3_takes_20 ?_
        refine wt_iload_1 (pc := 21) hc dX3_takes_21 ?_
        refine wt_gofn (tw_inv (pc := 22) 1 hc hE (ct_nests hE _) dX3_takes_22 rfl q1997 q1999 qs82 q116 q2000 (by decide +kernel) rfl (by decide) (by decide) (Nat.le_of_ble_eq_true rfl) rfl) ?_
        refine wt_if_ne (pc := 25) 132 hc dX3_takes_25 (by decide) (fun c_25 => ?_) (fun c_25 => ?_)
        · exact absurd (sp_b_n0 c_25) (by rw [sp_nb, decide_eq_false_iff_not] at hnb; exact hnb)
        · cases on with
          | false =>
            rw [if_neg (fun z => by cases z.1)] at hv
            refine wt_aload_0 (pc := 28) hc dX3_takes_28 ?_
            refine tw_geta (pc := 29) 10 hc hE dX3_takes_29 q1614 (by decide) (by decide) (fun _ _ _ => rfl) rfl ?_
            refine wt_bipush (pc := 32) (v := nI 8) hc dX3_takes_32 (by decide) ?_
            refine wt_iload_1 (pc := 34) hc dX3_takes_34 ?_
            refine wt_imul (pc := 35) hc dX3_takes_35 ?_
            rw [pk_mul 8 o]
            refine wt_iload_8 (pc := 36) hc dX3_takes_36 ?_
            refine wt_iadd (pc := 38) hc dX3_takes_38 ?_
            rw [nI_add (8 * o) i]
            refine tw_iald (pc := 39) (k := 10) (8 * o + i) (nI r) hc hE dX3_takes_39 rfl (rfl) (by show _ < 40; omega) (by decide) (er) ?_
            refine wt_istore_9 (pc := 40) hc dX3_takes_40 rfl ?_
            refine wt_iload_6 (pc := 42) hc dX3_takes_42 ?_
            refine wt_if_eq (pc := 44) 93 hc dX3_takes_44 (by decide) (fun _ => ?_) (fun z => absurd z (by decide))
            refine wt_iload_6 (pc := 93) hc dX3_takes_93 ?_
            refine wt_if_ne (pc := 95) 119 hc dX3_takes_95 (by decide) (fun z => absurd z (by decide)) (fun _ => ?_)
            refine wt_aload_2 (pc := 98) hc dX3_takes_98 ?_
            refine wt_iload_3 (pc := 99) hc dX3_takes_99 ?_
            refine wt_iload_9 (pc := 100) hc dX3_takes_100 ?_
            refine wt_iadd (pc := 102) hc dX3_takes_102 ?_
            rw [nI_add o1 r]
            refine tw_iald (pc := 103) (k := k1) (o1 + r) _ hc hE dX3_takes_103 t1 (rfl) (by omega) (by omega) (rfl) ?_
            refine wt_aload_0 (pc := 104) hc dX3_takes_104 ?_
            refine tw_geta (pc := 105) 55 hc hE dX3_takes_105 q1659 (by decide) (by decide) (fun _ _ _ => rfl) rfl ?_
            refine wt_bipush (pc := 108) (v := nI 8) hc dX3_takes_108 (by decide) ?_
            refine wt_iload_1 (pc := 110) hc dX3_takes_110 ?_
            refine wt_imul (pc := 111) hc dX3_takes_111 ?_
            rw [pk_mul 8 o]
            refine wt_iload_8 (pc := 112) hc dX3_takes_112 ?_
            refine wt_iadd (pc := 114) hc dX3_takes_114 ?_
            rw [nI_add (8 * o) i]
            refine tw_iald (pc := 115) (k := 55) (8 * o + i) _ hc hE dX3_takes_115 rfl (rfl) (by show _ < 40; omega) (by decide) (rfl) ?_
            refine wt_icmp_gt (pc := 116) 123 hc dX3_takes_116 (by decide) (fun c_116 => ?_) (fun c_116 => ?_)
            · refine wt_iconst (pc := 123) (v := nI 0) hc dX3_takes_123 (by decide) ?_
              refine wt_istore_6 (pc := 124) hc dX3_takes_124 rfl ?_
              refine wt_iinc_8 (pc := 126) (v := nI (i + 1)) hc dX3_takes_126 (nI_add i 1) rfl ?_
              refine wt_goto (pc := 129) 9 hc dX3_takes_129 (by decide) ?_
              first | (rw [show (false || decide (M' k1 (o1 + r) ≤ M' 55 (8 * o + i))) = false from by rw [Bool.false_or, decide_eq_false_iff_not]; exact Int32.not_le.mpr c_116] at hv; exact wt_drop (ih (i + 1) false any M' (by omega) ⟨hwl, e9, hway⟩ hnb hv) ⟨rfl, rfl, rfl, rfl, rfl, rfl, rfl, rfl, rfl, trivial⟩) | (rw [show (false || decide (M' k1 (o1 + r) ≤ M' 55 (8 * o + i))) = true from by rw [Bool.false_or, decide_eq_true_eq]; exact Int32.not_lt.mp c_116] at hv; exact wt_drop (ih (i + 1) true any M' (by omega) ⟨hwl, e9, hway⟩ hnb hv) ⟨rfl, rfl, rfl, rfl, rfl, rfl, rfl, rfl, rfl, trivial⟩)
            · refine wt_iconst (pc := 119) (v := nI 1) hc dX3_takes_119 (by decide) ?_
              refine wt_goto (pc := 120) 124 hc dX3_takes_120 (by decide) ?_
              refine wt_istore_6 (pc := 124) hc dX3_takes_124 rfl ?_
              refine wt_iinc_8 (pc := 126) (v := nI (i + 1)) hc dX3_takes_126 (nI_add i 1) rfl ?_
              refine wt_goto (pc := 129) 9 hc dX3_takes_129 (by decide) ?_
              first | (rw [show (false || decide (M' k1 (o1 + r) ≤ M' 55 (8 * o + i))) = false from by rw [Bool.false_or, decide_eq_false_iff_not]; exact Int32.not_le.mpr c_116] at hv; exact wt_drop (ih (i + 1) false any M' (by omega) ⟨hwl, e9, hway⟩ hnb hv) ⟨rfl, rfl, rfl, rfl, rfl, rfl, rfl, rfl, rfl, trivial⟩) | (rw [show (false || decide (M' k1 (o1 + r) ≤ M' 55 (8 * o + i))) = true from by rw [Bool.false_or, decide_eq_true_eq]; exact Int32.not_lt.mp c_116] at hv; exact wt_drop (ih (i + 1) true any M' (by omega) ⟨hwl, e9, hway⟩ hnb hv) ⟨rfl, rfl, rfl, rfl, rfl, rfl, rfl, rfl, rfl, trivial⟩)
          | true =>
            refine wt_aload_0 (pc := 28) hc dX3_takes_28 ?_
            refine tw_geta (pc := 29) 10 hc hE dX3_takes_29 q1614 (by decide) (by decide) (fun _ _ _ => rfl) rfl ?_
            refine wt_bipush (pc := 32) (v := nI 8) hc dX3_takes_32 (by decide) ?_
            refine wt_iload_1 (pc := 34) hc dX3_takes_34 ?_
            refine wt_imul (pc := 35) hc dX3_takes_35 ?_
            rw [pk_mul 8 o]
            refine wt_iload_8 (pc := 36) hc dX3_takes_36 ?_
            refine wt_iadd (pc := 38) hc dX3_takes_38 ?_
            rw [nI_add (8 * o) i]
            refine tw_iald (pc := 39) (k := 10) (8 * o + i) (nI r) hc hE dX3_takes_39 rfl (rfl) (by show _ < 40; omega) (by decide) (er) ?_
            refine wt_istore_9 (pc := 40) hc dX3_takes_40 rfl ?_
            refine wt_iload_6 (pc := 42) hc dX3_takes_42 ?_
            refine wt_if_eq (pc := 44) 93 hc dX3_takes_44 (by decide) (fun z => absurd z (by decide)) (fun _ => ?_)
            refine wt_aload_0 (pc := 47) hc dX3_takes_47 ?_
            refine tw_geta (pc := 48) 54 hc hE dX3_takes_48 q1658 (by decide) (by decide) (fun _ _ _ => rfl) rfl ?_
            refine wt_bipush (pc := 51) (v := nI 8) hc dX3_takes_51 (by decide) ?_
            refine wt_iload_1 (pc := 53) hc dX3_takes_53 ?_
            refine wt_imul (pc := 54) hc dX3_takes_54 ?_
            rw [pk_mul 8 o]
            refine wt_iload_8 (pc := 55) hc dX3_takes_55 ?_
            refine wt_iadd (pc := 57) hc dX3_takes_57 ?_
            rw [nI_add (8 * o) i]
            refine tw_iald (pc := 58) (k := 54) (8 * o + i) _ hc hE dX3_takes_58 rfl (rfl) (by show _ < 40; omega) (by decide) (rfl) ?_
            refine wt_aload_4 (pc := 59) hc dX3_takes_59 ?_
            refine wt_iload_5 (pc := 61) hc dX3_takes_61 ?_
            refine wt_iload_9 (pc := 63) hc dX3_takes_63 ?_
            refine wt_iadd (pc := 65) hc dX3_takes_65 ?_
            rw [nI_add o2 r]
            refine tw_iald (pc := 66) (k := k2) (o2 + r) _ hc hE dX3_takes_66 t2 (rfl) (by omega) (by omega) (rfl) ?_
            refine wt_icmp_ge (pc := 67) 93 hc dX3_takes_67 (by decide) (fun c_67 => ?_) (fun c_67 => ?_)
            · rw [if_neg (fun z => z.2 c_67), Bool.true_or] at hv
              refine wt_iload_6 (pc := 93) hc dX3_takes_93 ?_
              refine wt_if_ne (pc := 95) 119 hc dX3_takes_95 (by decide) (fun _ => ?_) (fun z => absurd z (by decide))
              refine wt_iconst (pc := 119) (v := nI 1) hc dX3_takes_119 (by decide) ?_
              refine wt_goto (pc := 120) 124 hc dX3_takes_120 (by decide) ?_
              refine wt_istore_6 (pc := 124) hc dX3_takes_124 rfl ?_
              refine wt_iinc_8 (pc := 126) (v := nI (i + 1)) hc dX3_takes_126 (nI_add i 1) rfl ?_
              refine wt_goto (pc := 129) 9 hc dX3_takes_129 (by decide) ?_
              exact wt_drop (ih (i + 1) true any M' (by omega) ⟨hwl, e9, hway⟩ hnb hv) ⟨rfl, rfl, rfl, rfl, rfl, rfl, rfl, rfl, rfl, trivial⟩
            · rw [if_pos ⟨rfl, c_67⟩] at hv
              refine wt_aload_4 (pc := 70) hc dX3_takes_70 ?_
              refine wt_iload_5 (pc := 72) hc dX3_takes_72 ?_
              refine wt_iload_9 (pc := 74) hc dX3_takes_74 ?_
              refine wt_iadd (pc := 76) hc dX3_takes_76 ?_
              rw [nI_add o2 r]
              refine wt_aload_0 (pc := 77) hc dX3_takes_77 ?_
              refine tw_geta (pc := 78) 54 hc hE dX3_takes_78 q1658 (by decide) (by decide) (fun _ _ _ => rfl) rfl ?_
              refine wt_bipush (pc := 81) (v := nI 8) hc dX3_takes_81 (by decide) ?_
              refine wt_iload_1 (pc := 83) hc dX3_takes_83 ?_
              refine wt_imul (pc := 84) hc dX3_takes_84 ?_
              rw [pk_mul 8 o]
              refine wt_iload_8 (pc := 85) hc dX3_takes_85 ?_
              refine wt_iadd (pc := 87) hc dX3_takes_87 ?_
              rw [nI_add (8 * o) i]
              refine tw_iald (pc := 88) (k := 54) (8 * o + i) _ hc hE dX3_takes_88 rfl (rfl) (by show _ < 40; omega) (by decide) (rfl) ?_
              refine tw_iast (pc := 89) (k := k2) (o2 + r) hc hE dX3_takes_89 t2 (rfl) (by omega) (by omega) ?_
              refine wt_iconst (pc := 90) (v := nI 1) hc dX3_takes_90 (by decide) ?_
              refine wt_istore_7 (pc := 91) hc dX3_takes_91 rfl ?_
              refine wt_iload_6 (pc := 93) hc dX3_takes_93 ?_
              refine wt_if_ne (pc := 95) 119 hc dX3_takes_95 (by decide) (fun _ => ?_) (fun z => absurd z (by decide))
              refine wt_iconst (pc := 119) (v := nI 1) hc dX3_takes_119 (by decide) ?_
              refine wt_goto (pc := 120) 124 hc dX3_takes_120 (by decide) ?_
              refine wt_istore_6 (pc := 124) hc dX3_takes_124 rfl ?_
              refine wt_iinc_8 (pc := 126) (v := nI (i + 1)) hc dX3_takes_126 (nI_add i 1) rfl ?_
              refine wt_goto (pc := 129) 9 hc dX3_takes_129 (by decide) ?_
              exact wt_drop (ih (i + 1) true true _ (by omega) ⟨hwl, (congrFun (wt_up2_row (by omega)) _).trans e9, fun i hi => by rw [show wt_up2 M' k2 (o2 + r) (M' 54 (8 * o + _)) 10 = M' 10 from wt_up2_row (by omega)]; exact hway i hi⟩ (by unfold sp_nb; rw [show wt_up2 M' k2 (o2 + r) (M' 54 (8 * o + i)) 47 = M' 47 from wt_up2_row (by omega)]; exact hnb) hv) ⟨rfl, rfl, rfl, rfl, rfl, rfl, rfl, rfl, rfl, trivial⟩
  by_cases hnb : sp_nb M o = true
  · have hv : sp_takes M k1 o1 k2 o2 o = (M, false) := by rw [sp_takes, if_pos hnb]
    obtain ⟨hwl, e9, hway⟩ := hw
    refine wt_iconst (pc := 0) (v := nI 0) hc dX3_takes_0 (by decide) ?_
    refine wt_istore_6 (pc := 1) hc dX3_takes_1 rfl ?_
    refine wt_iconst (pc := 3) (v := nI 0) hc dX3_takes_3 (by decide) ?_
    refine wt_istore_7 (pc := 4) hc dX3_takes_4 rfl ?_
    refine wt_iconst (pc := 6) (v := nI 0) hc dX3_takes_6 (by decide) ?_
    refine wt_istore_8 (pc := 7) hc dX3_takes_7 rfl ?_
    refine wt_iload_8 (pc := 9) hc dX3_takes_9 ?_
    refine wt_aload_0 (pc := 11) hc dX3_takes_11 ?_
    refine tw_geta (pc := 12) 9 hc hE dX3_takes_12 q1613 (by decide) (by decide) (fun _ _ _ => rfl) rfl ?_
    refine wt_iload_1 (pc := 15) hc dX3_takes_15 ?_
    refine tw_iald (pc := 16) (k := 9) (o) (nI wl) hc hE dX3_takes_16 rfl (rfl) (by show _ < 5; omega) (by decide) (e9) ?_
    refine wt_nicmp_ge (pc := 17) 132 (0) (wl) hc dX3_takes_17 (by decide) (by omega) (by omega) (fun c_17 => ?_) (fun c_17 => ?_)
    · refine wt_iload_7 (pc := 132) hc dX3_takes_132 ?_
      exact wt_iret (pc := 134) hc hok dX3_takes_134 (rfl) (fun H hZ => ⟨by rw [hv]; rfl, by rw [hv]; exact hZ⟩)
    · refine wt_aload_0 (pc := 20) hc dX3_takes_20 ?_
      refine wt_iload_1 (pc := 21) hc dX3_takes_21 ?_
      refine wt_gofn (tw_inv (pc := 22) 1 hc hE (ct_nests hE _) dX3_takes_22 rfl q1997 q1999 qs82 q116 q2000 (by decide +kernel) rfl (by decide) (by decide) (Nat.le_of_ble_eq_true rfl) rfl) ?_
      refine wt_if_ne (pc := 25) 132 hc dX3_takes_25 (by decide) (fun c_25 => ?_) (fun c_25 => ?_)
      · refine wt_iload_7 (pc := 132) hc dX3_takes_132 ?_
        exact wt_iret (pc := 134) hc hok dX3_takes_134 (rfl) (fun H hZ => ⟨by rw [hv]; rfl, by rw [hv]; exact hZ⟩)
      · exact absurd (of_decide_eq_true hnb) (sp_b_0.mp c_25)
  · have hv : sp_takes M k1 o1 k2 o2 o = sp_tk k1 o1 k2 o2 o wl 0 false false M := by rw [sp_takes, if_neg hnb, hw.2.1, nn_nI (by have := hw.1; omega)]
    refine wt_iconst (pc := 0) (v := nI 0) hc dX3_takes_0 (by decide) ?_
    refine wt_istore_6 (pc := 1) hc dX3_takes_1 rfl ?_
    refine wt_iconst (pc := 3) (v := nI 0) hc dX3_takes_3 (by decide) ?_
    refine wt_istore_7 (pc := 4) hc dX3_takes_4 rfl ?_
    refine wt_iconst (pc := 6) (v := nI 0) hc dX3_takes_6 (by decide) ?_
    refine wt_istore_8 (pc := 7) hc dX3_takes_7 rfl ?_
    exact loop wl 0 false false M (by omega) hw (by simpa using hnb) hv
end TF
