/-! THE REFERENCE: together, owl, stop, roof, count -/
set_option maxRecDepth 100000
def sp_owV (N : wt_It) (o : Nat) (k : Int32) : Int32 := if k = nI 0 then N 8 o else if k = nI 1 then N 47 (14 + o) else if k = nI 2 then N 9 o else if k = nI 3 then sp_night N 57 o else if k = nI 4 then sp_i (sp_nb N o) else sp_tg (sp_night N) o (nn (N 0 3)) (nn (N 0 6) + 1)
def sp_stV (N : wt_It) (o i : Nat) (k : Int32) : Int32 := if k = 0 then N 10 (8 * o + i) else if sp_nb N o = true then -1 else if k = nI 1 then sp_night N 54 (8 * o + i) else sp_night N 55 (8 * o + i)
def sp_roV (N : wt_It) (r : Nat) (k : Int32) : Int32 := if k = nI 0 then N 47 (4 + r) else if k = nI 1 then nI 2 * N 47 (4 + r) else if k = nI 2 then sp_night N 56 r else if k = nI 3 then sp_rr (N 11) (nI r) (nn (N 0 4)) else sp_rf (N 7) r (nn (N 0 1))
def sp_coV (N : wt_It) (k : Int32) : Int32 := if k = nI 0 then N 0 1 else if k = nI 1 then N 0 2 else if k = nI 2 then N 0 3 else if k = nI 3 then N 0 4 else if k = nI 4 then N 0 5 else if k = nI 5 then N 47 0 else if k = nI 6 then N 0 6 else if k = nI 7 then N 47 1 else if k = nI 8 then N 47 2 else if k = nI 9 then N 47 3 else if k = nI 10 then sp_hv N else if k = nI 11 then N 0 50 else if k = nI 12 then N 0 67 else if k = nI 13 then N 0 15 else N 18 (nn k - 14)
section TJ
variable {l : Launch} {G : wt_G} {Z : Heap → Prop} {T : tw_T} {M N : wt_It} {w : Int64}
theorem ct_together (hE : tw_E G T) (ro ow ri o d : Nat) (hC : sp_cty M ro ow ri) (ho : o < ow) (hd : M 0 6 = nI d) (hd2 : d ≤ 600) : wt_Ct l G yX3_together cX3_together 7 (some .int) 3 0 0 [.ref T.1, .int (nI o)] (tw_Z G T M w) (wt_fn (sp_tg M o ow (d + 1)) (tw_Z G T M w)) := by
  have how := hC.2.1
  refine wt_enter [some (.ref T.1), some (.int (nI o)), none, none, none, none, none] (by decide +kernel) rfl (Nat.le_of_ble_eq_true rfl) (fun X hc hok => ?_)
  have inner : ∀ (n k m : Nat) (a : Int32), k + n = ow → m ≤ d → wt_V G X 4 [some (.ref T.1), some (.int (nI o)), some (.int (a + sp_i (sp_tgK M o (sp_wh M o (nI m)) (nI m) ow))), some (.int (nI (m + 1))), none, none, none] [] (tw_Z G T M w) 0 0 → wt_V G X 26 [some (.ref T.1), some (.int (nI o)), some (.int a), some (.int (nI m)), some (.int (sp_wh M o (nI m))), some (.int (sp_i (sp_tgK M o (sp_wh M o (nI m)) (nI m) k))), some (.int (nI k))] [] (tw_Z G T M w) 0 0 := by
    intro n
    induction n with
    | zero =>
      intro k m a hk hm hend
      have e : k = ow := by omega
      subst e
      refine wt_iload_6 (pc := 26) hc dX3_together_26 ?_
      refine wt_aload_0 (pc := 28) hc dX3_together_28 ?_
      refine tw_get (pc := 29) 3 (nI k) hc hE dX3_together_29 q1607 (by decide) (fun _ _ _ => rfl) rfl (hC.2.2.2.2.1) ?_
      refine wt_nicmp_ge (pc := 32) 77 (k) (k) hc dX3_together_32 (by decide) (by omega) (by omega) (fun c_32 => ?_) (fun c_32 => ?_)
      · cases hv : sp_tgK M o (sp_wh M o (nI m)) (nI m) k with
        | true =>
          rw [hv] at hend
          refine wt_iload_2 (pc := 77) hc dX3_together_77 ?_
          refine wt_iload_5 (pc := 78) hc dX3_together_78 ?_
          refine wt_if_eq (pc := 80) 87 hc dX3_together_80 (by decide) (fun z => absurd z (by decide)) (fun _ => ?_)
          refine wt_iconst (pc := 83) (v := nI 1) hc dX3_together_83 (by decide) ?_
          refine wt_goto (pc := 84) 88 hc dX3_together_84 (by decide) ?_
          refine wt_iadd (pc := 88) hc dX3_together_88 ?_
          refine wt_istore_2 (pc := 89) hc dX3_together_89 rfl ?_
          refine wt_iinc_3 (pc := 90) (v := nI (m + 1)) hc dX3_together_90 (nI_add m 1) rfl ?_
          refine wt_goto (pc := 93) 4 hc dX3_together_93 (by decide) ?_
          exact wt_drop hend ⟨rfl, rfl, rfl, rfl, trivial⟩
        | false =>
          rw [hv] at hend
          refine wt_iload_2 (pc := 77) hc dX3_together_77 ?_
          refine wt_iload_5 (pc := 78) hc dX3_together_78 ?_
          refine wt_if_eq (pc := 80) 87 hc dX3_together_80 (by decide) (fun _ => ?_) (fun z => absurd z (by decide))
          refine wt_iconst (pc := 87) (v := nI 0) hc dX3_together_87 (by decide) ?_
          refine wt_iadd (pc := 88) hc dX3_together_88 ?_
          refine wt_istore_2 (pc := 89) hc dX3_together_89 rfl ?_
          refine wt_iinc_3 (pc := 90) (v := nI (m + 1)) hc dX3_together_90 (nI_add m 1) rfl ?_
          refine wt_goto (pc := 93) 4 hc dX3_together_93 (by decide) ?_
          exact wt_drop hend ⟨rfl, rfl, rfl, rfl, trivial⟩
      · omega
    | succ n ih =>
      intro k m a hk hm hend
      have ih' := ih (k + 1) m a (by omega) hm hend
      obtain ⟨wl, hw⟩ := hC.2.2.2.2.2.2.1 k (by omega)
      rw [sp_tgK] at ih'
      refine wt_iload_6 (pc := 26) hc dX3_together_26 ?_
      refine wt_aload_0 (pc := 28) hc dX3_together_28 ?_
      refine tw_get (pc := 29) 3 (nI ow) hc hE dX3_together_29 q1607 (by decide) (fun _ _ _ => rfl) rfl (hC.2.2.2.2.1) ?_
      refine wt_nicmp_ge (pc := 32) 77 (k) (ow) hc dX3_together_32 (by decide) (by omega) (by omega) (fun c_32 => ?_) (fun c_32 => ?_)
      · omega
      · cases hv : sp_tgK M o (sp_wh M o (nI m)) (nI m) k with
        | true =>
          rw [hv, Bool.true_or] at ih'
          refine wt_iload_5 (pc := 35) hc dX3_together_35 ?_
          refine wt_if_ne (pc := 37) 64 hc dX3_together_37 (by decide) (fun _ => ?_) (fun z => absurd z (by decide))
          refine wt_iconst (pc := 64) (v := nI 1) hc dX3_together_64 (by decide) ?_
          refine wt_goto (pc := 65) 69 hc dX3_together_65 (by decide) ?_
          refine wt_istore_5 (pc := 69) hc dX3_together_69 rfl ?_
          refine wt_iinc_6 (pc := 71) (v := nI (k + 1)) hc dX3_together_71 (nI_add k 1) rfl ?_
          refine wt_goto (pc := 74) 26 hc dX3_together_74 (by decide) ?_
          exact ih'
        | false =>
          rw [hv, Bool.false_or] at ih'
          refine wt_iload_5 (pc := 35) hc dX3_together_35 ?_
          refine wt_if_ne (pc := 37) 64 hc dX3_together_37 (by decide) (fun z => absurd z (by decide)) (fun _ => ?_)
          refine wt_iload_6 (pc := 40) hc dX3_together_40 ?_
          refine wt_iload_1 (pc := 42) hc dX3_together_42 ?_
          refine wt_nicmp_eq (pc := 43) 68 (k) (o) hc dX3_together_43 (by decide) (by omega) (by omega) (fun c_43 => ?_) (fun c_43 => ?_)
          · refine wt_iconst (pc := 68) (v := nI 0) hc dX3_together_68 (by decide) ?_
            refine wt_istore_5 (pc := 69) hc dX3_together_69 rfl ?_
            refine wt_iinc_6 (pc := 71) (v := nI (k + 1)) hc dX3_together_71 (nI_add k 1) rfl ?_
            refine wt_goto (pc := 74) 26 hc dX3_together_74 (by decide) ?_
            first | (rw [show (decide (k ≠ o)) = false from decide_eq_false (fun z => z (by omega)), Bool.false_and] at ih'; exact ih') | (rw [show (decide (sp_wh M o (nI m) ≠ -1)) = false from decide_eq_false (fun z => z c_49), Bool.false_and, Bool.and_false] at ih'; exact ih') | (rw [decide_eq_true (show k ≠ o from by omega), decide_eq_true (show sp_wh M o (nI m) ≠ -1 from c_49), Bool.true_and, Bool.true_and, decide_eq_true c_61] at ih'; exact ih') | (rw [decide_eq_true (show k ≠ o from by omega), decide_eq_true (show sp_wh M o (nI m) ≠ -1 from c_49), Bool.true_and, Bool.true_and, decide_eq_false c_61] at ih'; exact ih')
          · refine wt_iload_4 (pc := 46) hc dX3_together_46 ?_
            refine wt_iconst (pc := 48) (v := (-1 : Int32)) hc dX3_together_48 (by decide) ?_
            refine wt_icmp_eq (pc := 49) 68 hc dX3_together_49 (by decide) (fun c_49 => ?_) (fun c_49 => ?_)
            · refine wt_iconst (pc := 68) (v := nI 0) hc dX3_together_68 (by decide) ?_
              refine wt_istore_5 (pc := 69) hc dX3_together_69 rfl ?_
              refine wt_iinc_6 (pc := 71) (v := nI (k + 1)) hc dX3_together_71 (nI_add k 1) rfl ?_
              refine wt_goto (pc := 74) 26 hc dX3_together_74 (by decide) ?_
              first | (rw [show (decide (k ≠ o)) = false from decide_eq_false (fun z => z (by omega)), Bool.false_and] at ih'; exact ih') | (rw [show (decide (sp_wh M o (nI m) ≠ -1)) = false from decide_eq_false (fun z => z c_49), Bool.false_and, Bool.and_false] at ih'; exact ih') | (rw [decide_eq_true (show k ≠ o from by omega), decide_eq_true (show sp_wh M o (nI m) ≠ -1 from c_49), Bool.true_and, Bool.true_and, decide_eq_true c_61] at ih'; exact ih') | (rw [decide_eq_true (show k ≠ o from by omega), decide_eq_true (show sp_wh M o (nI m) ≠ -1 from c_49), Bool.true_and, Bool.true_and, decide_eq_false c_61] at ih'; exact ih')
            · refine wt_aload_0 (pc := 52) hc dX3_together_52 ?_
              refine wt_iload_6 (pc := 53) hc dX3_together_53 ?_
              refine wt_iload_3 (pc := 55) hc dX3_together_55 ?_
              refine wt_gofn (tw_inv (pc := 56) 2 hc hE (ct_whereIs hE k _ wl (by omega) hw) dX3_together_56 rfl q2064 q2066 qs95 q116 q2067 (by decide +kernel) rfl (by decide) (by decide) (Nat.le_of_ble_eq_true rfl) rfl) ?_
              refine wt_iload_4 (pc := 59) hc dX3_together_59 ?_
              refine wt_icmp_ne (pc := 61) 68 hc dX3_together_61 (by decide) (fun c_61 => ?_) (fun c_61 => ?_)
              · refine wt_iconst (pc := 68) (v := nI 0) hc dX3_together_68 (by decide) ?_
                refine wt_istore_5 (pc := 69) hc dX3_together_69 rfl ?_
                refine wt_iinc_6 (pc := 71) (v := nI (k + 1)) hc dX3_together_71 (nI_add k 1) rfl ?_
                refine wt_goto (pc := 74) 26 hc dX3_together_74 (by decide) ?_
                first | (rw [show (decide (k ≠ o)) = false from decide_eq_false (fun z => z (by omega)), Bool.false_and] at ih'; exact ih') | (rw [show (decide (sp_wh M o (nI m) ≠ -1)) = false from decide_eq_false (fun z => z c_49), Bool.false_and, Bool.and_false] at ih'; exact ih') | (rw [decide_eq_true (show k ≠ o from by omega), decide_eq_true (show sp_wh M o (nI m) ≠ -1 from c_49), Bool.true_and, Bool.true_and, decide_eq_true c_61] at ih'; exact ih') | (rw [decide_eq_true (show k ≠ o from by omega), decide_eq_true (show sp_wh M o (nI m) ≠ -1 from c_49), Bool.true_and, Bool.true_and, decide_eq_false c_61] at ih'; exact ih')
              · refine wt_iconst (pc := 64) (v := nI 1) hc dX3_together_64 (by decide) ?_
                refine wt_goto (pc := 65) 69 hc dX3_together_65 (by decide) ?_
                refine wt_istore_5 (pc := 69) hc dX3_together_69 rfl ?_
                refine wt_iinc_6 (pc := 71) (v := nI (k + 1)) hc dX3_together_71 (nI_add k 1) rfl ?_
                refine wt_goto (pc := 74) 26 hc dX3_together_74 (by decide) ?_
                first | (rw [show (decide (k ≠ o)) = false from decide_eq_false (fun z => z (by omega)), Bool.false_and] at ih'; exact ih') | (rw [show (decide (sp_wh M o (nI m) ≠ -1)) = false from decide_eq_false (fun z => z c_49), Bool.false_and, Bool.and_false] at ih'; exact ih') | (rw [decide_eq_true (show k ≠ o from by omega), decide_eq_true (show sp_wh M o (nI m) ≠ -1 from c_49), Bool.true_and, Bool.true_and, decide_eq_true c_61] at ih'; exact ih') | (rw [decide_eq_true (show k ≠ o from by omega), decide_eq_true (show sp_wh M o (nI m) ≠ -1 from c_49), Bool.true_and, Bool.true_and, decide_eq_false c_61] at ih'; exact ih')
  obtain ⟨wo, hwo⟩ := hC.2.2.2.2.2.2.1 o ho
  have outer : ∀ (n m : Nat), m + n = d + 1 → wt_V G X 4 [some (.ref T.1), some (.int (nI o)), some (.int (sp_tg M o ow m)), some (.int (nI m)), none, none, none] [] (tw_Z G T M w) 0 0 := by
    intro n
    induction n with
    | zero =>
      intro m hm
      have e : m = d + 1 := by omega
      subst e
      refine wt_iload_3 (pc := 4) hc dX3_together_4 ?_
      refine wt_aload_0 (pc := 5) hc dX3_together_5 ?_
      refine tw_get (pc := 6) 6 (nI d) hc hE dX3_together_6 q1610 (by decide) (fun _ _ _ => rfl) rfl (hd) ?_
      refine wt_nicmp_gt (pc := 9) 96 (d + 1) (d) hc dX3_together_9 (by decide) (by omega) (by omega) (fun c_9 => ?_) (fun c_9 => ?_)
      · refine wt_iload_2 (pc := 96) hc dX3_together_96 ?_
        exact wt_iret (pc := 97) hc hok dX3_together_97 (rfl) (fun H hZ => ⟨rfl, hZ⟩)
      · omega
    | succ n ih =>
      intro m hm
      refine wt_iload_3 (pc := 4) hc dX3_together_4 ?_
      refine wt_aload_0 (pc := 5) hc dX3_together_5 ?_
      refine tw_get (pc := 6) 6 (nI d) hc hE dX3_together_6 q1610 (by decide) (fun _ _ _ => rfl) rfl (hd) ?_
      refine wt_nicmp_gt (pc := 9) 96 (m) (d) hc dX3_together_9 (by decide) (by omega) (by omega) (fun c_9 => ?_) (fun c_9 => ?_)
      · omega
      · refine wt_aload_0 (pc := 12) hc dX3_together_12 ?_
        refine wt_iload_1 (pc := 13) hc dX3_together_13 ?_
        refine wt_iload_3 (pc := 14) hc dX3_together_14 ?_
        refine wt_gofn (tw_inv (pc := 15) 2 hc hE (ct_whereIs hE o _ wo (by omega) hwo) dX3_together_15 rfl q2064 q2066 qs95 q116 q2067 (by decide +kernel) rfl (by decide) (by decide) (Nat.le_of_ble_eq_true rfl) rfl) ?_
        refine wt_istore_4 (pc := 18) hc dX3_together_18 rfl ?_
        refine wt_iconst (pc := 20) (v := nI 0) hc dX3_together_20 (by decide) ?_
        refine wt_istore_5 (pc := 21) hc dX3_together_21 rfl ?_
        refine wt_iconst (pc := 23) (v := nI 0) hc dX3_together_23 (by decide) ?_
        refine wt_istore_6 (pc := 24) hc dX3_together_24 rfl ?_
        exact inner ow 0 m _ (by omega) (by omega) (ih (m + 1) (by omega))
  refine wt_iconst (pc := 0) (v := nI 0) hc dX3_together_0 (by decide) ?_
  refine wt_istore_2 (pc := 1) hc dX3_together_1 rfl ?_
  refine wt_iconst (pc := 2) (v := nI 0) hc dX3_together_2 (by decide) ?_
  refine wt_istore_3 (pc := 3) hc dX3_together_3 rfl ?_
  exact outer (d + 1) 0 (by omega)
theorem ct_owl (hE : tw_E G T) (hN : sp_t0 M = N) (hcy : sp_city N) (hf : sp_fok N) (d : Nat) (hd : N 0 6 = nI d) (hd2 : d ≤ 600) (o k : Int32) : wt_Ct l G yX3_owl cX3_owl 3 (some .int) 5 0 0 [.ref T.1, .int o, .int k] (tw_Z G T M w) (sp_ans G T N w (if 0 ≤ o ∧ o < N 0 3 then (if 0 ≤ k ∧ k ≤ nI 5 then 0 else 1) else 1) (sp_owV N (nn o) k)) := by
  obtain ⟨ro, ow, ri, hC⟩ := hcy.cty
  have h0 : N 0 0 = 0 := by rw [← hN]; rfl
  have how := hC.2.1
  have hQ : sp_Q N (sp_night N) := sp_Q.night N
  have hT : sp_night N 0 0 = 0 := (congrFun (sp_S_night N rfl) 0).trans h0
  refine wt_enter [some (.ref T.1), some (.int o), some (.int k)] (by decide +kernel) rfl (Nat.le_of_ble_eq_true rfl) (fun X hc hok => ?_)
  by_cases hp : 0 ≤ o ∧ o < N 0 3
  · by_cases hp2 : 0 ≤ k ∧ k ≤ nI 5
    · obtain ⟨q, hq, rfl⟩ := sp_ix hp hC.2.2.2.2.1 (by omega)
      obtain ⟨q2, -, hq2, rfl⟩ := sp_ix2 (a := 0) hp2 (by decide) (by decide)
      rw [if_pos hp, if_pos hp2, nn_nI (by omega)] at hok
      have rw8 : sp_night N 8 q = N 8 q := congrFun (hQ.row (by decide) rfl) q
      have rw47 : ∀ j, sp_night N 47 j = N 47 j := fun j => congrFun (hQ.row (by decide) rfl) j
      have rw9 : sp_night N 9 q = N 9 q := congrFun (hQ.row (by decide) rfl) q
      refine wt_aload_0 (pc := 0) hc dX3_owl_0 ?_
      refine wt_iconst (pc := 1) (v := nI 0) hc dX3_owl_1 (by decide) ?_
      refine tw_put (pc := 2) 0 hc hE dX3_owl_2 q1604 (by decide) (fun _ _ _ => rfl) rfl rfl (rfl) rfl ?_
      refine tw_eq hN ?_
      refine wt_aload_0 (pc := 5) hc dX3_owl_5 ?_
      refine wt_iload_1 (pc := 6) hc dX3_owl_6 ?_
      refine wt_gofn (tw_inv (pc := 7) 1 hc hE (ct_isOwl hE h0 _) dX3_owl_7 rfl q2056 q2058 qs93 q116 q2059 (by decide +kernel) rfl (by decide) (by decide) (Nat.le_of_ble_eq_true rfl) rfl) ?_
      rw [if_pos hp, sp_b_t hp]
      refine wt_if_eq (pc := 10) 22 hc dX3_owl_10 (by decide) (fun c_10 => ?_) (fun c_10 => ?_)
      · exact absurd c_10 (by decide)
      refine wt_aload_0 (pc := 13) hc dX3_owl_13 ?_
      refine wt_iload_2 (pc := 14) hc dX3_owl_14 ?_
      refine wt_iconst (pc := 15) (v := nI 5) hc dX3_owl_15 (by decide) ?_
      refine wt_gofn (tw_inv (pc := 16) 2 hc hE (ct_isWhat hE h0 _ _) dX3_owl_16 rfl q2044 q2046 qs92 q116 q2047 (by decide +kernel) rfl (by decide) (by decide) (Nat.le_of_ble_eq_true rfl) rfl) ?_
      rw [if_pos hp2, sp_b_t hp2]
      refine wt_if_ne (pc := 19) 24 hc dX3_owl_19 (by decide) (fun c_19 => ?_) (fun c_19 => ?_)
      · refine wt_aload_0 (pc := 24) hc dX3_owl_24 ?_
        refine wt_gov (tw_inv (pc := 25) 0 hc hE (ct_nights hE hcy hf) dX3_owl_25 rfl q1993 q1995 qs81 q116 q1996 (by decide +kernel) rfl (by decide) (by decide) (Nat.le_of_ble_eq_true rfl) rfl) (Nat.zero_le _) (Nat.zero_le _) ?_
        refine wt_iload_2 (pc := 28) hc dX3_owl_28 ?_
        rcases (by omega : q2 = 0 ∨ q2 = 1 ∨ q2 = 2 ∨ q2 = 3 ∨ q2 = 4 ∨ q2 = 5) with rfl | rfl | rfl | rfl | rfl | rfl
        · refine sp_tableIn (pc := 29) 64 0 0 hc dX3_owl_29 (by decide) rfl (by decide) (by decide) rfl (by decide) ?_
          refine wt_aload_0 (pc := 64) hc dX3_owl_64 ?_
          refine tw_geta (pc := 65) 8 hc hE dX3_owl_65 q1612 (by decide) (by decide) (fun _ _ _ => rfl) rfl ?_
          refine wt_iload_1 (pc := 68) hc dX3_owl_68 ?_
          refine tw_iald (pc := 69) (k := 8) (q) _ hc hE dX3_owl_69 rfl (rfl) (by show _ < 5; omega) (by decide) (rfl) ?_
          exact wt_iret (pc := 70) hc hok dX3_owl_70 (rfl) (fun H hZ => sp_ans_ok hQ hT rw8 hZ)
        · refine sp_tableIn (pc := 29) 71 1 0 hc dX3_owl_29 (by decide) rfl (by decide) (by decide) rfl (by decide) ?_
          refine wt_aload_0 (pc := 71) hc dX3_owl_71 ?_
          refine tw_geta (pc := 72) 47 hc hE dX3_owl_72 q1651 (by decide) (by decide) (fun _ _ _ => rfl) rfl ?_
          refine wt_bipush (pc := 75) (v := nI 14) hc dX3_owl_75 (by decide) ?_
          refine wt_iload_1 (pc := 77) hc dX3_owl_77 ?_
          refine wt_iadd (pc := 78) hc dX3_owl_78 ?_
          rw [nI_add 14 q]
          refine tw_iald (pc := 79) (k := 47) (14 + q) _ hc hE dX3_owl_79 rfl (rfl) (by show _ < 19; omega) (by decide) (rfl) ?_
          exact wt_iret (pc := 80) hc hok dX3_owl_80 (rfl) (fun H hZ => sp_ans_ok hQ hT (rw47 _) hZ)
        · refine sp_tableIn (pc := 29) 81 2 0 hc dX3_owl_29 (by decide) rfl (by decide) (by decide) rfl (by decide) ?_
          refine wt_aload_0 (pc := 81) hc dX3_owl_81 ?_
          refine tw_geta (pc := 82) 9 hc hE dX3_owl_82 q1613 (by decide) (by decide) (fun _ _ _ => rfl) rfl ?_
          refine wt_iload_1 (pc := 85) hc dX3_owl_85 ?_
          refine tw_iald (pc := 86) (k := 9) (q) _ hc hE dX3_owl_86 rfl (rfl) (by show _ < 5; omega) (by decide) (rfl) ?_
          exact wt_iret (pc := 87) hc hok dX3_owl_87 (rfl) (fun H hZ => sp_ans_ok hQ hT rw9 hZ)
        · refine sp_tableIn (pc := 29) 88 3 0 hc dX3_owl_29 (by decide) rfl (by decide) (by decide) rfl (by decide) ?_
          refine wt_aload_0 (pc := 88) hc dX3_owl_88 ?_
          refine tw_geta (pc := 89) 57 hc hE dX3_owl_89 q1661 (by decide) (by decide) (fun _ _ _ => rfl) rfl ?_
          refine wt_iload_1 (pc := 92) hc dX3_owl_92 ?_
          refine tw_iald (pc := 93) (k := 57) (q) _ hc hE dX3_owl_93 rfl (rfl) (by show _ < 5; omega) (by decide) (rfl) ?_
          exact wt_iret (pc := 94) hc hok dX3_owl_94 (rfl) (fun H hZ => sp_ans_ok hQ hT rfl hZ)
        · refine sp_tableIn (pc := 29) 95 4 0 hc dX3_owl_29 (by decide) rfl (by decide) (by decide) rfl (by decide) ?_
          have e : sp_owV N q (nI 4) = sp_i (sp_nb N q) := rfl
          refine wt_aload_0 (pc := 95) hc dX3_owl_95 ?_
          refine wt_iload_1 (pc := 96) hc dX3_owl_96 ?_
          refine wt_gofn (tw_inv (pc := 97) 1 hc hE (ct_nests hE _) dX3_owl_97 rfl q1997 q1999 qs82 q116 q2000 (by decide +kernel) rfl (by decide) (by decide) (Nat.le_of_ble_eq_true rfl) rfl) ?_
          refine wt_if_eq (pc := 100) 107 hc dX3_owl_100 (by decide) (fun c_100 => ?_) (fun c_100 => ?_)
          · refine wt_iconst (pc := 107) (v := nI 0) hc dX3_owl_107 (by decide) ?_
            exact wt_iret (pc := 108) hc hok dX3_owl_108 (rfl) (fun H hZ => by first | exact sp_ans_ok hQ hT (by rw [e, ← sp_nb_Q hQ, show sp_nb (sp_night N) q = true from decide_eq_true (sp_b_n0 c_100)]; rfl) hZ | exact sp_ans_ok hQ hT (by rw [e, ← sp_nb_Q hQ, show sp_nb (sp_night N) q = false from decide_eq_false (sp_b_0.mp c_100)]; rfl) hZ)
          · refine wt_iconst (pc := 103) (v := nI 1) hc dX3_owl_103 (by decide) ?_
            refine wt_goto (pc := 104) 108 hc dX3_owl_104 (by decide) ?_
            exact wt_iret (pc := 108) hc hok dX3_owl_108 (rfl) (fun H hZ => by first | exact sp_ans_ok hQ hT (by rw [e, ← sp_nb_Q hQ, show sp_nb (sp_night N) q = true from decide_eq_true (sp_b_n0 c_100)]; rfl) hZ | exact sp_ans_ok hQ hT (by rw [e, ← sp_nb_Q hQ, show sp_nb (sp_night N) q = false from decide_eq_false (sp_b_0.mp c_100)]; rfl) hZ)
        · refine wt_tableOut (pc := 29) 109 hc dX3_owl_29 (Or.inr (by decide)) (by decide) ?_
          have e : sp_owV N q (nI 5) = sp_tg (sp_night N) q ow (d + 1) := by
            rw [show sp_owV N q (nI 5) = sp_tg (sp_night N) q (nn (N 0 3)) (nn (N 0 6) + 1) from rfl, hC.2.2.2.2.1, hd, nn_nI (by omega), nn_nI (by omega)]
          refine wt_aload_0 (pc := 109) hc dX3_owl_109 ?_
          refine wt_iload_1 (pc := 110) hc dX3_owl_110 ?_
          refine wt_gofn (tw_inv (pc := 111) 1 hc hE (ct_together hE ro ow ri q d (hC.Q hQ) hq ((hQ.2 6 (by decide)).trans hd) hd2) dX3_owl_111 rfl q2060 q2062 qs94 q116 q2063 (by decide +kernel) rfl (by decide) (by decide) (Nat.le_of_ble_eq_true rfl) rfl) ?_
          exact wt_iret (pc := 114) hc hok dX3_owl_114 (rfl) (fun H hZ => sp_ans_ok hQ hT e.symm hZ)
      · exact absurd c_19 (by decide)
    · rw [if_pos hp, if_neg hp2] at hok
      refine wt_aload_0 (pc := 0) hc dX3_owl_0 ?_
      refine wt_iconst (pc := 1) (v := nI 0) hc dX3_owl_1 (by decide) ?_
      refine tw_put (pc := 2) 0 hc hE dX3_owl_2 q1604 (by decide) (fun _ _ _ => rfl) rfl rfl (rfl) rfl ?_
      refine tw_eq hN ?_
      refine wt_aload_0 (pc := 5) hc dX3_owl_5 ?_
      refine wt_iload_1 (pc := 6) hc dX3_owl_6 ?_
      refine wt_gofn (tw_inv (pc := 7) 1 hc hE (ct_isOwl hE h0 _) dX3_owl_7 rfl q2056 q2058 qs93 q116 q2059 (by decide +kernel) rfl (by decide) (by decide) (Nat.le_of_ble_eq_true rfl) rfl) ?_
      rw [if_pos hp, sp_b_t hp]
      refine wt_if_eq (pc := 10) 22 hc dX3_owl_10 (by decide) (fun c_10 => ?_) (fun c_10 => ?_)
      · exact absurd c_10 (by decide)
      · refine wt_aload_0 (pc := 13) hc dX3_owl_13 ?_
        refine wt_iload_2 (pc := 14) hc dX3_owl_14 ?_
        refine wt_iconst (pc := 15) (v := nI 5) hc dX3_owl_15 (by decide) ?_
        refine wt_gofn (tw_inv (pc := 16) 2 hc hE (ct_isWhat hE h0 _ _) dX3_owl_16 rfl q2044 q2046 qs92 q116 q2047 (by decide +kernel) rfl (by decide) (by decide) (Nat.le_of_ble_eq_true rfl) rfl) ?_
        rw [if_neg hp2, sp_b_f hp2]
        refine wt_if_ne (pc := 19) 24 hc dX3_owl_19 (by decide) (fun c_19 => ?_) (fun c_19 => ?_)
        · exact absurd rfl c_19
        · refine wt_iconst (pc := 22) (v := nI 0) hc dX3_owl_22 (by decide) ?_
          exact wt_iret (pc := 23) hc hok dX3_owl_23 (rfl) (fun H hZ => sp_ans_bad (by decide) hZ)
  · rw [if_neg hp] at hok
    refine wt_aload_0 (pc := 0) hc dX3_owl_0 ?_
    refine wt_iconst (pc := 1) (v := nI 0) hc dX3_owl_1 (by decide) ?_
    refine tw_put (pc := 2) 0 hc hE dX3_owl_2 q1604 (by decide) (fun _ _ _ => rfl) rfl rfl (rfl) rfl ?_
    refine tw_eq hN ?_
    refine wt_aload_0 (pc := 5) hc dX3_owl_5 ?_
    refine wt_iload_1 (pc := 6) hc dX3_owl_6 ?_
    refine wt_gofn (tw_inv (pc := 7) 1 hc hE (ct_isOwl hE h0 _) dX3_owl_7 rfl q2056 q2058 qs93 q116 q2059 (by decide +kernel) rfl (by decide) (by decide) (Nat.le_of_ble_eq_true rfl) rfl) ?_
    rw [if_neg hp, sp_b_f hp]
    refine wt_if_eq (pc := 10) 22 hc dX3_owl_10 (by decide) (fun c_10 => ?_) (fun c_10 => ?_)
    · refine wt_iconst (pc := 22) (v := nI 0) hc dX3_owl_22 (by decide) ?_
      exact wt_iret (pc := 23) hc hok dX3_owl_23 (rfl) (fun H hZ => sp_ans_bad (by decide) hZ)
    · exact absurd rfl c_10
theorem ct_stop (hE : tw_E G T) (hN : sp_t0 M = N) (hcy : sp_city N) (hf : sp_fok N) (o i k : Int32) : wt_Ct l G yX3_stop cX3_stop 4 (some .int) 5 0 0 [.ref T.1, .int o, .int i, .int k] (tw_Z G T M w) (sp_ans G T N w (if 0 ≤ o ∧ o < N 0 3 then (if 0 ≤ i ∧ i < N 9 (nn o) then (if 0 ≤ k ∧ k ≤ nI 2 then 0 else 1) else 1) else 1) (sp_stV N (nn o) (nn i) k)) := by
  obtain ⟨ro, ow, ri, hC⟩ := hcy.cty
  have h0 : N 0 0 = 0 := by rw [← hN]; rfl
  have how := hC.2.1
  have hQ : sp_Q N (sp_night N) := sp_Q.night N
  have hT : sp_night N 0 0 = 0 := (congrFun (sp_S_night N rfl) 0).trans h0
  refine wt_enter [some (.ref T.1), some (.int o), some (.int i), some (.int k)] (by decide +kernel) rfl (Nat.le_of_ble_eq_true rfl) (fun X hc hok => ?_)
  by_cases hp : 0 ≤ o ∧ o < N 0 3
  · obtain ⟨q, hq, rfl⟩ := sp_ix hp hC.2.2.2.2.1 (by omega)
    obtain ⟨wl, hwl, e9, hway⟩ := hC.2.2.2.2.2.2.1 q hq
    rw [if_pos hp, nn_nI (by omega)] at hok
    have key : ∀ b : Int32, (0 ≤ i ∧ i < N 9 q ∧ b = nI 1 ∨ ¬ (0 ≤ i ∧ i < N 9 q) ∧ b = nI 0) → wt_V G X 33 [some (.ref T.1), some (.int (nI q)), some (.int i), some (.int k)] [.int b, .ref T.1] (tw_Z G T N w) 0 0 := by
      intro b hb
      rcases hb with ⟨hi1, hi2, rfl⟩ | ⟨hi, rfl⟩
      · rw [if_pos ⟨hi1, hi2⟩] at hok
        obtain ⟨z, hz, rfl⟩ := sp_ix ⟨hi1, hi2⟩ e9 (by omega)
        rw [nn_nI (by omega)] at hok
        by_cases hp2 : 0 ≤ k ∧ k ≤ nI 2
        · rw [if_pos hp2] at hok
          refine wt_iconst (pc := 33) (v := nI 1) hc dX3_stop_33 (by decide) ?_
          refine wt_gofn (tw_inv (pc := 34) 2 hc hE (ct_right0 hE h0 _ _) dX3_stop_34 rfl q1850 q1852 qs54 q116 q1853 (by decide +kernel) rfl (by decide) (by decide) (Nat.le_of_ble_eq_true rfl) rfl) ?_
          rw [if_neg (show ¬ nI 1 = 0 by decide), sp_b_t (show ¬ nI 1 = 0 ∨ nI 1 = 0 from Or.inl (by decide))]
          refine wt_if_eq (pc := 37) 49 hc dX3_stop_37 (by decide) (fun c_37 => ?_) (fun c_37 => ?_)
          · exact absurd c_37 (by decide)
          · refine wt_aload_0 (pc := 40) hc dX3_stop_40 ?_
            refine wt_iload_3 (pc := 41) hc dX3_stop_41 ?_
            refine wt_iconst (pc := 42) (v := nI 2) hc dX3_stop_42 (by decide) ?_
            refine wt_gofn (tw_inv (pc := 43) 2 hc hE (ct_isWhat hE h0 _ _) dX3_stop_43 rfl q2044 q2046 qs92 q116 q2047 (by decide +kernel) rfl (by decide) (by decide) (Nat.le_of_ble_eq_true rfl) rfl) ?_
            rw [if_pos hp2, sp_b_t hp2]
            refine wt_if_ne (pc := 46) 51 hc dX3_stop_46 (by decide) (fun c_46 => ?_) (fun c_46 => ?_)
            · refine wt_aload_0 (pc := 51) hc dX3_stop_51 ?_
              refine wt_gov (tw_inv (pc := 52) 0 hc hE (ct_nights hE hcy hf) dX3_stop_52 rfl q1993 q1995 qs81 q116 q1996 (by decide +kernel) rfl (by decide) (by decide) (Nat.le_of_ble_eq_true rfl) rfl) (Nat.zero_le _) (Nat.zero_le _) ?_
              refine wt_iload_3 (pc := 55) hc dX3_stop_55 ?_
              refine wt_if_ne (pc := 56) 73 hc dX3_stop_56 (by decide) (fun c_56 => ?_) (fun c_56 => ?_)
              · refine wt_aload_0 (pc := 73) hc dX3_stop_73 ?_
                refine wt_iload_1 (pc := 74) hc dX3_stop_74 ?_
                refine wt_gofn (tw_inv (pc := 75) 1 hc hE (ct_nests hE _) dX3_stop_75 rfl q1997 q1999 qs82 q116 q2000 (by decide +kernel) rfl (by decide) (by decide) (Nat.le_of_ble_eq_true rfl) rfl) ?_
                refine wt_if_eq (pc := 78) 85 hc dX3_stop_78 (by decide) (fun c_78 => ?_) (fun c_78 => ?_)
                · refine wt_iload_3 (pc := 85) hc dX3_stop_85 ?_
                  refine wt_iconst (pc := 86) (v := nI 1) hc dX3_stop_86 (by decide) ?_
                  refine wt_icmp_ne (pc := 87) 104 hc dX3_stop_87 (by decide) (fun c_87 => ?_) (fun c_87 => ?_)
                  · refine wt_aload_0 (pc := 104) hc dX3_stop_104 ?_
                    refine tw_geta (pc := 105) 55 hc hE dX3_stop_105 q1659 (by decide) (by decide) (fun _ _ _ => rfl) rfl ?_
                    refine wt_bipush (pc := 108) (v := nI 8) hc dX3_stop_108 (by decide) ?_
                    refine wt_iload_1 (pc := 110) hc dX3_stop_110 ?_
                    refine wt_imul (pc := 111) hc dX3_stop_111 ?_
                    rw [pk_mul 8 q]
                    refine wt_iload_2 (pc := 112) hc dX3_stop_112 ?_
                    refine wt_iadd (pc := 113) hc dX3_stop_113 ?_
                    rw [nI_add (8 * q) z]
                    refine tw_iald (pc := 114) (k := 55) (8 * q + z) _ hc hE dX3_stop_114 rfl (rfl) (by show _ < 40; omega) (by decide) (rfl) ?_
                    exact wt_iret (pc := 115) hc hok dX3_stop_115 (rfl) (fun H hZ => sp_ans_ok hQ hT (by first | (rw [sp_stV, if_pos c_56]; exact congrFun (hQ.row (by decide) rfl) _) | (rw [sp_stV, if_neg c_56, if_pos (by rw [← sp_nb_Q hQ]; exact decide_eq_true (sp_b_n0 c_78))]) | (rw [sp_stV, if_neg c_56, if_neg (by rw [← sp_nb_Q hQ]; exact fun z => sp_b_0.mp c_78 (of_decide_eq_true z)), if_pos c_87]) | (rw [sp_stV, if_neg c_56, if_neg (by rw [← sp_nb_Q hQ]; exact fun z => sp_b_0.mp c_78 (of_decide_eq_true z)), if_neg c_87])) hZ)
                  · refine wt_aload_0 (pc := 90) hc dX3_stop_90 ?_
                    refine tw_geta (pc := 91) 54 hc hE dX3_stop_91 q1658 (by decide) (by decide) (fun _ _ _ => rfl) rfl ?_
                    refine wt_bipush (pc := 94) (v := nI 8) hc dX3_stop_94 (by decide) ?_
                    refine wt_iload_1 (pc := 96) hc dX3_stop_96 ?_
                    refine wt_imul (pc := 97) hc dX3_stop_97 ?_
                    rw [pk_mul 8 q]
                    refine wt_iload_2 (pc := 98) hc dX3_stop_98 ?_
                    refine wt_iadd (pc := 99) hc dX3_stop_99 ?_
                    rw [nI_add (8 * q) z]
                    refine tw_iald (pc := 100) (k := 54) (8 * q + z) _ hc hE dX3_stop_100 rfl (rfl) (by show _ < 40; omega) (by decide) (rfl) ?_
                    refine wt_goto (pc := 101) 115 hc dX3_stop_101 (by decide) ?_
                    exact wt_iret (pc := 115) hc hok dX3_stop_115 (rfl) (fun H hZ => sp_ans_ok hQ hT (by first | (rw [sp_stV, if_pos c_56]; exact congrFun (hQ.row (by decide) rfl) _) | (rw [sp_stV, if_neg c_56, if_pos (by rw [← sp_nb_Q hQ]; exact decide_eq_true (sp_b_n0 c_78))]) | (rw [sp_stV, if_neg c_56, if_neg (by rw [← sp_nb_Q hQ]; exact fun z => sp_b_0.mp c_78 (of_decide_eq_true z)), if_pos c_87]) | (rw [sp_stV, if_neg c_56, if_neg (by rw [← sp_nb_Q hQ]; exact fun z => sp_b_0.mp c_78 (of_decide_eq_true z)), if_neg c_87])) hZ)
                · refine wt_iconst (pc := 81) (v := (-1 : Int32)) hc dX3_stop_81 (by decide) ?_
                  refine wt_goto (pc := 82) 115 hc dX3_stop_82 (by decide) ?_
                  exact wt_iret (pc := 115) hc hok dX3_stop_115 (rfl) (fun H hZ => sp_ans_ok hQ hT (by first | (rw [sp_stV, if_pos c_56]; exact congrFun (hQ.row (by decide) rfl) _) | (rw [sp_stV, if_neg c_56, if_pos (by rw [← sp_nb_Q hQ]; exact decide_eq_true (sp_b_n0 c_78))]) | (rw [sp_stV, if_neg c_56, if_neg (by rw [← sp_nb_Q hQ]; exact fun z => sp_b_0.mp c_78 (of_decide_eq_true z)), if_pos c_87]) | (rw [sp_stV, if_neg c_56, if_neg (by rw [← sp_nb_Q hQ]; exact fun z => sp_b_0.mp c_78 (of_decide_eq_true z)), if_neg c_87])) hZ)
              · refine wt_aload_0 (pc := 59) hc dX3_stop_59 ?_
                refine tw_geta (pc := 60) 10 hc hE dX3_stop_60 q1614 (by decide) (by decide) (fun _ _ _ => rfl) rfl ?_
                refine wt_bipush (pc := 63) (v := nI 8) hc dX3_stop_63 (by decide) ?_
                refine wt_iload_1 (pc := 65) hc dX3_stop_65 ?_
                refine wt_imul (pc := 66) hc dX3_stop_66 ?_
                rw [pk_mul 8 q]
                refine wt_iload_2 (pc := 67) hc dX3_stop_67 ?_
                refine wt_iadd (pc := 68) hc dX3_stop_68 ?_
                rw [nI_add (8 * q) z]
                refine tw_iald (pc := 69) (k := 10) (8 * q + z) _ hc hE dX3_stop_69 rfl (rfl) (by show _ < 40; omega) (by decide) (rfl) ?_
                refine wt_goto (pc := 70) 115 hc dX3_stop_70 (by decide) ?_
                exact wt_iret (pc := 115) hc hok dX3_stop_115 (rfl) (fun H hZ => sp_ans_ok hQ hT (by first | (rw [sp_stV, if_pos c_56]; exact congrFun (hQ.row (by decide) rfl) _) | (rw [sp_stV, if_neg c_56, if_pos (by rw [← sp_nb_Q hQ]; exact decide_eq_true (sp_b_n0 c_78))]) | (rw [sp_stV, if_neg c_56, if_neg (by rw [← sp_nb_Q hQ]; exact fun z => sp_b_0.mp c_78 (of_decide_eq_true z)), if_pos c_87]) | (rw [sp_stV, if_neg c_56, if_neg (by rw [← sp_nb_Q hQ]; exact fun z => sp_b_0.mp c_78 (of_decide_eq_true z)), if_neg c_87])) hZ)
            · exact absurd c_46 (by decide)
        · rw [if_neg hp2] at hok
          refine wt_iconst (pc := 33) (v := nI 1) hc dX3_stop_33 (by decide) ?_
          refine wt_gofn (tw_inv (pc := 34) 2 hc hE (ct_right0 hE h0 _ _) dX3_stop_34 rfl q1850 q1852 qs54 q116 q1853 (by decide +kernel) rfl (by decide) (by decide) (Nat.le_of_ble_eq_true rfl) rfl) ?_
          rw [if_neg (show ¬ nI 1 = 0 by decide), sp_b_t (show ¬ nI 1 = 0 ∨ nI 1 = 0 from Or.inl (by decide))]
          refine wt_if_eq (pc := 37) 49 hc dX3_stop_37 (by decide) (fun c_37 => ?_) (fun c_37 => ?_)
          · exact absurd c_37 (by decide)
          · refine wt_aload_0 (pc := 40) hc dX3_stop_40 ?_
            refine wt_iload_3 (pc := 41) hc dX3_stop_41 ?_
            refine wt_iconst (pc := 42) (v := nI 2) hc dX3_stop_42 (by decide) ?_
            refine wt_gofn (tw_inv (pc := 43) 2 hc hE (ct_isWhat hE h0 _ _) dX3_stop_43 rfl q2044 q2046 qs92 q116 q2047 (by decide +kernel) rfl (by decide) (by decide) (Nat.le_of_ble_eq_true rfl) rfl) ?_
            rw [if_neg hp2, sp_b_f hp2]
            refine wt_if_ne (pc := 46) 51 hc dX3_stop_46 (by decide) (fun c_46 => ?_) (fun c_46 => ?_)
            · exact absurd rfl c_46
            · refine wt_iconst (pc := 49) (v := nI 0) hc dX3_stop_49 (by decide) ?_
              exact wt_iret (pc := 50) hc hok dX3_stop_50 (rfl) (fun H hZ => sp_ans_bad (by decide) hZ)
      · rw [if_neg hi] at hok
        refine wt_iconst (pc := 33) (v := nI 1) hc dX3_stop_33 (by decide) ?_
        refine wt_gofn (tw_inv (pc := 34) 2 hc hE (ct_right0 hE h0 _ _) dX3_stop_34 rfl q1850 q1852 qs54 q116 q1853 (by decide +kernel) rfl (by decide) (by decide) (Nat.le_of_ble_eq_true rfl) rfl) ?_
        rw [if_pos (show nI 0 = 0 from rfl), sp_b_f (show ¬ (¬ nI 0 = 0 ∨ nI 1 = 0) from fun z => z.elim (fun z => z rfl) (by decide))]
        refine wt_if_eq (pc := 37) 49 hc dX3_stop_37 (by decide) (fun c_37 => ?_) (fun c_37 => ?_)
        · refine wt_iconst (pc := 49) (v := nI 0) hc dX3_stop_49 (by decide) ?_
          exact wt_iret (pc := 50) hc hok dX3_stop_50 (rfl) (fun H hZ => sp_ans_bad (by decide) hZ)
        · exact absurd rfl c_37
    refine wt_aload_0 (pc := 0) hc dX3_stop_0 ?_
    refine wt_iconst (pc := 1) (v := nI 0) hc dX3_stop_1 (by decide) ?_
    refine tw_put (pc := 2) 0 hc hE dX3_stop_2 q1604 (by decide) (fun _ _ _ => rfl) rfl rfl (rfl) rfl ?_
    refine tw_eq hN ?_
    refine wt_aload_0 (pc := 5) hc dX3_stop_5 ?_
    refine wt_iload_1 (pc := 6) hc dX3_stop_6 ?_
    refine wt_gofn (tw_inv (pc := 7) 1 hc hE (ct_isOwl hE h0 _) dX3_stop_7 rfl q2056 q2058 qs93 q116 q2059 (by decide +kernel) rfl (by decide) (by decide) (Nat.le_of_ble_eq_true rfl) rfl) ?_
    rw [if_pos hp, sp_b_t hp]
    refine wt_if_eq (pc := 10) 49 hc dX3_stop_10 (by decide) (fun c_10 => ?_) (fun c_10 => ?_)
    · exact absurd c_10 (by decide)
    · refine wt_aload_0 (pc := 13) hc dX3_stop_13 ?_
      refine wt_iload_2 (pc := 14) hc dX3_stop_14 ?_
      refine wt_if_lt (pc := 15) 32 hc dX3_stop_15 (by decide) (fun c_15 => ?_) (fun c_15 => ?_)
      · refine wt_iconst (pc := 32) (v := nI 0) hc dX3_stop_32 (by decide) ?_
        first | exact key _ (Or.inr ⟨fun z => absurd c_15 (Int32.not_lt.mpr z.1), rfl⟩) | exact key _ (Or.inr ⟨fun z => absurd z.2 (Int32.not_lt.mpr c_25), rfl⟩) | exact key _ (Or.inl ⟨Int32.not_lt.mp c_15, Int32.not_le.mp c_25, rfl⟩)
      · refine wt_iload_2 (pc := 18) hc dX3_stop_18 ?_
        refine wt_aload_0 (pc := 19) hc dX3_stop_19 ?_
        refine tw_geta (pc := 20) 9 hc hE dX3_stop_20 q1613 (by decide) (by decide) (fun _ _ _ => rfl) rfl ?_
        refine wt_iload_1 (pc := 23) hc dX3_stop_23 ?_
        refine tw_iald (pc := 24) (k := 9) (q) _ hc hE dX3_stop_24 rfl (rfl) (by show _ < 5; omega) (by decide) (rfl) ?_
        refine wt_icmp_ge (pc := 25) 32 hc dX3_stop_25 (by decide) (fun c_25 => ?_) (fun c_25 => ?_)
        · refine wt_iconst (pc := 32) (v := nI 0) hc dX3_stop_32 (by decide) ?_
          first | exact key _ (Or.inr ⟨fun z => absurd c_15 (Int32.not_lt.mpr z.1), rfl⟩) | exact key _ (Or.inr ⟨fun z => absurd z.2 (Int32.not_lt.mpr c_25), rfl⟩) | exact key _ (Or.inl ⟨Int32.not_lt.mp c_15, Int32.not_le.mp c_25, rfl⟩)
        · refine wt_iconst (pc := 28) (v := nI 1) hc dX3_stop_28 (by decide) ?_
          refine wt_goto (pc := 29) 33 hc dX3_stop_29 (by decide) ?_
          first | exact key _ (Or.inr ⟨fun z => absurd c_15 (Int32.not_lt.mpr z.1), rfl⟩) | exact key _ (Or.inr ⟨fun z => absurd z.2 (Int32.not_lt.mpr c_25), rfl⟩) | exact key _ (Or.inl ⟨Int32.not_lt.mp c_15, Int32.not_le.mp c_25, rfl⟩)
  · rw [if_neg hp] at hok
    refine wt_aload_0 (pc := 0) hc dX3_stop_0 ?_
    refine wt_iconst (pc := 1) (v := nI 0) hc dX3_stop_1 (by decide) ?_
    refine tw_put (pc := 2) 0 hc hE dX3_stop_2 q1604 (by decide) (fun _ _ _ => rfl) rfl rfl (rfl) rfl ?_
    refine tw_eq hN ?_
    refine wt_aload_0 (pc := 5) hc dX3_stop_5 ?_
    refine wt_iload_1 (pc := 6) hc dX3_stop_6 ?_
    refine wt_gofn (tw_inv (pc := 7) 1 hc hE (ct_isOwl hE h0 _) dX3_stop_7 rfl q2056 q2058 qs93 q116 q2059 (by decide +kernel) rfl (by decide) (by decide) (Nat.le_of_ble_eq_true rfl) rfl) ?_
    rw [if_neg hp, sp_b_f hp]
    refine wt_if_eq (pc := 10) 49 hc dX3_stop_10 (by decide) (fun c_10 => ?_) (fun c_10 => ?_)
    · refine wt_iconst (pc := 49) (v := nI 0) hc dX3_stop_49 (by decide) ?_
      exact wt_iret (pc := 50) hc hok dX3_stop_50 (rfl) (fun H hZ => sp_ans_bad (by decide) hZ)
    · exact absurd rfl c_10
theorem ct_roof (hE : tw_E G T) (hN : sp_t0 M = N) (hcy : sp_city N) (hf : sp_fok N) (r k : Int32) : wt_Ct l G yX3_roof cX3_roof 5 (some .int) 5 0 0 [.ref T.1, .int r, .int k] (tw_Z G T M w) (sp_ans G T N w (if 0 ≤ r ∧ r < N 0 1 then (if 0 ≤ k ∧ k ≤ nI 4 then 0 else 1) else 1) (sp_roV N (nn r) k)) := by
  obtain ⟨ro, ow, ri, hC⟩ := hcy.cty
  have h0 : N 0 0 = 0 := by rw [← hN]; rfl
  have hro := hC.1
  have hri := hC.2.2.1
  have hQ : sp_Q N (sp_night N) := sp_Q.night N
  have hT : sp_night N 0 0 = 0 := (congrFun (sp_S_night N rfl) 0).trans h0
  refine wt_enter [some (.ref T.1), some (.int r), some (.int k), none, none] (by decide +kernel) rfl (Nat.le_of_ble_eq_true rfl) (fun X hc hok => ?_)
  by_cases hp : 0 ≤ r ∧ r < N 0 1
  · by_cases hp2 : 0 ≤ k ∧ k ≤ nI 4
    · obtain ⟨q, hq, rfl⟩ := sp_ix hp hC.2.2.2.1 (by omega)
      obtain ⟨q2, -, hq2, rfl⟩ := sp_ix2 (a := 0) hp2 (by decide) (by decide)
      rw [if_pos hp, if_pos hp2, nn_nI (by omega)] at hok
      have rw47 : ∀ j, sp_night N 47 j = N 47 j := fun j => congrFun (hQ.row (by decide) rfl) j
      refine wt_aload_0 (pc := 0) hc dX3_roof_0 ?_
      refine wt_iconst (pc := 1) (v := nI 0) hc dX3_roof_1 (by decide) ?_
      refine tw_put (pc := 2) 0 hc hE dX3_roof_2 q1604 (by decide) (fun _ _ _ => rfl) rfl rfl (rfl) rfl ?_
      refine tw_eq hN ?_
      refine wt_aload_0 (pc := 5) hc dX3_roof_5 ?_
      refine wt_iload_1 (pc := 6) hc dX3_roof_6 ?_
      refine wt_gofn (tw_inv (pc := 7) 1 hc hE (ct_isRoof hE h0 _) dX3_roof_7 rfl q2040 q2042 qs91 q116 q2043 (by decide +kernel) rfl (by decide) (by decide) (Nat.le_of_ble_eq_true rfl) rfl) ?_
      rw [if_pos hp, sp_b_t hp]
      refine wt_if_eq (pc := 10) 22 hc dX3_roof_10 (by decide) (fun c_10 => ?_) (fun c_10 => ?_)
      · exact absurd c_10 (by decide)
      refine wt_aload_0 (pc := 13) hc dX3_roof_13 ?_
      refine wt_iload_2 (pc := 14) hc dX3_roof_14 ?_
      refine wt_iconst (pc := 15) (v := nI 4) hc dX3_roof_15 (by decide) ?_
      refine wt_gofn (tw_inv (pc := 16) 2 hc hE (ct_isWhat hE h0 _ _) dX3_roof_16 rfl q2044 q2046 qs92 q116 q2047 (by decide +kernel) rfl (by decide) (by decide) (Nat.le_of_ble_eq_true rfl) rfl) ?_
      rw [if_pos hp2, sp_b_t hp2]
      refine wt_if_ne (pc := 19) 24 hc dX3_roof_19 (by decide) (fun c_19 => ?_) (fun c_19 => ?_)
      · refine wt_aload_0 (pc := 24) hc dX3_roof_24 ?_
        refine wt_gov (tw_inv (pc := 25) 0 hc hE (ct_nights hE hcy hf) dX3_roof_25 rfl q1993 q1995 qs81 q116 q1996 (by decide +kernel) rfl (by decide) (by decide) (Nat.le_of_ble_eq_true rfl) rfl) (Nat.zero_le _) (Nat.zero_le _) ?_
        refine wt_iconst (pc := 28) (v := nI 0) hc dX3_roof_28 (by decide) ?_
        refine wt_istore_3 (pc := 29) hc dX3_roof_29 rfl ?_
        refine wt_iload_2 (pc := 30) hc dX3_roof_30 ?_
        rcases (by omega : q2 = 0 ∨ q2 = 1 ∨ q2 = 2 ∨ q2 = 3 ∨ q2 = 4) with rfl | rfl | rfl | rfl | rfl
        · refine sp_tableIn (pc := 31) 60 0 0 hc dX3_roof_31 (by decide) rfl (by decide) (by decide) rfl (by decide) ?_
          refine wt_aload_0 (pc := 60) hc dX3_roof_60 ?_
          refine tw_geta (pc := 61) 47 hc hE dX3_roof_61 q1651 (by decide) (by decide) (fun _ _ _ => rfl) rfl ?_
          refine wt_iconst (pc := 64) (v := nI 4) hc dX3_roof_64 (by decide) ?_
          refine wt_iload_1 (pc := 65) hc dX3_roof_65 ?_
          refine wt_iadd (pc := 66) hc dX3_roof_66 ?_
          rw [nI_add 4 q]
          refine tw_iald (pc := 67) (k := 47) (4 + q) _ hc hE dX3_roof_67 rfl (rfl) (by show _ < 19; omega) (by decide) (rfl) ?_
          exact wt_iret (pc := 68) hc hok dX3_roof_68 (rfl) (fun H hZ => sp_ans_ok hQ hT (rw47 _) hZ)
        · refine sp_tableIn (pc := 31) 69 1 0 hc dX3_roof_31 (by decide) rfl (by decide) (by decide) rfl (by decide) ?_
          refine wt_iconst (pc := 69) (v := nI 2) hc dX3_roof_69 (by decide) ?_
          refine wt_aload_0 (pc := 70) hc dX3_roof_70 ?_
          refine tw_geta (pc := 71) 47 hc hE dX3_roof_71 q1651 (by decide) (by decide) (fun _ _ _ => rfl) rfl ?_
          refine wt_iconst (pc := 74) (v := nI 4) hc dX3_roof_74 (by decide) ?_
          refine wt_iload_1 (pc := 75) hc dX3_roof_75 ?_
          refine wt_iadd (pc := 76) hc dX3_roof_76 ?_
          rw [nI_add 4 q]
          refine tw_iald (pc := 77) (k := 47) (4 + q) _ hc hE dX3_roof_77 rfl (rfl) (by show _ < 19; omega) (by decide) (rfl) ?_
          refine wt_imul (pc := 78) hc dX3_roof_78 ?_
          exact wt_iret (pc := 79) hc hok dX3_roof_79 (rfl) (fun H hZ => sp_ans_ok hQ hT (by rw [rw47]; rfl) hZ)
        · refine sp_tableIn (pc := 31) 80 2 0 hc dX3_roof_31 (by decide) rfl (by decide) (by decide) rfl (by decide) ?_
          refine wt_aload_0 (pc := 80) hc dX3_roof_80 ?_
          refine tw_geta (pc := 81) 56 hc hE dX3_roof_81 q1660 (by decide) (by decide) (fun _ _ _ => rfl) rfl ?_
          refine wt_iload_1 (pc := 84) hc dX3_roof_84 ?_
          refine tw_iald (pc := 85) (k := 56) (q) _ hc hE dX3_roof_85 rfl (rfl) (by show _ < 10; omega) (by decide) (rfl) ?_
          exact wt_iret (pc := 86) hc hok dX3_roof_86 (rfl) (fun H hZ => sp_ans_ok hQ hT rfl hZ)
        · refine sp_tableIn (pc := 31) 87 3 0 hc dX3_roof_31 (by decide) rfl (by decide) (by decide) rfl (by decide) ?_
          have e4 : sp_night N 0 4 = nI ri := (hQ.2 4 (by decide)).trans hC.2.2.2.2.2.1
          have e : sp_roV N q (nI 3) = sp_rr (N 11) (nI q) ri := by
            rw [show sp_roV N q (nI 3) = sp_rr (N 11) (nI q) (nn (N 0 4)) from rfl, hC.2.2.2.2.2.1, nn_nI (by omega)]
          have e11 : sp_night N 11 = N 11 := hQ.row (by decide) rfl
          have loop : ∀ (n p : Nat), p + n = ri → wt_V G X 90 [some (.ref T.1), some (.int (nI q)), some (.int (nI 3)), some (.int (sp_rr (sp_night N 11) (nI q) p)), some (.int (nI p))] [] (tw_Z G T (sp_night N) w) 0 0 := by
            intro n
            induction n with
            | zero =>
              intro p hp
              have e' : p = ri := by omega
              subst e'
              refine wt_iload_4 (pc := 90) hc dX3_roof_90 ?_
              refine wt_aload_0 (pc := 92) hc dX3_roof_92 ?_
              refine tw_get (pc := 93) 4 (nI p) hc hE dX3_roof_93 q1608 (by decide) (fun _ _ _ => rfl) rfl (e4) ?_
              refine wt_nicmp_ge (pc := 96) 126 (p) (p) hc dX3_roof_96 (by decide) (by omega) (by omega) (fun c_96 => ?_) (fun c_96 => ?_)
              · refine wt_iload_3 (pc := 126) hc dX3_roof_126 ?_
                exact wt_iret (pc := 127) hc hok dX3_roof_127 (rfl) (fun H hZ => sp_ans_ok hQ hT (by rw [e, e11]) hZ)
              · omega
            | succ n ih =>
              intro p hp
              have ih' := ih (p + 1) (by omega)
              rw [sp_rr] at ih'
              refine wt_iload_4 (pc := 90) hc dX3_roof_90 ?_
              refine wt_aload_0 (pc := 92) hc dX3_roof_92 ?_
              refine tw_get (pc := 93) 4 (nI ri) hc hE dX3_roof_93 q1608 (by decide) (fun _ _ _ => rfl) rfl (e4) ?_
              refine wt_nicmp_ge (pc := 96) 126 (p) (ri) hc dX3_roof_96 (by decide) (by omega) (by omega) (fun c_96 => ?_) (fun c_96 => ?_)
              · omega
              · refine wt_iload_3 (pc := 99) hc dX3_roof_99 ?_
                refine wt_aload_0 (pc := 100) hc dX3_roof_100 ?_
                refine wt_iload_4 (pc := 101) hc dX3_roof_101 ?_
                refine wt_gofn (tw_inv (pc := 103) 1 hc hE (ct_homeOf hE p (by omega)) dX3_roof_103 rfl q2032 q2034 qs90 q116 q2035 (by decide +kernel) rfl (by decide) (by decide) (Nat.le_of_ble_eq_true rfl) rfl) ?_
                refine wt_iload_1 (pc := 106) hc dX3_roof_106 ?_
                refine wt_icmp_ne (pc := 107) 117 hc dX3_roof_107 (by decide) (fun c_107 => ?_) (fun c_107 => ?_)
                · refine wt_iconst (pc := 117) (v := nI 0) hc dX3_roof_117 (by decide) ?_
                  refine wt_ior (pc := 118) hc dX3_roof_118 ?_
                  refine wt_istore_3 (pc := 119) hc dX3_roof_119 rfl ?_
                  refine wt_iinc_4 (pc := 120) (v := nI (p + 1)) hc dX3_roof_120 (nI_add p 1) rfl ?_
                  refine wt_goto (pc := 123) 90 hc dX3_roof_123 (by decide) ?_
                  first | (rw [if_pos c_107] at ih'; exact ih') | (rw [if_neg c_107] at ih'; exact ih')
                · refine wt_iconst (pc := 110) (v := nI 1) hc dX3_roof_110 (by decide) ?_
                  refine wt_iload_4 (pc := 111) hc dX3_roof_111 ?_
                  refine wt_ishl (pc := 113) hc dX3_roof_113 ?_
                  refine wt_goto (pc := 114) 118 hc dX3_roof_114 (by decide) ?_
                  refine wt_ior (pc := 118) hc dX3_roof_118 ?_
                  refine wt_istore_3 (pc := 119) hc dX3_roof_119 rfl ?_
                  refine wt_iinc_4 (pc := 120) (v := nI (p + 1)) hc dX3_roof_120 (nI_add p 1) rfl ?_
                  refine wt_goto (pc := 123) 90 hc dX3_roof_123 (by decide) ?_
                  first | (rw [if_pos c_107] at ih'; exact ih') | (rw [if_neg c_107] at ih'; exact ih')
          refine wt_iconst (pc := 87) (v := nI 0) hc dX3_roof_87 (by decide) ?_
          refine wt_istore_4 (pc := 88) hc dX3_roof_88 rfl ?_
          exact loop ri 0 (by omega)
        · refine wt_tableOut (pc := 31) 128 hc dX3_roof_31 (Or.inr (by decide)) (by decide) ?_
          have e1 : sp_night N 0 1 = nI ro := (hQ.2 1 (by decide)).trans hC.2.2.2.1
          have e : sp_roV N q (nI 4) = sp_rf (N 7) q ro := by
            rw [show sp_roV N q (nI 4) = sp_rf (N 7) q (nn (N 0 1)) from rfl, hC.2.2.2.1, nn_nI (by omega)]
          have e7 : sp_night N 7 = N 7 := hQ.row (by decide) rfl
          have loop : ∀ (n p : Nat), p + n = ro → wt_V G X 131 [some (.ref T.1), some (.int (nI q)), some (.int (nI 4)), some (.int (sp_rf (sp_night N 7) q p)), some (.int (nI p))] [] (tw_Z G T (sp_night N) w) 0 0 := by
            intro n
            induction n with
            | zero =>
              intro p hp
              have e' : p = ro := by omega
              subst e'
              refine wt_iload_4 (pc := 131) hc dX3_roof_131 ?_
              refine wt_aload_0 (pc := 133) hc dX3_roof_133 ?_
              refine tw_get (pc := 134) 1 (nI p) hc hE dX3_roof_134 q1605 (by decide) (fun _ _ _ => rfl) rfl (e1) ?_
              refine wt_nicmp_ge (pc := 137) 169 (p) (p) hc dX3_roof_137 (by decide) (by omega) (by omega) (fun c_137 => ?_) (fun c_137 => ?_)
              · refine wt_iload_3 (pc := 169) hc dX3_roof_169 ?_
                exact wt_iret (pc := 170) hc hok dX3_roof_170 (rfl) (fun H hZ => sp_ans_ok hQ hT (by rw [e, e7]) hZ)
              · omega
            | succ n ih =>
              intro p hp
              have ih' := ih (p + 1) (by omega)
              rw [sp_rf] at ih'
              refine wt_iload_4 (pc := 131) hc dX3_roof_131 ?_
              refine wt_aload_0 (pc := 133) hc dX3_roof_133 ?_
              refine tw_get (pc := 134) 1 (nI ro) hc hE dX3_roof_134 q1605 (by decide) (fun _ _ _ => rfl) rfl (e1) ?_
              refine wt_nicmp_ge (pc := 137) 169 (p) (ro) hc dX3_roof_137 (by decide) (by omega) (by omega) (fun c_137 => ?_) (fun c_137 => ?_)
              · omega
              · refine wt_iload_3 (pc := 140) hc dX3_roof_140 ?_
                refine wt_aload_0 (pc := 141) hc dX3_roof_141 ?_
                refine tw_geta (pc := 142) 7 hc hE dX3_roof_142 q1611 (by decide) (by decide) (fun _ _ _ => rfl) rfl ?_
                refine wt_bipush (pc := 145) (v := nI 10) hc dX3_roof_145 (by decide) ?_
                refine wt_iload_1 (pc := 147) hc dX3_roof_147 ?_
                refine wt_imul (pc := 148) hc dX3_roof_148 ?_
                rw [pk_mul 10 q]
                refine wt_iload_4 (pc := 149) hc dX3_roof_149 ?_
                refine wt_iadd (pc := 151) hc dX3_roof_151 ?_
                rw [nI_add (10 * q) p]
                refine tw_iald (pc := 152) (k := 7) (10 * q + p) _ hc hE dX3_roof_152 rfl (rfl) (by show _ < 100; omega) (by decide) (rfl) ?_
                refine wt_if_le (pc := 153) 160 hc dX3_roof_153 (by decide) (fun c_153 => ?_) (fun c_153 => ?_)
                · refine wt_iconst (pc := 160) (v := nI 0) hc dX3_roof_160 (by decide) ?_
                  refine wt_iadd (pc := 161) hc dX3_roof_161 ?_
                  refine wt_istore_3 (pc := 162) hc dX3_roof_162 rfl ?_
                  refine wt_iinc_4 (pc := 163) (v := nI (p + 1)) hc dX3_roof_163 (nI_add p 1) rfl ?_
                  refine wt_goto (pc := 166) 131 hc dX3_roof_166 (by decide) ?_
                  first | (rw [if_pos c_153] at ih'; exact ih') | (rw [if_neg c_153] at ih'; exact ih')
                · refine wt_iconst (pc := 156) (v := nI 1) hc dX3_roof_156 (by decide) ?_
                  refine wt_goto (pc := 157) 161 hc dX3_roof_157 (by decide) ?_
                  refine wt_iadd (pc := 161) hc dX3_roof_161 ?_
                  refine wt_istore_3 (pc := 162) hc dX3_roof_162 rfl ?_
                  refine wt_iinc_4 (pc := 163) (v := nI (p + 1)) hc dX3_roof_163 (nI_add p 1) rfl ?_
                  refine wt_goto (pc := 166) 131 hc dX3_roof_166 (by decide) ?_
                  first | (rw [if_pos c_153] at ih'; exact ih') | (rw [if_neg c_153] at ih'; exact ih')
          refine wt_iconst (pc := 128) (v := nI 0) hc dX3_roof_128 (by decide) ?_
          refine wt_istore_4 (pc := 129) hc dX3_roof_129 rfl ?_
          exact loop ro 0 (by omega)
      · exact absurd c_19 (by decide)
    · rw [if_pos hp, if_neg hp2] at hok
      refine wt_aload_0 (pc := 0) hc dX3_roof_0 ?_
      refine wt_iconst (pc := 1) (v := nI 0) hc dX3_roof_1 (by decide) ?_
      refine tw_put (pc := 2) 0 hc hE dX3_roof_2 q1604 (by decide) (fun _ _ _ => rfl) rfl rfl (rfl) rfl ?_
      refine tw_eq hN ?_
      refine wt_aload_0 (pc := 5) hc dX3_roof_5 ?_
      refine wt_iload_1 (pc := 6) hc dX3_roof_6 ?_
      refine wt_gofn (tw_inv (pc := 7) 1 hc hE (ct_isRoof hE h0 _) dX3_roof_7 rfl q2040 q2042 qs91 q116 q2043 (by decide +kernel) rfl (by decide) (by decide) (Nat.le_of_ble_eq_true rfl) rfl) ?_
      rw [if_pos hp, sp_b_t hp]
      refine wt_if_eq (pc := 10) 22 hc dX3_roof_10 (by decide) (fun c_10 => ?_) (fun c_10 => ?_)
      · exact absurd c_10 (by decide)
      · refine wt_aload_0 (pc := 13) hc dX3_roof_13 ?_
        refine wt_iload_2 (pc := 14) hc dX3_roof_14 ?_
        refine wt_iconst (pc := 15) (v := nI 4) hc dX3_roof_15 (by decide) ?_
        refine wt_gofn (tw_inv (pc := 16) 2 hc hE (ct_isWhat hE h0 _ _) dX3_roof_16 rfl q2044 q2046 qs92 q116 q2047 (by decide +kernel) rfl (by decide) (by decide) (Nat.le_of_ble_eq_true rfl) rfl) ?_
        rw [if_neg hp2, sp_b_f hp2]
        refine wt_if_ne (pc := 19) 24 hc dX3_roof_19 (by decide) (fun c_19 => ?_) (fun c_19 => ?_)
        · exact absurd rfl c_19
        · refine wt_iconst (pc := 22) (v := nI 0) hc dX3_roof_22 (by decide) ?_
          exact wt_iret (pc := 23) hc hok dX3_roof_23 (rfl) (fun H hZ => sp_ans_bad (by decide) hZ)
  · rw [if_neg hp] at hok
    refine wt_aload_0 (pc := 0) hc dX3_roof_0 ?_
    refine wt_iconst (pc := 1) (v := nI 0) hc dX3_roof_1 (by decide) ?_
    refine tw_put (pc := 2) 0 hc hE dX3_roof_2 q1604 (by decide) (fun _ _ _ => rfl) rfl rfl (rfl) rfl ?_
    refine tw_eq hN ?_
    refine wt_aload_0 (pc := 5) hc dX3_roof_5 ?_
    refine wt_iload_1 (pc := 6) hc dX3_roof_6 ?_
    refine wt_gofn (tw_inv (pc := 7) 1 hc hE (ct_isRoof hE h0 _) dX3_roof_7 rfl q2040 q2042 qs91 q116 q2043 (by decide +kernel) rfl (by decide) (by decide) (Nat.le_of_ble_eq_true rfl) rfl) ?_
    rw [if_neg hp, sp_b_f hp]
    refine wt_if_eq (pc := 10) 22 hc dX3_roof_10 (by decide) (fun c_10 => ?_) (fun c_10 => ?_)
    · refine wt_iconst (pc := 22) (v := nI 0) hc dX3_roof_22 (by decide) ?_
      exact wt_iret (pc := 23) hc hok dX3_roof_23 (rfl) (fun H hZ => sp_ans_bad (by decide) hZ)
    · exact absurd rfl c_10
theorem ct_count (hE : tw_E G T) (hN : sp_t0 M = N) (hcy : sp_city N) (hf : sp_fok N) (k : Int32) : wt_Ct l G yX3_count cX3_count 2 (some .int) 6 0 0 [.ref T.1, .int k] (tw_Z G T M w) (sp_ans G T N w (if nI 0 ≤ k ∧ k ≤ nI 16 then 0 else 1) (sp_coV N k)) := by
  obtain ⟨ro, ow, ri, hC⟩ := hcy.cty
  have h0 : N 0 0 = 0 := by rw [← hN]; rfl
  have hQ : sp_Q N (sp_homes N).2 := sp_Q.homes N
  have hT : (sp_homes N).2 0 0 = 0 := (congrFun (sp_S_homes N rfl) 0).trans h0
  refine wt_enter [some (.ref T.1), some (.int k)] (by decide +kernel) rfl (Nat.le_of_ble_eq_true rfl) (fun X hc hok => ?_)
  by_cases hp : nI 0 ≤ k ∧ k ≤ nI 16
  · obtain ⟨q, -, hq, rfl⟩ := sp_ix2 (a := 0) hp (by decide) (by decide)
    rw [if_pos hp] at hok
    refine wt_aload_0 (pc := 0) hc dX3_count_0 ?_
    refine wt_iconst (pc := 1) (v := nI 0) hc dX3_count_1 (by decide) ?_
    refine tw_put (pc := 2) 0 hc hE dX3_count_2 q1604 (by decide) (fun _ _ _ => rfl) rfl rfl (rfl) rfl ?_
    refine tw_eq hN ?_
    refine wt_aload_0 (pc := 5) hc dX3_count_5 ?_
    refine wt_iload_1 (pc := 6) hc dX3_count_6 ?_
    refine wt_iconst (pc := 7) (v := nI 0) hc dX3_count_7 (by decide) ?_
    refine wt_bipush (pc := 8) (v := nI 16) hc dX3_count_8 (by decide) ?_
    refine wt_gofn (wt_invS (pc := 10) 3 hc (ct_within _ _ _) dX3_count_10 rfl q1986 q1987 q116 q1988 (by decide +kernel) rfl (by decide) (by decide) (Nat.le_of_ble_eq_true rfl) rfl) ?_
    rw [sp_b_t hp]
    refine wt_iconst (pc := 13) (v := nI 1) hc dX3_count_13 (by decide) ?_
    refine wt_gofn (tw_inv (pc := 14) 2 hc hE (ct_right0 hE h0 _ _) dX3_count_14 rfl q1850 q1852 qs54 q116 q1853 (by decide +kernel) rfl (by decide) (by decide) (Nat.le_of_ble_eq_true rfl) rfl) ?_
    rw [if_neg (show ¬ (1 : Int32) = 0 by decide), sp_b_t (show ¬ (1 : Int32) = 0 ∨ nI 1 = 0 from Or.inl (by decide))]
    refine wt_if_ne (pc := 17) 22 hc dX3_count_17 (by decide) (fun c_17 => ?_) (fun c_17 => ?_)
    · refine wt_iload_1 (pc := 22) hc dX3_count_22 ?_
      rcases Nat.lt_or_ge q 14 with h14 | h14
      · rcases (by omega : q = 0 ∨ q = 1 ∨ q = 2 ∨ q = 3 ∨ q = 4 ∨ q = 5 ∨ q = 6 ∨ q = 7 ∨ q = 8 ∨ q = 9 ∨ q = 10 ∨ q = 11 ∨ q = 12 ∨ q = 13) with rfl | rfl | rfl | rfl | rfl | rfl | rfl | rfl | rfl | rfl | rfl | rfl | rfl | rfl
        · refine sp_tableIn (pc := 23) 92 0 0 hc dX3_count_23 (by decide) rfl (by decide) (by decide) rfl (by decide) ?_
          refine wt_aload_0 (pc := 92) hc dX3_count_92 ?_
          refine tw_get (pc := 93) 1 _ hc hE dX3_count_93 q1605 (by decide) (fun _ _ _ => rfl) rfl (rfl) ?_
          exact wt_iret (pc := 96) hc hok dX3_count_96 (rfl) (fun H hZ => sp_ans_ok (sp_Q.rf N) h0 rfl hZ)
        · refine sp_tableIn (pc := 23) 97 1 0 hc dX3_count_23 (by decide) rfl (by decide) (by decide) rfl (by decide) ?_
          refine wt_aload_0 (pc := 97) hc dX3_count_97 ?_
          refine tw_get (pc := 98) 2 _ hc hE dX3_count_98 q1606 (by decide) (fun _ _ _ => rfl) rfl (rfl) ?_
          exact wt_iret (pc := 101) hc hok dX3_count_101 (rfl) (fun H hZ => sp_ans_ok (sp_Q.rf N) h0 rfl hZ)
        · refine sp_tableIn (pc := 23) 102 2 0 hc dX3_count_23 (by decide) rfl (by decide) (by decide) rfl (by decide) ?_
          refine wt_aload_0 (pc := 102) hc dX3_count_102 ?_
          refine tw_get (pc := 103) 3 _ hc hE dX3_count_103 q1607 (by decide) (fun _ _ _ => rfl) rfl (rfl) ?_
          exact wt_iret (pc := 106) hc hok dX3_count_106 (rfl) (fun H hZ => sp_ans_ok (sp_Q.rf N) h0 rfl hZ)
        · refine sp_tableIn (pc := 23) 107 3 0 hc dX3_count_23 (by decide) rfl (by decide) (by decide) rfl (by decide) ?_
          refine wt_aload_0 (pc := 107) hc dX3_count_107 ?_
          refine tw_get (pc := 108) 4 _ hc hE dX3_count_108 q1608 (by decide) (fun _ _ _ => rfl) rfl (rfl) ?_
          exact wt_iret (pc := 111) hc hok dX3_count_111 (rfl) (fun H hZ => sp_ans_ok (sp_Q.rf N) h0 rfl hZ)
        · refine sp_tableIn (pc := 23) 112 4 0 hc dX3_count_23 (by decide) rfl (by decide) (by decide) rfl (by decide) ?_
          refine wt_aload_0 (pc := 112) hc dX3_count_112 ?_
          refine tw_get (pc := 113) 5 _ hc hE dX3_count_113 q1609 (by decide) (fun _ _ _ => rfl) rfl (rfl) ?_
          exact wt_iret (pc := 116) hc hok dX3_count_116 (rfl) (fun H hZ => sp_ans_ok (sp_Q.rf N) h0 rfl hZ)
        · refine sp_tableIn (pc := 23) 117 5 0 hc dX3_count_23 (by decide) rfl (by decide) (by decide) rfl (by decide) ?_
          refine wt_aload_0 (pc := 117) hc dX3_count_117 ?_
          refine tw_geta (pc := 118) 47 hc hE dX3_count_118 q1651 (by decide) (by decide) (fun _ _ _ => rfl) rfl ?_
          refine wt_iconst (pc := 121) (v := nI 0) hc dX3_count_121 (by decide) ?_
          refine tw_iald (pc := 122) (k := 47) (0) _ hc hE dX3_count_122 rfl (rfl) (by show _ < 19; omega) (by decide) (rfl) ?_
          exact wt_iret (pc := 123) hc hok dX3_count_123 (rfl) (fun H hZ => sp_ans_ok (sp_Q.rf N) h0 rfl hZ)
        · refine sp_tableIn (pc := 23) 124 6 0 hc dX3_count_23 (by decide) rfl (by decide) (by decide) rfl (by decide) ?_
          refine wt_aload_0 (pc := 124) hc dX3_count_124 ?_
          refine tw_get (pc := 125) 6 _ hc hE dX3_count_125 q1610 (by decide) (fun _ _ _ => rfl) rfl (rfl) ?_
          exact wt_iret (pc := 128) hc hok dX3_count_128 (rfl) (fun H hZ => sp_ans_ok (sp_Q.rf N) h0 rfl hZ)
        · refine sp_tableIn (pc := 23) 129 7 0 hc dX3_count_23 (by decide) rfl (by decide) (by decide) rfl (by decide) ?_
          refine wt_aload_0 (pc := 129) hc dX3_count_129 ?_
          refine tw_geta (pc := 130) 47 hc hE dX3_count_130 q1651 (by decide) (by decide) (fun _ _ _ => rfl) rfl ?_
          refine wt_iconst (pc := 133) (v := nI 1) hc dX3_count_133 (by decide) ?_
          refine tw_iald (pc := 134) (k := 47) (1) _ hc hE dX3_count_134 rfl (rfl) (by show _ < 19; omega) (by decide) (rfl) ?_
          exact wt_iret (pc := 135) hc hok dX3_count_135 (rfl) (fun H hZ => sp_ans_ok (sp_Q.rf N) h0 rfl hZ)
        · refine sp_tableIn (pc := 23) 136 8 0 hc dX3_count_23 (by decide) rfl (by decide) (by decide) rfl (by decide) ?_
          refine wt_aload_0 (pc := 136) hc dX3_count_136 ?_
          refine tw_geta (pc := 137) 47 hc hE dX3_count_137 q1651 (by decide) (by decide) (fun _ _ _ => rfl) rfl ?_
          refine wt_iconst (pc := 140) (v := nI 2) hc dX3_count_140 (by decide) ?_
          refine tw_iald (pc := 141) (k := 47) (2) _ hc hE dX3_count_141 rfl (rfl) (by show _ < 19; omega) (by decide) (rfl) ?_
          exact wt_iret (pc := 142) hc hok dX3_count_142 (rfl) (fun H hZ => sp_ans_ok (sp_Q.rf N) h0 rfl hZ)
        · refine sp_tableIn (pc := 23) 143 9 0 hc dX3_count_23 (by decide) rfl (by decide) (by decide) rfl (by decide) ?_
          refine wt_aload_0 (pc := 143) hc dX3_count_143 ?_
          refine tw_geta (pc := 144) 47 hc hE dX3_count_144 q1651 (by decide) (by decide) (fun _ _ _ => rfl) rfl ?_
          refine wt_iconst (pc := 147) (v := nI 3) hc dX3_count_147 (by decide) ?_
          refine tw_iald (pc := 148) (k := 47) (3) _ hc hE dX3_count_148 rfl (rfl) (by show _ < 19; omega) (by decide) (rfl) ?_
          exact wt_iret (pc := 149) hc hok dX3_count_149 (rfl) (fun H hZ => sp_ans_ok (sp_Q.rf N) h0 rfl hZ)
        · refine sp_tableIn (pc := 23) 150 10 0 hc dX3_count_23 (by decide) rfl (by decide) (by decide) rfl (by decide) ?_
          refine wt_aload_0 (pc := 150) hc dX3_count_150 ?_
          refine wt_gofn (tw_inv (pc := 151) 0 hc hE (ct_homes hE ro ow ri hcy hC hf) dX3_count_151 rfl q1989 q1991 qs80 q116 q1992 (by decide +kernel) rfl (by decide) (by decide) (Nat.le_of_ble_eq_true rfl) rfl) ?_
          exact wt_iret (pc := 154) hc hok dX3_count_154 (rfl) (fun H hZ => sp_ans_ok hQ hT rfl hZ)
        · refine sp_tableIn (pc := 23) 155 11 0 hc dX3_count_23 (by decide) rfl (by decide) (by decide) rfl (by decide) ?_
          refine wt_aload_0 (pc := 155) hc dX3_count_155 ?_
          refine tw_get (pc := 156) 50 _ hc hE dX3_count_156 q1654 (by decide) (fun _ _ _ => rfl) rfl (rfl) ?_
          exact wt_iret (pc := 159) hc hok dX3_count_159 (rfl) (fun H hZ => sp_ans_ok (sp_Q.rf N) h0 rfl hZ)
        · refine sp_tableIn (pc := 23) 160 12 0 hc dX3_count_23 (by decide) rfl (by decide) (by decide) rfl (by decide) ?_
          refine wt_aload_0 (pc := 160) hc dX3_count_160 ?_
          refine tw_get (pc := 161) 67 _ hc hE dX3_count_161 q1671 (by decide) (fun _ _ _ => rfl) rfl (rfl) ?_
          exact wt_iret (pc := 164) hc hok dX3_count_164 (rfl) (fun H hZ => sp_ans_ok (sp_Q.rf N) h0 rfl hZ)
        · refine sp_tableIn (pc := 23) 165 13 0 hc dX3_count_23 (by decide) rfl (by decide) (by decide) rfl (by decide) ?_
          refine wt_aload_0 (pc := 165) hc dX3_count_165 ?_
          refine tw_get (pc := 166) 15 _ hc hE dX3_count_166 q1619 (by decide) (fun _ _ _ => rfl) rfl (rfl) ?_
          exact wt_iret (pc := 169) hc hok dX3_count_169 (rfl) (fun H hZ => sp_ans_ok (sp_Q.rf N) h0 rfl hZ)
      · refine wt_tableOut (pc := 23) 170 hc dX3_count_23 (Or.inr (by rw [nI_toInt (by omega)]; omega)) (by decide) ?_
        refine wt_aload_0 (pc := 170) hc dX3_count_170 ?_
        refine tw_geta (pc := 171) 18 hc hE dX3_count_171 q1622 (by decide) (by decide) (fun _ _ _ => rfl) rfl ?_
        refine wt_iload_1 (pc := 174) hc dX3_count_174 ?_
        refine wt_bipush (pc := 175) (v := nI 14) hc dX3_count_175 (by decide) ?_
        refine wt_isub (pc := 177) hc dX3_count_177 ?_
        rw [pk_sub (a := q) (b := 14) (by omega)]
        refine tw_iald (pc := 178) (k := 18) (q - 14) _ hc hE dX3_count_178 rfl (rfl) (by show _ < 3; omega) (by decide) (rfl) ?_
        exact wt_iret (pc := 179) hc hok dX3_count_179 (rfl) (fun H hZ => sp_ans_ok (sp_Q.rf N) h0 (by
          rcases (by omega : q = 14 ∨ q = 15 ∨ q = 16) with rfl | rfl | rfl <;> rfl) hZ)
    · exact absurd c_17 (by decide)
  · rw [if_neg hp] at hok
    refine wt_aload_0 (pc := 0) hc dX3_count_0 ?_
    refine wt_iconst (pc := 1) (v := nI 0) hc dX3_count_1 (by decide) ?_
    refine tw_put (pc := 2) 0 hc hE dX3_count_2 q1604 (by decide) (fun _ _ _ => rfl) rfl rfl (rfl) rfl ?_
    refine tw_eq hN ?_
    refine wt_aload_0 (pc := 5) hc dX3_count_5 ?_
    refine wt_iload_1 (pc := 6) hc dX3_count_6 ?_
    refine wt_iconst (pc := 7) (v := nI 0) hc dX3_count_7 (by decide) ?_
    refine wt_bipush (pc := 8) (v := nI 16) hc dX3_count_8 (by decide) ?_
    refine wt_gofn (wt_invS (pc := 10) 3 hc (ct_within _ _ _) dX3_count_10 rfl q1986 q1987 q116 q1988 (by decide +kernel) rfl (by decide) (by decide) (Nat.le_of_ble_eq_true rfl) rfl) ?_
    rw [sp_b_f hp]
    refine wt_iconst (pc := 13) (v := nI 1) hc dX3_count_13 (by decide) ?_
    refine wt_gofn (tw_inv (pc := 14) 2 hc hE (ct_right0 hE h0 _ _) dX3_count_14 rfl q1850 q1852 qs54 q116 q1853 (by decide +kernel) rfl (by decide) (by decide) (Nat.le_of_ble_eq_true rfl) rfl) ?_
    rw [if_pos (show (0 : Int32) = 0 from rfl), sp_b_f (show ¬ (¬ (0 : Int32) = 0 ∨ nI 1 = 0) from fun z => z.elim (fun z => z rfl) (by decide))]
    refine wt_if_ne (pc := 17) 22 hc dX3_count_17 (by decide) (fun c_17 => ?_) (fun c_17 => ?_)
    · exact absurd rfl c_17
    · refine wt_iconst (pc := 20) (v := nI 0) hc dX3_count_20 (by decide) ?_
      exact wt_iret (pc := 21) hc hok dX3_count_21 (rfl) (fun H hZ => sp_ans_bad (by decide) hZ)
end TJ
