/-! THE REFERENCE: operands, expressions: walked -/
set_option maxRecDepth 100000
theorem rd_drops_f {M : wt_It} {n p q m t d : Nat} (hX : rd_X M n p q m t d) (hb : t + m < 2 ^ 31) (least : Int32) {j : Nat} (h1 : j ≠ 33) (h2 : j ≠ 34) : rd_drops M least 0 j = M 0 j := by
  have ed : rd_drops M least = rd_dr least m M := by
    unfold rd_drops
    rw [hX.2.2.2.2.2.2.1, nn_nI (by omega)]
  rw [ed]
  exact (rd_dr_f least m M t hX.2.2.2.2.2.2.1 hX.2.2.2.2.2.2.2.1 hb).2.1 j h1 h2
theorem rd_dsg {M : wt_It} {n p q m t d c : Nat} {ls : Int32} (hX : rd_X M n p q m t d) (h : ¬ sp_b (rd_drops M ls 0 21 = 3 ∧ rd_drops M ls 0 25 = nI c) = 0) (hb : t + m < 2 ^ 31 := by omega) : rd_sgn M c := by
  have := sp_b_n0 h
  rw [rd_drops_f hX hb ls (by decide) (by decide), rd_drops_f hX hb ls (by decide) (by decide)] at this
  exact this
theorem rd_dsn {M : wt_It} {n p q m t d c : Nat} {ls : Int32} (hX : rd_X M n p q m t d) (h : sp_b (rd_drops M ls 0 21 = 3 ∧ rd_drops M ls 0 25 = nI c) = 0) (hb : t + m < 2 ^ 31 := by omega) : ¬ rd_sgn M c := by
  have := sp_b_0.mp h
  rw [rd_drops_f hX hb ls (by decide) (by decide), rd_drops_f hX hb ls (by decide) (by decide)] at this
  exact this
section TU
variable {l : Launch} {G : wt_G} {Z : Heap → Prop} {T : tw_T} {M N : wt_It} {w : Int64}
theorem ct_operand (hE : tw_E G T) (h : rd_ok M) (b : Bool) : wt_Ct l G yX3_operand cX3_operand 5 none 5 0 0 [.ref T.1, .int (sp_i b)] (tw_Z G T M w) (wt_pv (tw_Z G T (rd_operand b M w).1 (rd_operand b M w).2)) := by
  unfold rd_operand
  refine wt_enter [some (.ref T.1), some (.int (sp_i b)), none, none, none] (by decide +kernel) rfl (Nat.le_of_ble_eq_true rfl) (fun X hc hok => ?_)
  have fin : ∀ (A : wt_It) (u : Int64), rd_ok A → rd_opL 8 b M w = (A, u) → wt_V G X 120 [some (.ref T.1), none, none, none, none] [] (tw_Z G T A u) 0 0 := by
    intro A u hA hv
    rw [hv] at hok
    obtain ⟨n, p, q, m, t, d, hX, h1, h2⟩ := hA.x
    have hn := hX.1
    have hpn := hX.2.2.1
    refine wt_aload_0 (pc := 120) hc dX3_operand_120 ?_
    refine wt_gov (tw_inv (pc := 121) 0 hc hE (ct_part hE n p t hX.inn hX.2.2.2.2.2.2.2.1 (by omega)) dX3_operand_121 rfl q1935 q1937 qs72 q116 q1938 (by decide +kernel) rfl (by decide) (by decide) (Nat.le_of_ble_eq_true rfl) rfl) (Nat.zero_le _) (Nat.zero_le _) ?_
    exact wt_vret (pc := 124) hc hok dX3_operand_124 (fun H hZ => ⟨rfl, hZ⟩)
  -- behind the nots
  have aft : ∀ (f : Nat) (b1 : Bool) (A : wt_It) (u : Int64), A 0 16 = 0 → rd_Rd A → (∀ (B : wt_It) (v : Int64), rd_ok B → (B 0 16 = 0 → ∃ d, B 0 35 = nI d ∧ d ≤ 6 ∧ 8 ≤ f + d) → (¬ B 0 16 = 0 → 1 ≤ f) → rd_opL 8 b M w = rd_opL f true B v → wt_V G X 4 [some (.ref T.1), none, some (.int (nI 1)), some (.int (nI 1)), none] [] (tw_Z G T B v) 0 0) → (∃ d, A 0 35 = nI d ∧ d ≤ 6 ∧ 8 ≤ f + 1 + d) → rd_opL 8 b M w = rd_opL (f + 1) b1 A u → wt_V G X 75 [some (.ref T.1), none, none, none, none] [] (tw_Z G T (rd_pn b1 A u).1 (rd_pn b1 A u).2) 0 0 := by
    intro f b1 A u hg hR nxt hd hv
    conv at hv => rhs; rw [rd_opL, if_pos hg]
    have hp := rd_pn_ok b1 A u hg hR
    have hl := (rd_pn_le b1 A u hR).2
    by_cases hg2 : (rd_pn b1 A u).1 0 16 = 0
    · rw [if_pos hg2] at hv
      have hR2 : rd_Rd (rd_pn b1 A u).1 := hp.elim (fun z => z.2) (fun z => absurd hg2 z.1)
      by_cases hs : (rd_pn b1 A u).1 0 21 = 3 ∧ (rd_pn b1 A u).1 0 25 = nI 40
      · rw [if_pos hs] at hv
        obtain ⟨d, hd6, e1, e2, hk, h6, h7⟩ := rd_open_ok hg2 hR2 hs.1
        obtain ⟨n, p, q, m, t, d', hX, h1, h2, h3⟩ := hR2
        have hn := hX.1
        have hpn := hX.2.2.1
        have hqp := hX.2.1
        have hXw := hX.waits (v := nI 14) (by omega)
        obtain ⟨d2, g1, g2, g3⟩ := hd
        have ed : d2 = d := (nI_eq (by omega) (by omega)).mp (g1.symm.trans (hl.symm.trans e2))
        subst ed
        have nx := nxt _ _ hk (fun z => ⟨d2 + 1, h6 (by
          rcases Nat.lt_or_ge d2 6 with q | q
          · exact q
          · exact absurd z (h7 (by omega))), by
          rcases Nat.lt_or_ge d2 6 with q | q
          · exact q
          · exact absurd z (h7 (by omega)), by omega⟩) (fun z => by
          rcases Nat.lt_or_ge d2 6 with q | q
          · omega
          · omega) hv
        refine wt_aload_0 (pc := 75) hc dX3_operand_75 ?_
        refine wt_gofn (tw_inv (pc := 76) 0 hc hE (ct_isGood hE) dX3_operand_76 rfl q1868 q1870 qs57 q116 q1871 (by decide +kernel) rfl (by decide) (by decide) (Nat.le_of_ble_eq_true rfl) rfl) ?_
        refine wt_if_eq (pc := 79) 95 hc dX3_operand_79 (by decide) (fun c_79 => ?_) (fun c_79 => ?_)
        · exact absurd hg2 (sp_b_0.mp c_79)
        · refine wt_aload_0 (pc := 82) hc dX3_operand_82 ?_
          refine wt_bipush (pc := 83) (v := nI 40) hc dX3_operand_83 (by decide) ?_
          refine wt_gofn (tw_inv (pc := 85) 1 hc hE (ct_isSign hE _) dX3_operand_85 rfl q1923 q1925 qs69 q116 q1926 (by decide +kernel) rfl (by decide) (by decide) (Nat.le_of_ble_eq_true rfl) rfl) ?_
          refine wt_if_eq (pc := 88) 95 hc dX3_operand_88 (by decide) (fun c_88 => ?_) (fun c_88 => ?_)
          · exact absurd hs (sp_b_0.mp c_88)
          · refine wt_iconst (pc := 91) (v := nI 1) hc dX3_operand_91 (by decide) ?_
            refine wt_goto (pc := 92) 96 hc dX3_operand_92 (by decide) ?_
            refine wt_istore_3 (pc := 96) hc dX3_operand_96 rfl ?_
            refine wt_iload_3 (pc := 97) hc dX3_operand_97 ?_
            refine wt_if_eq (pc := 98) 117 hc dX3_operand_98 (by decide) (fun z => absurd z (by decide)) (fun _ => ?_)
            refine wt_aload_0 (pc := 101) hc dX3_operand_101 ?_
            refine wt_bipush (pc := 102) (v := nI 14) hc dX3_operand_102 (by decide) ?_
            refine wt_gov (tw_inv (pc := 104) 1 hc hE (ct_waitsM hE _ m (by exact hX.2.2.2.2.2.2.1) (by omega)) dX3_operand_104 rfl q1931 q1933 qs71 q116 q1934 (by decide +kernel) rfl (by decide) (by decide) (Nat.le_of_ble_eq_true rfl) rfl) (Nat.zero_le _) (Nat.zero_le _) ?_
            refine wt_aload_0 (pc := 107) hc dX3_operand_107 ?_
            refine wt_gov (tw_inv (pc := 108) 0 hc hE (ct_goes hE n p hXw.inn) dX3_operand_108 rfl q1854 q1856 qs55 q116 q1857 (by decide +kernel) rfl (by decide) (by decide) (Nat.le_of_ble_eq_true rfl) rfl) (Nat.zero_le _) (Nat.zero_le _) ?_
            refine wt_aload_0 (pc := 111) hc dX3_operand_111 ?_
            refine wt_gov (tw_inv (pc := 112) 0 hc hE (ct_deeper hE d2 (by exact e1) (by omega)) dX3_operand_112 rfl q1919 q1921 qs68 q116 q1922 (by decide +kernel) rfl (by decide) (by decide) (Nat.le_of_ble_eq_true rfl) rfl) (Nat.zero_le _) (Nat.zero_le _) ?_
            refine wt_iconst (pc := 115) (v := nI 1) hc dX3_operand_115 (by decide) ?_
            refine wt_istore_2 (pc := 116) hc dX3_operand_116 rfl ?_
            refine wt_goto (pc := 117) 4 hc dX3_operand_117 (by decide) ?_
            exact nx
      · rw [if_neg hs] at hv
        refine wt_aload_0 (pc := 75) hc dX3_operand_75 ?_
        refine wt_gofn (tw_inv (pc := 76) 0 hc hE (ct_isGood hE) dX3_operand_76 rfl q1868 q1870 qs57 q116 q1871 (by decide +kernel) rfl (by decide) (by decide) (Nat.le_of_ble_eq_true rfl) rfl) ?_
        refine wt_if_eq (pc := 79) 95 hc dX3_operand_79 (by decide) (fun c_79 => ?_) (fun c_79 => ?_)
        · exact absurd hg2 (sp_b_0.mp c_79)
        · refine wt_aload_0 (pc := 82) hc dX3_operand_82 ?_
          refine wt_bipush (pc := 83) (v := nI 40) hc dX3_operand_83 (by decide) ?_
          refine wt_gofn (tw_inv (pc := 85) 1 hc hE (ct_isSign hE _) dX3_operand_85 rfl q1923 q1925 qs69 q116 q1926 (by decide +kernel) rfl (by decide) (by decide) (Nat.le_of_ble_eq_true rfl) rfl) ?_
          refine wt_if_eq (pc := 88) 95 hc dX3_operand_88 (by decide) (fun c_88 => ?_) (fun c_88 => ?_)
          · refine wt_iconst (pc := 95) (v := nI 0) hc dX3_operand_95 (by decide) ?_
            refine wt_istore_3 (pc := 96) hc dX3_operand_96 rfl ?_
            refine wt_iload_3 (pc := 97) hc dX3_operand_97 ?_
            refine wt_if_eq (pc := 98) 117 hc dX3_operand_98 (by decide) (fun _ => ?_) (fun z => absurd z (by decide))
            refine wt_goto (pc := 117) 4 hc dX3_operand_117 (by decide) ?_
            refine wt_iload_3 (pc := 4) hc dX3_operand_4 ?_
            refine wt_if_eq (pc := 5) 120 hc dX3_operand_5 (by decide) (fun _ => ?_) (fun z => absurd z (by decide))
            exact wt_drop (fin (rd_pn b1 A u).1 (rd_pn b1 A u).2 hp hv) ⟨rfl, trivial⟩
          · exact absurd (sp_b_n0 c_88) hs
    · rw [if_neg hg2] at hv
      refine wt_aload_0 (pc := 75) hc dX3_operand_75 ?_
      refine wt_gofn (tw_inv (pc := 76) 0 hc hE (ct_isGood hE) dX3_operand_76 rfl q1868 q1870 qs57 q116 q1871 (by decide +kernel) rfl (by decide) (by decide) (Nat.le_of_ble_eq_true rfl) rfl) ?_
      refine wt_if_eq (pc := 79) 95 hc dX3_operand_79 (by decide) (fun c_79 => ?_) (fun c_79 => ?_)
      · refine wt_iconst (pc := 95) (v := nI 0) hc dX3_operand_95 (by decide) ?_
        refine wt_istore_3 (pc := 96) hc dX3_operand_96 rfl ?_
        refine wt_iload_3 (pc := 97) hc dX3_operand_97 ?_
        refine wt_if_eq (pc := 98) 117 hc dX3_operand_98 (by decide) (fun _ => ?_) (fun z => absurd z (by decide))
        refine wt_goto (pc := 117) 4 hc dX3_operand_117 (by decide) ?_
        refine wt_iload_3 (pc := 4) hc dX3_operand_4 ?_
        refine wt_if_eq (pc := 5) 120 hc dX3_operand_5 (by decide) (fun _ => ?_) (fun z => absurd z (by decide))
        exact wt_drop (fin (rd_pn b1 A u).1 (rd_pn b1 A u).2 hp hv) ⟨rfl, trivial⟩
      · exact absurd (sp_b_n0 c_79) hg2
  have nots : ∀ (A0 : wt_It) (u0 : Int64), wt_V G X 75 [some (.ref T.1), none, none, none, none] [] (tw_Z G T (rd_nots 6 A0 u0).1 (rd_nots 6 A0 u0).2) 0 0 → ∀ (r j : Nat) (A : wt_It) (u : Int64), j + r = 6 → A 0 16 = 0 → rd_Rd A → rd_nots 6 A0 u0 = rd_nots r A u → wt_V G X 18 [some (.ref T.1), none, some (.int (nI 1)), none, some (.int (nI j))] [] (tw_Z G T A u) 0 0 := by
    intro A0 u0 hend r
    induction r with
    | zero =>
      intro j A u hj hg hR hv
      conv at hv => rhs; rw [rd_nots, if_pos hg]
      refine wt_aload_0 (pc := 18) hc dX3_operand_18 ?_
      refine wt_gofn (tw_inv (pc := 19) 0 hc hE (ct_isGood hE) dX3_operand_19 rfl q1868 q1870 qs57 q116 q1871 (by decide +kernel) rfl (by decide) (by decide) (Nat.le_of_ble_eq_true rfl) rfl) ?_
      refine wt_if_eq (pc := 22) 75 hc dX3_operand_22 (by decide) (fun c_22 => ?_) (fun c_22 => ?_)
      · exact absurd hg (sp_b_0.mp c_22)
      · refine wt_iload_2 (pc := 25) hc dX3_operand_25 ?_
        refine wt_if_eq (pc := 26) 75 hc dX3_operand_26 (by decide) (fun z => absurd z (by decide)) (fun _ => ?_)
        refine wt_aload_0 (pc := 29) hc dX3_operand_29 ?_
        refine wt_gofn (tw_inv (pc := 30) 0 hc hE (ct_knownWord hE) dX3_operand_30 rfl q1876 q1878 qs59 q116 q1879 (by decide +kernel) rfl (by decide) (by decide) (Nat.le_of_ble_eq_true rfl) rfl) ?_
        refine wt_bipush (pc := 33) (v := nI 17) hc dX3_operand_33 (by decide) ?_
        refine wt_icmp_ne (pc := 35) 75 hc dX3_operand_35 (by decide) (fun c_35 => ?_) (fun c_35 => ?_)
        · rw [if_neg c_35] at hv
          rw [hv] at hend
          exact wt_drop hend ⟨rfl, trivial⟩
        · rw [if_pos c_35] at hv
          rw [hv] at hend
          refine wt_iload_4 (pc := 38) hc dX3_operand_38 ?_
          refine wt_bipush (pc := 40) (v := nI 6) hc dX3_operand_40 (by decide) ?_
          refine wt_nicmp_ne (pc := 42) 50 (j) (6) hc dX3_operand_42 (by decide) (by omega) (by omega) (fun c_42 => ?_) (fun c_42 => ?_)
          · omega
          · refine wt_aload_0 (pc := 45) hc dX3_operand_45 ?_
            refine wt_iconst (pc := 46) (v := nI 2) hc dX3_operand_46 (by decide) ?_
            refine wt_gov (tw_inv (pc := 47) 1 hc hE (ct_wrong hE _) dX3_operand_47 rfl q1887 q1889 qs60 q116 q1890 (by decide +kernel) rfl (by decide) (by decide) (Nat.le_of_ble_eq_true rfl) rfl) (Nat.zero_le _) (Nat.zero_le _) ?_
            refine wt_iinc_4 (pc := 50) (v := nI (j + 1)) hc dX3_operand_50 (nI_add j 1) rfl ?_
            refine wt_aload_0 (pc := 53) hc dX3_operand_53 ?_
            refine wt_gofn (tw_inv (pc := 54) 0 hc hE (ct_isGood hE) dX3_operand_54 rfl q1868 q1870 qs57 q116 q1871 (by decide +kernel) rfl (by decide) (by decide) (Nat.le_of_ble_eq_true rfl) rfl) ?_
            refine wt_if_ne (pc := 57) 63 hc dX3_operand_57 (by decide) (fun c_57 => ?_) (fun c_57 => ?_)
            · exact absurd (sp_b_n0 c_57) (sp_wrong_bad (by decide))
            · refine wt_goto (pc := 60) 18 hc dX3_operand_60 (by decide) ?_
              refine wt_aload_0 (pc := 18) hc dX3_operand_18 ?_
              refine wt_gofn (tw_inv (pc := 19) 0 hc hE (ct_isGood hE) dX3_operand_19 rfl q1868 q1870 qs57 q116 q1871 (by decide +kernel) rfl (by decide) (by decide) (Nat.le_of_ble_eq_true rfl) rfl) ?_
              refine wt_if_eq (pc := 22) 75 hc dX3_operand_22 (by decide) (fun c_22 => ?_) (fun c_22 => ?_)
              · exact wt_drop hend ⟨rfl, trivial⟩
              · exact absurd (sp_b_n0 c_22) (sp_wrong_bad (by decide))
    | succ r ih =>
      intro j A u hj hg hR hv
      conv at hv => rhs; rw [rd_nots, if_pos hg]
      refine wt_aload_0 (pc := 18) hc dX3_operand_18 ?_
      refine wt_gofn (tw_inv (pc := 19) 0 hc hE (ct_isGood hE) dX3_operand_19 rfl q1868 q1870 qs57 q116 q1871 (by decide +kernel) rfl (by decide) (by decide) (Nat.le_of_ble_eq_true rfl) rfl) ?_
      refine wt_if_eq (pc := 22) 75 hc dX3_operand_22 (by decide) (fun c_22 => ?_) (fun c_22 => ?_)
      · exact absurd hg (sp_b_0.mp c_22)
      · refine wt_iload_2 (pc := 25) hc dX3_operand_25 ?_
        refine wt_if_eq (pc := 26) 75 hc dX3_operand_26 (by decide) (fun z => absurd z (by decide)) (fun _ => ?_)
        refine wt_aload_0 (pc := 29) hc dX3_operand_29 ?_
        refine wt_gofn (tw_inv (pc := 30) 0 hc hE (ct_knownWord hE) dX3_operand_30 rfl q1876 q1878 qs59 q116 q1879 (by decide +kernel) rfl (by decide) (by decide) (Nat.le_of_ble_eq_true rfl) rfl) ?_
        refine wt_bipush (pc := 33) (v := nI 17) hc dX3_operand_33 (by decide) ?_
        refine wt_icmp_ne (pc := 35) 75 hc dX3_operand_35 (by decide) (fun c_35 => ?_) (fun c_35 => ?_)
        · rw [if_neg c_35] at hv
          rw [hv] at hend
          exact wt_drop hend ⟨rfl, trivial⟩
        · rw [if_pos c_35] at hv
          have hW := hR.wait (sp_kw_sort c_35 (by decide)) (nI 3) (by decide)
          obtain ⟨n, p, q, m, t, d, hX, h1, h2, h3⟩ := id hR
          have hn := hX.1
          have hpn := hX.2.2.1
          have hqp := hX.2.1
          have hXw := hX.waits (v := nI 3) (by omega)
          refine wt_iload_4 (pc := 38) hc dX3_operand_38 ?_
          refine wt_bipush (pc := 40) (v := nI 6) hc dX3_operand_40 (by decide) ?_
          refine wt_nicmp_ne (pc := 42) 50 (j) (6) hc dX3_operand_42 (by decide) (by omega) (by omega) (fun c_42 => ?_) (fun c_42 => ?_)
          · refine wt_iinc_4 (pc := 50) (v := nI (j + 1)) hc dX3_operand_50 (nI_add j 1) rfl ?_
            refine wt_aload_0 (pc := 53) hc dX3_operand_53 ?_
            refine wt_gofn (tw_inv (pc := 54) 0 hc hE (ct_isGood hE) dX3_operand_54 rfl q1868 q1870 qs57 q116 q1871 (by decide +kernel) rfl (by decide) (by decide) (Nat.le_of_ble_eq_true rfl) rfl) ?_
            refine wt_if_ne (pc := 57) 63 hc dX3_operand_57 (by decide) (fun c_57 => ?_) (fun c_57 => ?_)
            · refine wt_aload_0 (pc := 63) hc dX3_operand_63 ?_
              refine wt_iconst (pc := 64) (v := nI 3) hc dX3_operand_64 (by decide) ?_
              refine wt_gov (tw_inv (pc := 65) 1 hc hE (ct_waitsM hE _ m (by exact hX.2.2.2.2.2.2.1) (by omega)) dX3_operand_65 rfl q1931 q1933 qs71 q116 q1934 (by decide +kernel) rfl (by decide) (by decide) (Nat.le_of_ble_eq_true rfl) rfl) (Nat.zero_le _) (Nat.zero_le _) ?_
              refine wt_aload_0 (pc := 68) hc dX3_operand_68 ?_
              refine wt_gov (tw_inv (pc := 69) 0 hc hE (ct_goes hE n p hXw.inn) dX3_operand_69 rfl q1854 q1856 qs55 q116 q1857 (by decide +kernel) rfl (by decide) (by decide) (Nat.le_of_ble_eq_true rfl) rfl) (Nat.zero_le _) (Nat.zero_le _) ?_
              refine wt_goto (pc := 72) 18 hc dX3_operand_72 (by decide) ?_
              exact ih (j + 1) _ _ (by omega) ((rd_go_16 hXw.inn).trans hg) hW.go hv
            · exact absurd hg (sp_b_0.mp c_57)
          · omega
  have outer : ∀ (f : Nat) (b1 : Bool) (A : wt_It) (u : Int64), rd_ok A → (A 0 16 = 0 → ∃ d, A 0 35 = nI d ∧ d ≤ 6 ∧ 8 ≤ f + d) → (¬ A 0 16 = 0 → 1 ≤ f) → rd_opL 8 b M w = rd_opL f b1 A u → wt_V G X 4 [some (.ref T.1), none, some (.int (sp_i b1)), some (.int (nI 1)), none] [] (tw_Z G T A u) 0 0 := by
    intro f
    induction f with
    | zero =>
      intro b1 A u hA h1 h2 hv
      exfalso
      by_cases hg : A 0 16 = 0
      · obtain ⟨d, -, g1, g2⟩ := h1 hg
        omega
      · have := h2 hg
        omega
    | succ f ih =>
      intro b1 A u hA h1 h2 hv
      by_cases hg : A 0 16 = 0
      · have hR : rd_Rd A := hA.elim (fun z => z.2) (fun z => absurd hg z.1)
        have af := aft f b1 A u hg hR (fun B v a1 a2 a3 a4 => ih true B v a1 a2 a3 a4) (h1 hg) hv
        cases b1 with
        | true =>
          have n0 := nots A u af 6 0 A u (by omega) hg hR rfl
          refine wt_iload_3 (pc := 4) hc dX3_operand_4 ?_
          refine wt_if_eq (pc := 5) 120 hc dX3_operand_5 (by decide) (fun z => absurd z (by decide)) (fun _ => ?_)
          refine wt_aload_0 (pc := 8) hc dX3_operand_8 ?_
          refine wt_gofn (tw_inv (pc := 9) 0 hc hE (ct_isGood hE) dX3_operand_9 rfl q1868 q1870 qs57 q116 q1871 (by decide +kernel) rfl (by decide) (by decide) (Nat.le_of_ble_eq_true rfl) rfl) ?_
          refine wt_if_eq (pc := 12) 120 hc dX3_operand_12 (by decide) (fun c_12 => ?_) (fun c_12 => ?_)
          · exact absurd hg (sp_b_0.mp c_12)
          · refine wt_iconst (pc := 15) (v := nI 0) hc dX3_operand_15 (by decide) ?_
            refine wt_istore_4 (pc := 16) hc dX3_operand_16 rfl ?_
            exact wt_drop n0 ⟨rfl, rfl, rfl, trivial⟩
        | false =>
          refine wt_iload_3 (pc := 4) hc dX3_operand_4 ?_
          refine wt_if_eq (pc := 5) 120 hc dX3_operand_5 (by decide) (fun z => absurd z (by decide)) (fun _ => ?_)
          refine wt_aload_0 (pc := 8) hc dX3_operand_8 ?_
          refine wt_gofn (tw_inv (pc := 9) 0 hc hE (ct_isGood hE) dX3_operand_9 rfl q1868 q1870 qs57 q116 q1871 (by decide +kernel) rfl (by decide) (by decide) (Nat.le_of_ble_eq_true rfl) rfl) ?_
          refine wt_if_eq (pc := 12) 120 hc dX3_operand_12 (by decide) (fun c_12 => ?_) (fun c_12 => ?_)
          · exact absurd hg (sp_b_0.mp c_12)
          · refine wt_iconst (pc := 15) (v := nI 0) hc dX3_operand_15 (by decide) ?_
            refine wt_istore_4 (pc := 16) hc dX3_operand_16 rfl ?_
            refine wt_aload_0 (pc := 18) hc dX3_operand_18 ?_
            refine wt_gofn (tw_inv (pc := 19) 0 hc hE (ct_isGood hE) dX3_operand_19 rfl q1868 q1870 qs57 q116 q1871 (by decide +kernel) rfl (by decide) (by decide) (Nat.le_of_ble_eq_true rfl) rfl) ?_
            refine wt_if_eq (pc := 22) 75 hc dX3_operand_22 (by decide) (fun c_22 => ?_) (fun c_22 => ?_)
            · exact absurd hg (sp_b_0.mp c_22)
            · refine wt_iload_2 (pc := 25) hc dX3_operand_25 ?_
              refine wt_if_eq (pc := 26) 75 hc dX3_operand_26 (by decide) (fun _ => ?_) (fun z => absurd z (by decide))
              exact wt_drop af ⟨rfl, trivial⟩
      · conv at hv => rhs; rw [rd_opL, if_neg hg]
        refine wt_iload_3 (pc := 4) hc dX3_operand_4 ?_
        refine wt_if_eq (pc := 5) 120 hc dX3_operand_5 (by decide) (fun z => absurd z (by decide)) (fun _ => ?_)
        refine wt_aload_0 (pc := 8) hc dX3_operand_8 ?_
        refine wt_gofn (tw_inv (pc := 9) 0 hc hE (ct_isGood hE) dX3_operand_9 rfl q1868 q1870 qs57 q116 q1871 (by decide +kernel) rfl (by decide) (by decide) (Nat.le_of_ble_eq_true rfl) rfl) ?_
        refine wt_if_eq (pc := 12) 120 hc dX3_operand_12 (by decide) (fun c_12 => ?_) (fun c_12 => ?_)
        · exact wt_drop (fin A u hA hv) ⟨rfl, trivial⟩
        · exact absurd (sp_b_n0 c_12) hg
  refine wt_iload_1 (pc := 0) hc dX3_operand_0 ?_
  refine wt_istore_2 (pc := 1) hc dX3_operand_1 rfl ?_
  refine wt_iconst (pc := 2) (v := nI 1) hc dX3_operand_2 (by decide) ?_
  refine wt_istore_3 (pc := 3) hc dX3_operand_3 rfl ?_
  refine wt_drop (outer 8 b M w h (fun hg => ?_) (fun _ => by omega) rfl) ⟨rfl, rfl, rfl, trivial⟩
  obtain ⟨n, p, q, m, t, d, hX, -⟩ := h.elim (fun z => z.2.wk.fi) (fun z => z.2)
  exact ⟨d, hX.2.2.2.2.2.2.2.2.1, hX.2.2.2.2.2.2.2.2.2.1, by omega⟩
theorem ct_closes (hE : tw_E G T) (n p m t m' d : Nat) (hm : M 0 34 = nI m) (ht : M 0 33 = nI t) (hm9 : m < 950) (hl : t + m < 2800) (hi : rd_in (rd_cl0 M) n p) (h34 : rd_drops M (nI 0) 0 34 = nI (m' + 1)) (h35 : rd_drops M (nI 0) 0 35 = nI (d + 1)) : wt_Ct l G yX3_closes cX3_closes 1 none 3 0 0 [.ref T.1] (tw_Z G T M w) (wt_pv (tw_Z G T (rd_go (rd_cl0 M)).1 (rd_go (rd_cl0 M)).2)) := by
  refine wt_enter [some (.ref T.1)] (by decide +kernel) rfl (Nat.le_of_ble_eq_true rfl) (fun X hc hok => ?_)
  refine wt_aload_0 (pc := 0) hc dX3_closes_0 ?_
  refine wt_iconst (pc := 1) (v := nI 0) hc dX3_closes_1 (by decide) ?_
  refine wt_gov (tw_inv (pc := 2) 1 hc hE (ct_drops hE m t hm ht hm9 hl _) dX3_closes_2 rfl q1943 q1945 qs74 q116 q1946 (by decide +kernel) rfl (by decide) (by decide) (Nat.le_of_ble_eq_true rfl) rfl) (Nat.zero_le _) (Nat.zero_le _) ?_
  refine wt_aload_0 (pc := 5) hc dX3_closes_5 ?_
  refine wt_dup (pc := 6) hc dX3_closes_6 rfl ?_
  refine tw_get (pc := 7) 34 (_) hc hE dX3_closes_7 q1638 (by decide) (fun _ _ _ => rfl) rfl (rfl) ?_
  refine wt_iconst (pc := 10) (v := nI 1) hc dX3_closes_10 (by decide) ?_
  refine wt_isub (pc := 11) hc dX3_closes_11 ?_
  refine tw_put (pc := 12) 34 hc hE dX3_closes_12 q1638 (by decide) (fun _ _ _ => rfl) rfl rfl (rfl) rfl ?_
  refine wt_aload_0 (pc := 15) hc dX3_closes_15 ?_
  refine wt_dup (pc := 16) hc dX3_closes_16 rfl ?_
  refine tw_get (pc := 17) 35 (_) hc hE dX3_closes_17 q1639 (by decide) (fun _ _ _ => rfl) rfl (rfl) ?_
  refine wt_iconst (pc := 20) (v := nI 1) hc dX3_closes_20 (by decide) ?_
  refine wt_isub (pc := 21) hc dX3_closes_21 ?_
  refine tw_put (pc := 22) 35 hc hE dX3_closes_22 q1639 (by decide) (fun _ _ _ => rfl) rfl rfl (rfl) rfl ?_
  refine wt_aload_0 (pc := 25) hc dX3_closes_25 ?_
  refine wt_gov (tw_inv (pc := 26) 0 hc hE (ct_goes hE n p hi) dX3_closes_26 rfl q1854 q1856 qs55 q116 q1857 (by decide +kernel) rfl (by decide) (by decide) (Nat.le_of_ble_eq_true rfl) rfl) (Nat.zero_le _) (Nat.zero_le _) ?_
  exact wt_vret (pc := 29) hc hok dX3_closes_29 (fun H hZ => ⟨rfl, hZ⟩)
theorem ct_expression (hE : tw_E G T) (n p q t : Nat) (hX : rd_X (wt_up2 (wt_up2 M 0 34 (nI 0)) 0 35 (nI 0)) n p q 0 t 0) (ht : t ≤ 2 * q) : wt_Ct l G yX3_expression cX3_expression 3 none 6 0 0 [.ref T.1] (tw_Z G T M w) (wt_pv (tw_Z G T (rd_expr M w).1 (rd_expr M w).2)) := by
  unfold rd_expr
  refine wt_enter [some (.ref T.1), none, none] (by decide +kernel) rfl (Nat.le_of_ble_eq_true rfl) (fun X hc hok => ?_)
  by_cases hg : M 0 16 = 0
  · rw [if_pos hg] at hok
    have hk1 : rd_ok (rd_deep (wt_up2 (wt_up2 M 0 34 (nI 0)) 0 35 (nI 0))) := by
      have e : rd_deep (wt_up2 (wt_up2 M 0 34 (nI 0)) 0 35 (nI 0)) = wt_up2 (wt_up2 (wt_up2 (wt_up2 M 0 34 (nI 0)) 0 35 (nI 0)) 0 35 (nI 1)) 46 1 (nI 0) := by
        unfold rd_deep
        rw [show wt_up2 (wt_up2 M 0 34 (nI 0)) 0 35 (nI 0) 0 35 = nI 0 from rfl, if_neg (by decide)]
        rfl
      rw [e]
      obtain ⟨a1, a2, a3, e1, e2, e3, e4, e5, e6, a4, a5⟩ := hX
      exact Or.inl ⟨hg, n, p, q, 0, t, 1, ⟨a1, a2, a3, e1, e2, e3, e4, e5, rfl, by omega, a5⟩, by omega, by omega, Nat.zero_lt_one⟩
    have fin : ∀ (A : wt_It) (u : Int64), rd_ok A → rd_ex0 M w = (A, u) → wt_V G X 325 [some (.ref T.1), none, none] [] (tw_Z G T A u) 0 0 := by
      intro A u hA hv
      rw [hv] at hok
      have last : ∀ B : wt_It, rd_ok B → rd_ex1 A = B → wt_V G X 345 [some (.ref T.1), none, none] [] (tw_Z G T B u) 0 0 := by
        intro B hB eB
        rw [show (rd_ex1 (A, u).1) = B from eB] at hok
        obtain ⟨n, p, q, m, t, d, hX, h1, h2⟩ := hB.x
        have hn := hX.1
        have hpn := hX.2.2.1
        obtain ⟨m', t', g1, g2, hXd, -⟩ := hX.drops (by omega) (nI 0)
        refine wt_aload_0 (pc := 345) hc dX3_expression_345 ?_
        refine wt_iconst (pc := 346) (v := nI 0) hc dX3_expression_346 (by decide) ?_
        refine wt_gov (tw_inv (pc := 347) 1 hc hE (ct_drops hE m t hX.2.2.2.2.2.2.1 hX.2.2.2.2.2.2.2.1 (by omega) (by omega) _) dX3_expression_347 rfl q1943 q1945 qs74 q116 q1946 (by decide +kernel) rfl (by decide) (by decide) (Nat.le_of_ble_eq_true rfl) rfl) (Nat.zero_le _) (Nat.zero_le _) ?_
        refine wt_aload_0 (pc := 350) hc dX3_expression_350 ?_
        refine wt_iconst (pc := 351) (v := nI 0) hc dX3_expression_351 (by decide) ?_
        refine wt_gov (tw_inv (pc := 352) 1 hc hE (ct_putsM hE _ t' (by exact hXd.2.2.2.2.2.2.2.1) (by omega)) dX3_expression_352 rfl q1939 q1941 qs73 q116 q1942 (by decide +kernel) rfl (by decide) (by decide) (Nat.le_of_ble_eq_true rfl) rfl) (Nat.zero_le _) (Nat.zero_le _) ?_
        exact wt_vret (pc := 355) hc hok dX3_expression_355 (fun H hZ => ⟨rfl, hZ⟩)
      have hwr : rd_ok (sp_wrong A (nI 1)) := Or.inr ⟨sp_wrong_bad (by decide), by
        obtain ⟨n, p, q, m, t, d, hX, h1, h2⟩ := hA.x
        exact ⟨n, p, q, m, t, d, hX.wrong _, h1, h2⟩⟩
      refine wt_aload_0 (pc := 325) hc dX3_expression_325 ?_
      refine wt_gofn (tw_inv (pc := 326) 0 hc hE (ct_isGood hE) dX3_expression_326 rfl q1868 q1870 qs57 q116 q1871 (by decide +kernel) rfl (by decide) (by decide) (Nat.le_of_ble_eq_true rfl) rfl) ?_
      refine wt_if_eq (pc := 329) 345 hc dX3_expression_329 (by decide) (fun c_329 => ?_) (fun c_329 => ?_)
      · first | exact last _ hA (by unfold rd_ex1; rw [if_neg (sp_b_0.mp c_329)]) | exact last _ hA (by unfold rd_ex1; rw [if_pos (sp_b_n0 c_329), if_pos c_337]) | exact last _ hwr (by unfold rd_ex1; rw [if_pos (sp_b_n0 c_329), if_neg c_337])
      · refine wt_aload_0 (pc := 332) hc dX3_expression_332 ?_
        refine tw_get (pc := 333) 35 _ hc hE dX3_expression_333 q1639 (by decide) (fun _ _ _ => rfl) rfl (rfl) ?_
        refine wt_iconst (pc := 336) (v := nI 1) hc dX3_expression_336 (by decide) ?_
        refine wt_icmp_le (pc := 337) 345 hc dX3_expression_337 (by decide) (fun c_337 => ?_) (fun c_337 => ?_)
        · first | exact last _ hA (by unfold rd_ex1; rw [if_neg (sp_b_0.mp c_329)]) | exact last _ hA (by unfold rd_ex1; rw [if_pos (sp_b_n0 c_329), if_pos c_337]) | exact last _ hwr (by unfold rd_ex1; rw [if_pos (sp_b_n0 c_329), if_neg c_337])
        · refine wt_aload_0 (pc := 340) hc dX3_expression_340 ?_
          refine wt_iconst (pc := 341) (v := nI 1) hc dX3_expression_341 (by decide) ?_
          refine wt_gov (tw_inv (pc := 342) 1 hc hE (ct_wrong hE _) dX3_expression_342 rfl q1887 q1889 qs60 q116 q1890 (by decide +kernel) rfl (by decide) (by decide) (Nat.le_of_ble_eq_true rfl) rfl) (Nat.zero_le _) (Nat.zero_le _) ?_
          first | exact last _ hA (by unfold rd_ex1; rw [if_neg (sp_b_0.mp c_329)]) | exact last _ hA (by unfold rd_ex1; rw [if_pos (sp_b_n0 c_329), if_pos c_337]) | exact last _ hwr (by unfold rd_ex1; rw [if_pos (sp_b_n0 c_329), if_neg c_337])
    have loop : ∀ (f : Nat) (A : wt_It) (u : Int64), rd_ok A → (A 0 16 = 0 → 702 ≤ f + nn (A 0 22)) → (¬ A 0 16 = 0 → 1 ≤ f) → rd_ex0 M w = rd_exL f A u → wt_V G X 29 [some (.ref T.1), some (.int (nI 1)), none] [] (tw_Z G T A u) 0 0 := by
      intro f
      induction f with
      | zero =>
        intro A u hA h1 h2 hv
        exfalso
        obtain ⟨n, p, q, m, t, d, hX, -⟩ := hA.x
        have hn := hX.1
        have hpn := hX.2.2.1
        have hqp := hX.2.1
        by_cases hg : A 0 16 = 0
        · have := h1 hg
          rw [hX.2.2.2.2.2.1, nn_nI (by omega)] at this
          omega
        · have := h2 hg
          omega
      | succ f ih =>
        intro A u hA h1 h2 hv
        by_cases hg : A 0 16 = 0
        · have hR : rd_Rd A := hA.elim (fun z => z.2) (fun z => absurd hg z.1)
          rw [rd_exL, if_pos hg] at hv
          have nxt : ∀ s, rd_step A u = some s → wt_V G X 322 [some (.ref T.1), some (.int (nI 1)), none] [] (tw_Z G T s.1 s.2) 0 0 := by
            intro s hs
            obtain ⟨a1, a2, a3⟩ := rd_step_ok hg hR hs
            rw [hs] at hv
            refine wt_goto (pc := 322) 29 hc dX3_expression_322 (by decide) ?_
            exact ih s.1 s.2 a1 (fun _ => by have := h1 hg; omega) (fun _ => by
              obtain ⟨n, p, q, m, t, d, hX, -⟩ := hA.x
              have hn := hX.1
              have hpn := hX.2.2.1
              have hqp := hX.2.1
              have := h1 hg
              rw [hX.2.2.2.2.2.1, nn_nI (by omega)] at this
              omega) hv
          obtain ⟨n, p, q, m, t, d, hX, g1, g2, g3⟩ := id hR
          have hn := hX.1
          have hpn := hX.2.2.1
          have hqp := hX.2.1
          have hd6 := hX.2.2.2.2.2.2.2.2.2.1
          have e34 := hX.2.2.2.2.2.2.1
          have e33 := hX.2.2.2.2.2.2.2.1
          have e35 := hX.2.2.2.2.2.2.2.2.1
          have sg : ∀ c, rd_sgn A c → ¬ A 0 21 = 0 := fun c h => by rw [h.1]; decide
          -- what every operator does
          have op : ∀ (ls act : Nat) (B : wt_It), ¬ A 0 21 = 0 → act < 14 → B 0 = rd_s1 A ls act 0 → B 45 = rd_s1 A ls act 45 → rd_le (rd_s1 A ls act) B → ∃ n p m', rd_in B n p ∧ rd_ok (rd_go B).1 ∧ m' < 950 ∧ rd_drops A (nI ls) 0 34 = nI m' ∧ rd_s1 A ls act 0 35 = nI d := by
            intro ls act B hs ha h0 h45 hl
            obtain ⟨a1, a2, -, -⟩ := rd_s1_ok hg hR hs ls act ha B h0 h45 hl
            obtain ⟨m', t', b1, b2, hXd, -⟩ := hX.drops (by omega) (nI ls)
            have hXw := hXd.waits (v := nI act) (by omega)
            exact ⟨n, p, m', ⟨hn, hpn, by rw [h0]; exact hXw.2.2.2.1, by rw [h0]; exact hXw.2.2.2.2.1⟩, Or.inl ⟨a1, a2⟩, by omega, hXd.2.2.2.2.2.2.1, hXw.2.2.2.2.2.2.2.2.1⟩
          have a6 : ¬ sp_kw A u = nI 15 → ¬ sp_kw A u = nI 16 → ¬ ((rd_sgn A 60 ∨ rd_sgn A 61) ∧ A 46 (nn (A 0 35)) = 0) → ¬ (rd_sgn A 43 ∨ rd_sgn A 45) → ¬ (rd_sgn A 42 ∨ rd_sgn A 47) → wt_V G X 297 [some (.ref T.1), some (.int (nI 1)), none] [] (tw_Z G T A u) 0 0 := by
            intro k1 k2 k3 k4 k5
            by_cases hcc : rd_sgn A 41 ∧ rd_op A m = true
            · have hs : rd_step A u = some (rd_go (rd_cl0 A)) := by
                unfold rd_step
                rw [if_neg k1, if_neg k2, if_neg k3, if_neg k4, if_neg k5, if_pos ⟨hcc.1, by rw [e34, nn_nI (by omega)]; exact hcc.2⟩]
              obtain ⟨-, -, -, -, n1, p1, m1, d1, b1, b2, b3, b4, b5⟩ := rd_cl_ok hg hR (sg _ hcc.1) (by rw [e34, nn_nI (by omega)]; exact hcc.2)
              have nx := nxt _ hs
              refine wt_aload_0 (pc := 297) hc dX3_expression_297 ?_
              refine wt_bipush (pc := 298) (v := nI 41) hc dX3_expression_298 (by decide) ?_
              refine wt_gofn (tw_inv (pc := 300) 1 hc hE (ct_isSign hE _) dX3_expression_300 rfl q1923 q1925 qs69 q116 q1926 (by decide +kernel) rfl (by decide) (by decide) (Nat.le_of_ble_eq_true rfl) rfl) ?_
              refine wt_if_eq (pc := 303) 320 hc dX3_expression_303 (by decide) (fun c_303 => ?_) (fun c_303 => ?_)
              · exact absurd hcc.1 (sp_b_0.mp c_303)
              · refine wt_aload_0 (pc := 306) hc dX3_expression_306 ?_
                refine wt_gofn (tw_inv (pc := 307) 0 hc hE (ct_isOpened hE m e34 (by omega)) dX3_expression_307 rfl q1953 q1955 qs75 q116 q1956 (by decide +kernel) rfl (by decide) (by decide) (Nat.le_of_ble_eq_true rfl) rfl) ?_
                rw [hcc.2]
                refine wt_if_eq (pc := 310) 320 hc dX3_expression_310 (by decide) (fun z => absurd z (by decide)) (fun _ => ?_)
                refine wt_aload_0 (pc := 313) hc dX3_expression_313 ?_
                refine wt_gov (tw_inv (pc := 314) 0 hc hE (ct_closes hE n1 p1 m t m1 d1 e34 e33 (by omega) (by omega) b1 b2 b3) dX3_expression_314 rfl q1957 q1959 qs76 q116 q1960 (by decide +kernel) rfl (by decide) (by decide) (Nat.le_of_ble_eq_true rfl) rfl) (Nat.zero_le _) (Nat.zero_le _) ?_
                refine wt_goto (pc := 317) 322 hc dX3_expression_317 (by decide) ?_
                exact nx
            · have hs : rd_step A u = none := by
                unfold rd_step
                rw [if_neg k1, if_neg k2, if_neg k3, if_neg k4, if_neg k5, if_neg (fun z => hcc ⟨z.1, by have := z.2; rw [e34, nn_nI (by omega)] at this; exact this⟩)]
              rw [hs] at hv
              have stop : wt_V G X 320 [some (.ref T.1), none, none] [] (tw_Z G T A u) 0 0 := by
                refine wt_iconst (pc := 320) (v := nI 0) hc dX3_expression_320 (by decide) ?_
                refine wt_istore_1 (pc := 321) hc dX3_expression_321 rfl ?_
                refine wt_goto (pc := 322) 29 hc dX3_expression_322 (by decide) ?_
                refine wt_iload_1 (pc := 29) hc dX3_expression_29 ?_
                refine wt_if_eq (pc := 30) 325 hc dX3_expression_30 (by decide) (fun _ => ?_) (fun z => absurd z (by decide))
                exact wt_drop (fin A u hA hv) ⟨rfl, trivial⟩
              refine wt_aload_0 (pc := 297) hc dX3_expression_297 ?_
              refine wt_bipush (pc := 298) (v := nI 41) hc dX3_expression_298 (by decide) ?_
              refine wt_gofn (tw_inv (pc := 300) 1 hc hE (ct_isSign hE _) dX3_expression_300 rfl q1923 q1925 qs69 q116 q1926 (by decide +kernel) rfl (by decide) (by decide) (Nat.le_of_ble_eq_true rfl) rfl) ?_
              refine wt_if_eq (pc := 303) 320 hc dX3_expression_303 (by decide) (fun c_303 => ?_) (fun c_303 => ?_)
              · exact wt_drop stop ⟨rfl, trivial⟩
              · have ho : rd_op A m = false := by
                  cases hb : rd_op A m with
                  | true => exact absurd ⟨sp_b_n0 c_303, hb⟩ hcc
                  | false => rfl
                refine wt_aload_0 (pc := 306) hc dX3_expression_306 ?_
                refine wt_gofn (tw_inv (pc := 307) 0 hc hE (ct_isOpened hE m e34 (by omega)) dX3_expression_307 rfl q1953 q1955 qs75 q116 q1956 (by decide +kernel) rfl (by decide) (by decide) (Nat.le_of_ble_eq_true rfl) rfl) ?_
                rw [ho]
                refine wt_if_eq (pc := 310) 320 hc dX3_expression_310 (by decide) (fun _ => ?_) (fun z => absurd z (by decide))
                exact wt_drop stop ⟨rfl, trivial⟩
          have a5 : ¬ sp_kw A u = nI 15 → ¬ sp_kw A u = nI 16 → ¬ ((rd_sgn A 60 ∨ rd_sgn A 61) ∧ A 46 (nn (A 0 35)) = 0) → ¬ (rd_sgn A 43 ∨ rd_sgn A 45) → wt_V G X 241 [some (.ref T.1), some (.int (nI 1)), none] [] (tw_Z G T A u) 0 0 := by
            intro k1 k2 k3 k4
            have go : ∀ act : Nat, act = (if rd_sgn A 42 then 10 else 11) → (rd_sgn A 42 ∨ rd_sgn A 47) → wt_V G X 282 [some (.ref T.1), some (.int (nI 1)), none] [.int (nI act), .ref T.1] (tw_Z G T (rd_drops A (nI 6)) u) 0 0 := by
              intro act ea hs
              obtain ⟨n1, p1, m1, b1, b2, b3, b4, b5⟩ := op 6 act (rd_s1 A 6 act) (hs.elim (sg _) (sg _)) (by rw [ea]; split <;> decide) rfl rfl (rd_le.rf _)
              have nx := nxt (rd_opg false (rd_s1 A 6 act)) (by
                unfold rd_step
                rw [if_neg k1, if_neg k2, if_neg k3, if_neg k4, if_pos hs, ea])
              refine wt_gov (tw_inv (pc := 282) 1 hc hE (ct_waitsM hE _ m1 b4 (by omega)) dX3_expression_282 rfl q1931 q1933 qs71 q116 q1934 (by decide +kernel) rfl (by decide) (by decide) (Nat.le_of_ble_eq_true rfl) rfl) (Nat.zero_le _) (Nat.zero_le _) ?_
              refine wt_aload_0 (pc := 285) hc dX3_expression_285 ?_
              refine wt_gov (tw_inv (pc := 286) 0 hc hE (ct_goes hE n1 p1 b1) dX3_expression_286 rfl q1854 q1856 qs55 q116 q1857 (by decide +kernel) rfl (by decide) (by decide) (Nat.le_of_ble_eq_true rfl) rfl) (Nat.zero_le _) (Nat.zero_le _) ?_
              refine wt_aload_0 (pc := 289) hc dX3_expression_289 ?_
              refine wt_iconst (pc := 290) (v := nI 0) hc dX3_expression_290 (by decide) ?_
              refine wt_gov (tw_inv (pc := 291) 1 hc hE (ct_operand hE b2 false) dX3_expression_291 rfl q1927 q1929 qs70 q116 q1930 (by decide +kernel) rfl (by decide) (by decide) (Nat.le_of_ble_eq_true rfl) rfl) (Nat.zero_le _) (Nat.zero_le _) ?_
              refine wt_goto (pc := 294) 322 hc dX3_expression_294 (by decide) ?_
              exact nx
            refine wt_aload_0 (pc := 241) hc dX3_expression_241 ?_
            refine wt_bipush (pc := 242) (v := nI 42) hc dX3_expression_242 (by decide) ?_
            refine wt_gofn (tw_inv (pc := 244) 1 hc hE (ct_isSign hE _) dX3_expression_244 rfl q1923 q1925 qs69 q116 q1926 (by decide +kernel) rfl (by decide) (by decide) (Nat.le_of_ble_eq_true rfl) rfl) ?_
            refine wt_if_ne (pc := 247) 259 hc dX3_expression_247 (by decide) (fun c_247 => ?_) (fun c_247 => ?_)
            · refine wt_aload_0 (pc := 259) hc dX3_expression_259 ?_
              refine wt_bipush (pc := 260) (v := nI 6) hc dX3_expression_260 (by decide) ?_
              refine wt_gov (tw_inv (pc := 262) 1 hc hE (ct_drops hE m t e34 e33 (by omega) (by omega) _) dX3_expression_262 rfl q1943 q1945 qs74 q116 q1946 (by decide +kernel) rfl (by decide) (by decide) (Nat.le_of_ble_eq_true rfl) rfl) (Nat.zero_le _) (Nat.zero_le _) ?_
              refine wt_aload_0 (pc := 265) hc dX3_expression_265 ?_
              refine wt_aload_0 (pc := 266) hc dX3_expression_266 ?_
              refine wt_bipush (pc := 267) (v := nI 42) hc dX3_expression_267 (by decide) ?_
              refine wt_gofn (tw_inv (pc := 269) 1 hc hE (ct_isSign hE _) dX3_expression_269 rfl q1923 q1925 qs69 q116 q1926 (by decide +kernel) rfl (by decide) (by decide) (Nat.le_of_ble_eq_true rfl) rfl) ?_
              refine wt_if_eq (pc := 272) 280 hc dX3_expression_272 (by decide) (fun c_272 => ?_) (fun c_272 => ?_)
              · refine wt_bipush (pc := 280) (v := nI 11) hc dX3_expression_280 (by decide) ?_
                first | exact go 10 (by rw [if_pos (rd_dsg hX c_272)]) (Or.inl (rd_dsg hX c_272)) | exact go 11 (by rw [if_neg (rd_dsn hX c_272)]) (by first | exact Or.inl (sp_b_n0 c_247) | exact Or.inr (sp_b_n0 c_256))
              · refine wt_bipush (pc := 275) (v := nI 10) hc dX3_expression_275 (by decide) ?_
                refine wt_goto (pc := 277) 282 hc dX3_expression_277 (by decide) ?_
                first | exact go 10 (by rw [if_pos (rd_dsg hX c_272)]) (Or.inl (rd_dsg hX c_272)) | exact go 11 (by rw [if_neg (rd_dsn hX c_272)]) (by first | exact Or.inl (sp_b_n0 c_247) | exact Or.inr (sp_b_n0 c_256))
            · refine wt_aload_0 (pc := 250) hc dX3_expression_250 ?_
              refine wt_bipush (pc := 251) (v := nI 47) hc dX3_expression_251 (by decide) ?_
              refine wt_gofn (tw_inv (pc := 253) 1 hc hE (ct_isSign hE _) dX3_expression_253 rfl q1923 q1925 qs69 q116 q1926 (by decide +kernel) rfl (by decide) (by decide) (Nat.le_of_ble_eq_true rfl) rfl) ?_
              refine wt_if_eq (pc := 256) 297 hc dX3_expression_256 (by decide) (fun c_256 => ?_) (fun c_256 => ?_)
              · exact a6 k1 k2 k3 k4 (fun z => z.elim (sp_b_0.mp c_247) (sp_b_0.mp c_256))
              · refine wt_aload_0 (pc := 259) hc dX3_expression_259 ?_
                refine wt_bipush (pc := 260) (v := nI 6) hc dX3_expression_260 (by decide) ?_
                refine wt_gov (tw_inv (pc := 262) 1 hc hE (ct_drops hE m t e34 e33 (by omega) (by omega) _) dX3_expression_262 rfl q1943 q1945 qs74 q116 q1946 (by decide +kernel) rfl (by decide) (by decide) (Nat.le_of_ble_eq_true rfl) rfl) (Nat.zero_le _) (Nat.zero_le _) ?_
                refine wt_aload_0 (pc := 265) hc dX3_expression_265 ?_
                refine wt_aload_0 (pc := 266) hc dX3_expression_266 ?_
                refine wt_bipush (pc := 267) (v := nI 42) hc dX3_expression_267 (by decide) ?_
                refine wt_gofn (tw_inv (pc := 269) 1 hc hE (ct_isSign hE _) dX3_expression_269 rfl q1923 q1925 qs69 q116 q1926 (by decide +kernel) rfl (by decide) (by decide) (Nat.le_of_ble_eq_true rfl) rfl) ?_
                refine wt_if_eq (pc := 272) 280 hc dX3_expression_272 (by decide) (fun c_272 => ?_) (fun c_272 => ?_)
                · refine wt_bipush (pc := 280) (v := nI 11) hc dX3_expression_280 (by decide) ?_
                  first | exact go 10 (by rw [if_pos (rd_dsg hX c_272)]) (Or.inl (rd_dsg hX c_272)) | exact go 11 (by rw [if_neg (rd_dsn hX c_272)]) (by first | exact Or.inl (sp_b_n0 c_247) | exact Or.inr (sp_b_n0 c_256))
                · refine wt_bipush (pc := 275) (v := nI 10) hc dX3_expression_275 (by decide) ?_
                  refine wt_goto (pc := 277) 282 hc dX3_expression_277 (by decide) ?_
                  first | exact go 10 (by rw [if_pos (rd_dsg hX c_272)]) (Or.inl (rd_dsg hX c_272)) | exact go 11 (by rw [if_neg (rd_dsn hX c_272)]) (by first | exact Or.inl (sp_b_n0 c_247) | exact Or.inr (sp_b_n0 c_256))
          have a4 : ¬ sp_kw A u = nI 15 → ¬ sp_kw A u = nI 16 → ¬ ((rd_sgn A 60 ∨ rd_sgn A 61) ∧ A 46 (nn (A 0 35)) = 0) → wt_V G X 186 [some (.ref T.1), some (.int (nI 1)), none] [] (tw_Z G T A u) 0 0 := by
            intro k1 k2 k3
            have go : ∀ act : Nat, act = (if rd_sgn A 43 then 8 else 9) → (rd_sgn A 43 ∨ rd_sgn A 45) → wt_V G X 226 [some (.ref T.1), some (.int (nI 1)), none] [.int (nI act), .ref T.1] (tw_Z G T (rd_drops A (nI 5)) u) 0 0 := by
              intro act ea hs
              obtain ⟨n1, p1, m1, b1, b2, b3, b4, b5⟩ := op 5 act (rd_s1 A 5 act) (hs.elim (sg _) (sg _)) (by rw [ea]; split <;> decide) rfl rfl (rd_le.rf _)
              have nx := nxt (rd_opg false (rd_s1 A 5 act)) (by
                unfold rd_step
                rw [if_neg k1, if_neg k2, if_neg k3, if_pos hs, ea])
              refine wt_gov (tw_inv (pc := 226) 1 hc hE (ct_waitsM hE _ m1 b4 (by omega)) dX3_expression_226 rfl q1931 q1933 qs71 q116 q1934 (by decide +kernel) rfl (by decide) (by decide) (Nat.le_of_ble_eq_true rfl) rfl) (Nat.zero_le _) (Nat.zero_le _) ?_
              refine wt_aload_0 (pc := 229) hc dX3_expression_229 ?_
              refine wt_gov (tw_inv (pc := 230) 0 hc hE (ct_goes hE n1 p1 b1) dX3_expression_230 rfl q1854 q1856 qs55 q116 q1857 (by decide +kernel) rfl (by decide) (by decide) (Nat.le_of_ble_eq_true rfl) rfl) (Nat.zero_le _) (Nat.zero_le _) ?_
              refine wt_aload_0 (pc := 233) hc dX3_expression_233 ?_
              refine wt_iconst (pc := 234) (v := nI 0) hc dX3_expression_234 (by decide) ?_
              refine wt_gov (tw_inv (pc := 235) 1 hc hE (ct_operand hE b2 false) dX3_expression_235 rfl q1927 q1929 qs70 q116 q1930 (by decide +kernel) rfl (by decide) (by decide) (Nat.le_of_ble_eq_true rfl) rfl) (Nat.zero_le _) (Nat.zero_le _) ?_
              refine wt_goto (pc := 238) 322 hc dX3_expression_238 (by decide) ?_
              exact nx
            refine wt_aload_0 (pc := 186) hc dX3_expression_186 ?_
            refine wt_bipush (pc := 187) (v := nI 43) hc dX3_expression_187 (by decide) ?_
            refine wt_gofn (tw_inv (pc := 189) 1 hc hE (ct_isSign hE _) dX3_expression_189 rfl q1923 q1925 qs69 q116 q1926 (by decide +kernel) rfl (by decide) (by decide) (Nat.le_of_ble_eq_true rfl) rfl) ?_
            refine wt_if_ne (pc := 192) 204 hc dX3_expression_192 (by decide) (fun c_192 => ?_) (fun c_192 => ?_)
            · refine wt_aload_0 (pc := 204) hc dX3_expression_204 ?_
              refine wt_iconst (pc := 205) (v := nI 5) hc dX3_expression_205 (by decide) ?_
              refine wt_gov (tw_inv (pc := 206) 1 hc hE (ct_drops hE m t e34 e33 (by omega) (by omega) _) dX3_expression_206 rfl q1943 q1945 qs74 q116 q1946 (by decide +kernel) rfl (by decide) (by decide) (Nat.le_of_ble_eq_true rfl) rfl) (Nat.zero_le _) (Nat.zero_le _) ?_
              refine wt_aload_0 (pc := 209) hc dX3_expression_209 ?_
              refine wt_aload_0 (pc := 210) hc dX3_expression_210 ?_
              refine wt_bipush (pc := 211) (v := nI 43) hc dX3_expression_211 (by decide) ?_
              refine wt_gofn (tw_inv (pc := 213) 1 hc hE (ct_isSign hE _) dX3_expression_213 rfl q1923 q1925 qs69 q116 q1926 (by decide +kernel) rfl (by decide) (by decide) (Nat.le_of_ble_eq_true rfl) rfl) ?_
              refine wt_if_eq (pc := 216) 224 hc dX3_expression_216 (by decide) (fun c_216 => ?_) (fun c_216 => ?_)
              · refine wt_bipush (pc := 224) (v := nI 9) hc dX3_expression_224 (by decide) ?_
                first | exact go 8 (by rw [if_pos (rd_dsg hX c_216)]) (Or.inl (rd_dsg hX c_216)) | exact go 9 (by rw [if_neg (rd_dsn hX c_216)]) (by first | exact Or.inl (sp_b_n0 c_192) | exact Or.inr (sp_b_n0 c_201))
              · refine wt_bipush (pc := 219) (v := nI 8) hc dX3_expression_219 (by decide) ?_
                refine wt_goto (pc := 221) 226 hc dX3_expression_221 (by decide) ?_
                first | exact go 8 (by rw [if_pos (rd_dsg hX c_216)]) (Or.inl (rd_dsg hX c_216)) | exact go 9 (by rw [if_neg (rd_dsn hX c_216)]) (by first | exact Or.inl (sp_b_n0 c_192) | exact Or.inr (sp_b_n0 c_201))
            · refine wt_aload_0 (pc := 195) hc dX3_expression_195 ?_
              refine wt_bipush (pc := 196) (v := nI 45) hc dX3_expression_196 (by decide) ?_
              refine wt_gofn (tw_inv (pc := 198) 1 hc hE (ct_isSign hE _) dX3_expression_198 rfl q1923 q1925 qs69 q116 q1926 (by decide +kernel) rfl (by decide) (by decide) (Nat.le_of_ble_eq_true rfl) rfl) ?_
              refine wt_if_eq (pc := 201) 241 hc dX3_expression_201 (by decide) (fun c_201 => ?_) (fun c_201 => ?_)
              · exact a5 k1 k2 k3 (fun z => z.elim (sp_b_0.mp c_192) (sp_b_0.mp c_201))
              · refine wt_aload_0 (pc := 204) hc dX3_expression_204 ?_
                refine wt_iconst (pc := 205) (v := nI 5) hc dX3_expression_205 (by decide) ?_
                refine wt_gov (tw_inv (pc := 206) 1 hc hE (ct_drops hE m t e34 e33 (by omega) (by omega) _) dX3_expression_206 rfl q1943 q1945 qs74 q116 q1946 (by decide +kernel) rfl (by decide) (by decide) (Nat.le_of_ble_eq_true rfl) rfl) (Nat.zero_le _) (Nat.zero_le _) ?_
                refine wt_aload_0 (pc := 209) hc dX3_expression_209 ?_
                refine wt_aload_0 (pc := 210) hc dX3_expression_210 ?_
                refine wt_bipush (pc := 211) (v := nI 43) hc dX3_expression_211 (by decide) ?_
                refine wt_gofn (tw_inv (pc := 213) 1 hc hE (ct_isSign hE _) dX3_expression_213 rfl q1923 q1925 qs69 q116 q1926 (by decide +kernel) rfl (by decide) (by decide) (Nat.le_of_ble_eq_true rfl) rfl) ?_
                refine wt_if_eq (pc := 216) 224 hc dX3_expression_216 (by decide) (fun c_216 => ?_) (fun c_216 => ?_)
                · refine wt_bipush (pc := 224) (v := nI 9) hc dX3_expression_224 (by decide) ?_
                  first | exact go 8 (by rw [if_pos (rd_dsg hX c_216)]) (Or.inl (rd_dsg hX c_216)) | exact go 9 (by rw [if_neg (rd_dsn hX c_216)]) (by first | exact Or.inl (sp_b_n0 c_192) | exact Or.inr (sp_b_n0 c_201))
                · refine wt_bipush (pc := 219) (v := nI 8) hc dX3_expression_219 (by decide) ?_
                  refine wt_goto (pc := 221) 226 hc dX3_expression_221 (by decide) ?_
                  first | exact go 8 (by rw [if_pos (rd_dsg hX c_216)]) (Or.inl (rd_dsg hX c_216)) | exact go 9 (by rw [if_neg (rd_dsn hX c_216)]) (by first | exact Or.inl (sp_b_n0 c_192) | exact Or.inr (sp_b_n0 c_201))
          have a3 : ¬ sp_kw A u = nI 15 → ¬ sp_kw A u = nI 16 → wt_V G X 109 [some (.ref T.1), some (.int (nI 1)), none] [] (tw_Z G T A u) 0 0 := by
            intro k1 k2
            have go : ∀ act : Nat, act = (if rd_sgn A 60 then 6 else 7) → (rd_sgn A 60 ∨ rd_sgn A 61) → A 46 d = 0 → wt_V G X 161 [some (.ref T.1), some (.int (nI 1)), none] [.int (nI act), .ref T.1] (tw_Z G T (rd_drops A (nI 4)) u) 0 0 := by
              intro act ea hs htst
              have e1 : rd_s1 A 4 act 0 35 = nI d := (op 4 act (rd_s1 A 4 act) (hs.elim (sg _) (sg _)) (by rw [ea]; split <;> decide) rfl rfl (rd_le.rf _)).choose_spec.choose_spec.choose_spec.2.2.2.2
              have et : rd_tset (rd_s1 A 4 act) (nI 1) = wt_up2 (rd_s1 A 4 act) 46 d (nI 1) := by
                unfold rd_tset
                rw [e1, nn_nI (by omega)]
              obtain ⟨n1, p1, m1, b1, b2, b3, b4, b5⟩ := op 4 act (rd_tset (rd_s1 A 4 act) (nI 1)) (hs.elim (sg _) (sg _)) (by rw [ea]; split <;> decide) (wt_up2_row (by decide)) (wt_up2_row (by decide)) (rd_le.up (Or.inr (Or.inr (Or.inr rfl))))
              have nx := nxt (rd_opg false (rd_tset (rd_s1 A 4 act) (nI 1))) (by
                unfold rd_step
                rw [if_neg k1, if_neg k2, if_pos ⟨hs, by rw [e35, nn_nI (by omega)]; exact htst⟩, ea])
              rw [et] at b1 b2 nx
              refine wt_gov (tw_inv (pc := 161) 1 hc hE (ct_waitsM hE _ m1 b4 (by omega)) dX3_expression_161 rfl q1931 q1933 qs71 q116 q1934 (by decide +kernel) rfl (by decide) (by decide) (Nat.le_of_ble_eq_true rfl) rfl) (Nat.zero_le _) (Nat.zero_le _) ?_
              refine wt_aload_0 (pc := 164) hc dX3_expression_164 ?_
              refine tw_geta (pc := 165) 46 hc hE dX3_expression_165 q1650 (by decide) (by decide) (fun _ _ _ => rfl) rfl ?_
              refine wt_aload_0 (pc := 168) hc dX3_expression_168 ?_
              refine tw_get (pc := 169) 35 (nI d) hc hE dX3_expression_169 q1639 (by decide) (fun _ _ _ => rfl) rfl (e1) ?_
              refine wt_iconst (pc := 172) (v := nI 1) hc dX3_expression_172 (by decide) ?_
              refine tw_zast (pc := 173) (k := 46) (d) hc hE dX3_expression_173 rfl (rfl) (rfl) (by show _ < 9; omega) (by decide) ?_
              refine wt_aload_0 (pc := 174) hc dX3_expression_174 ?_
              refine wt_gov (tw_inv (pc := 175) 0 hc hE (ct_goes hE n1 p1 b1) dX3_expression_175 rfl q1854 q1856 qs55 q116 q1857 (by decide +kernel) rfl (by decide) (by decide) (Nat.le_of_ble_eq_true rfl) rfl) (Nat.zero_le _) (Nat.zero_le _) ?_
              refine wt_aload_0 (pc := 178) hc dX3_expression_178 ?_
              refine wt_iconst (pc := 179) (v := nI 0) hc dX3_expression_179 (by decide) ?_
              refine wt_gov (tw_inv (pc := 180) 1 hc hE (ct_operand hE b2 false) dX3_expression_180 rfl q1927 q1929 qs70 q116 q1930 (by decide +kernel) rfl (by decide) (by decide) (Nat.le_of_ble_eq_true rfl) rfl) (Nat.zero_le _) (Nat.zero_le _) ?_
              refine wt_goto (pc := 183) 322 hc dX3_expression_183 (by decide) ?_
              exact nx
            have a127 : (rd_sgn A 60 ∨ rd_sgn A 61) → wt_V G X 127 [some (.ref T.1), some (.int (nI 1)), none] [] (tw_Z G T A u) 0 0 := by
              intro hs
              refine wt_aload_0 (pc := 127) hc dX3_expression_127 ?_
              refine tw_geta (pc := 128) 46 hc hE dX3_expression_128 q1650 (by decide) (by decide) (fun _ _ _ => rfl) rfl ?_
              refine wt_aload_0 (pc := 131) hc dX3_expression_131 ?_
              refine tw_get (pc := 132) 35 (nI d) hc hE dX3_expression_132 q1639 (by decide) (fun _ _ _ => rfl) rfl (e35) ?_
              refine tw_zald (pc := 135) (k := 46) (d) _ hc hE dX3_expression_135 rfl (rfl) (by show _ < 9; omega) (by decide) (rfl) ?_
              refine wt_if_ne (pc := 136) 186 hc dX3_expression_136 (by decide) (fun c_136 => ?_) (fun c_136 => ?_)
              · exact a4 k1 k2 (fun z => c_136 (by have := z.2; rw [e35, nn_nI (by omega)] at this; exact this))
              · refine wt_aload_0 (pc := 139) hc dX3_expression_139 ?_
                refine wt_iconst (pc := 140) (v := nI 4) hc dX3_expression_140 (by decide) ?_
                refine wt_gov (tw_inv (pc := 141) 1 hc hE (ct_drops hE m t e34 e33 (by omega) (by omega) _) dX3_expression_141 rfl q1943 q1945 qs74 q116 q1946 (by decide +kernel) rfl (by decide) (by decide) (Nat.le_of_ble_eq_true rfl) rfl) (Nat.zero_le _) (Nat.zero_le _) ?_
                refine wt_aload_0 (pc := 144) hc dX3_expression_144 ?_
                refine wt_aload_0 (pc := 145) hc dX3_expression_145 ?_
                refine wt_bipush (pc := 146) (v := nI 60) hc dX3_expression_146 (by decide) ?_
                refine wt_gofn (tw_inv (pc := 148) 1 hc hE (ct_isSign hE _) dX3_expression_148 rfl q1923 q1925 qs69 q116 q1926 (by decide +kernel) rfl (by decide) (by decide) (Nat.le_of_ble_eq_true rfl) rfl) ?_
                refine wt_if_eq (pc := 151) 159 hc dX3_expression_151 (by decide) (fun c_151 => ?_) (fun c_151 => ?_)
                · refine wt_bipush (pc := 159) (v := nI 7) hc dX3_expression_159 (by decide) ?_
                  first | exact go 6 (by rw [if_pos (rd_dsg hX c_151)]) hs c_136 | exact go 7 (by rw [if_neg (rd_dsn hX c_151)]) hs c_136
                · refine wt_bipush (pc := 154) (v := nI 6) hc dX3_expression_154 (by decide) ?_
                  refine wt_goto (pc := 156) 161 hc dX3_expression_156 (by decide) ?_
                  first | exact go 6 (by rw [if_pos (rd_dsg hX c_151)]) hs c_136 | exact go 7 (by rw [if_neg (rd_dsn hX c_151)]) hs c_136
            refine wt_aload_0 (pc := 109) hc dX3_expression_109 ?_
            refine wt_bipush (pc := 110) (v := nI 60) hc dX3_expression_110 (by decide) ?_
            refine wt_gofn (tw_inv (pc := 112) 1 hc hE (ct_isSign hE _) dX3_expression_112 rfl q1923 q1925 qs69 q116 q1926 (by decide +kernel) rfl (by decide) (by decide) (Nat.le_of_ble_eq_true rfl) rfl) ?_
            refine wt_if_ne (pc := 115) 127 hc dX3_expression_115 (by decide) (fun c_115 => ?_) (fun c_115 => ?_)
            · first | exact a127 (Or.inl (sp_b_n0 c_115)) | exact a127 (Or.inr (sp_b_n0 c_124))
            · refine wt_aload_0 (pc := 118) hc dX3_expression_118 ?_
              refine wt_bipush (pc := 119) (v := nI 61) hc dX3_expression_119 (by decide) ?_
              refine wt_gofn (tw_inv (pc := 121) 1 hc hE (ct_isSign hE _) dX3_expression_121 rfl q1923 q1925 qs69 q116 q1926 (by decide +kernel) rfl (by decide) (by decide) (Nat.le_of_ble_eq_true rfl) rfl) ?_
              refine wt_if_eq (pc := 124) 186 hc dX3_expression_124 (by decide) (fun c_124 => ?_) (fun c_124 => ?_)
              · exact a4 k1 k2 (fun z => z.1.elim (sp_b_0.mp c_115) (sp_b_0.mp c_124))
              · first | exact a127 (Or.inl (sp_b_n0 c_115)) | exact a127 (Or.inr (sp_b_n0 c_124))
          have a1 : ∀ (ls act : Nat), (ls = 2 ∧ act = 4 ∧ sp_kw A u = nI 15 ∨ ls = 1 ∧ act = 5 ∧ ¬ sp_kw A u = nI 15 ∧ sp_kw A u = nI 16) → wt_V G X 84 [some (.ref T.1), some (.int (nI 1)), some (.int (sp_kw A u))] [.int (nI act), .ref T.1] (tw_Z G T (rd_drops A (nI ls)) u) 0 0 := by
            intro ls act hcase
            have hs : ¬ A 0 21 = 0 := hcase.elim (fun z => sp_kw_sort z.2.2 (by decide)) (fun z => sp_kw_sort z.2.2.2 (by decide))
            have ha : act < 14 := by omega
            have e1 : rd_s1 A ls act 0 35 = nI d := (op ls act (rd_s1 A ls act) hs ha rfl rfl (rd_le.rf _)).choose_spec.choose_spec.choose_spec.2.2.2.2
            have et : rd_tset (rd_s1 A ls act) (nI 0) = wt_up2 (rd_s1 A ls act) 46 d (nI 0) := by
              unfold rd_tset
              rw [e1, nn_nI (by omega)]
            obtain ⟨n1, p1, m1, b1, b2, b3, b4, b5⟩ := op ls act (rd_tset (rd_s1 A ls act) (nI 0)) hs ha (wt_up2_row (by decide)) (wt_up2_row (by decide)) (rd_le.up (Or.inr (Or.inr (Or.inr rfl))))
            have nx := nxt (rd_opg true (rd_tset (rd_s1 A ls act) (nI 0))) (by
              unfold rd_step
              rcases hcase with ⟨rfl, rfl, hk⟩ | ⟨rfl, rfl, hk, hk2⟩
              · rw [if_pos hk]
              · rw [if_neg hk, if_pos hk2])
            rw [et] at b1 b2 nx
            refine wt_gov (tw_inv (pc := 84) 1 hc hE (ct_waitsM hE _ m1 b4 (by omega)) dX3_expression_84 rfl q1931 q1933 qs71 q116 q1934 (by decide +kernel) rfl (by decide) (by decide) (Nat.le_of_ble_eq_true rfl) rfl) (Nat.zero_le _) (Nat.zero_le _) ?_
            refine wt_aload_0 (pc := 87) hc dX3_expression_87 ?_
            refine tw_geta (pc := 88) 46 hc hE dX3_expression_88 q1650 (by decide) (by decide) (fun _ _ _ => rfl) rfl ?_
            refine wt_aload_0 (pc := 91) hc dX3_expression_91 ?_
            refine tw_get (pc := 92) 35 (nI d) hc hE dX3_expression_92 q1639 (by decide) (fun _ _ _ => rfl) rfl (e1) ?_
            refine wt_iconst (pc := 95) (v := nI 0) hc dX3_expression_95 (by decide) ?_
            refine tw_zast (pc := 96) (k := 46) (d) hc hE dX3_expression_96 rfl (rfl) (rfl) (by show _ < 9; omega) (by decide) ?_
            refine wt_aload_0 (pc := 97) hc dX3_expression_97 ?_
            refine wt_gov (tw_inv (pc := 98) 0 hc hE (ct_goes hE n1 p1 b1) dX3_expression_98 rfl q1854 q1856 qs55 q116 q1857 (by decide +kernel) rfl (by decide) (by decide) (Nat.le_of_ble_eq_true rfl) rfl) (Nat.zero_le _) (Nat.zero_le _) ?_
            refine wt_aload_0 (pc := 101) hc dX3_expression_101 ?_
            refine wt_iconst (pc := 102) (v := nI 1) hc dX3_expression_102 (by decide) ?_
            refine wt_gov (tw_inv (pc := 103) 1 hc hE (ct_operand hE b2 true) dX3_expression_103 rfl q1927 q1929 qs70 q116 q1930 (by decide +kernel) rfl (by decide) (by decide) (Nat.le_of_ble_eq_true rfl) rfl) (Nat.zero_le _) (Nat.zero_le _) ?_
            refine wt_goto (pc := 106) 322 hc dX3_expression_106 (by decide) ?_
            exact wt_drop nx ⟨rfl, rfl, trivial⟩
          refine wt_iload_1 (pc := 29) hc dX3_expression_29 ?_
          refine wt_if_eq (pc := 30) 325 hc dX3_expression_30 (by decide) (fun z => absurd z (by decide)) (fun _ => ?_)
          refine wt_aload_0 (pc := 33) hc dX3_expression_33 ?_
          refine wt_gofn (tw_inv (pc := 34) 0 hc hE (ct_isGood hE) dX3_expression_34 rfl q1868 q1870 qs57 q116 q1871 (by decide +kernel) rfl (by decide) (by decide) (Nat.le_of_ble_eq_true rfl) rfl) ?_
          refine wt_if_eq (pc := 37) 325 hc dX3_expression_37 (by decide) (fun c_37 => ?_) (fun c_37 => ?_)
          · exact absurd hg (sp_b_0.mp c_37)
          · refine wt_aload_0 (pc := 40) hc dX3_expression_40 ?_
            refine wt_gofn (tw_inv (pc := 41) 0 hc hE (ct_knownWord hE) dX3_expression_41 rfl q1876 q1878 qs59 q116 q1879 (by decide +kernel) rfl (by decide) (by decide) (Nat.le_of_ble_eq_true rfl) rfl) ?_
            refine wt_istore_2 (pc := 44) hc dX3_expression_44 rfl ?_
            refine wt_iload_2 (pc := 45) hc dX3_expression_45 ?_
            refine wt_bipush (pc := 46) (v := nI 15) hc dX3_expression_46 (by decide) ?_
            refine wt_icmp_eq (pc := 48) 57 hc dX3_expression_48 (by decide) (fun c_48 => ?_) (fun c_48 => ?_)
            · refine wt_aload_0 (pc := 57) hc dX3_expression_57 ?_
              refine wt_iload_2 (pc := 58) hc dX3_expression_58 ?_
              refine wt_bipush (pc := 59) (v := nI 15) hc dX3_expression_59 (by decide) ?_
              refine wt_icmp_ne (pc := 61) 68 hc dX3_expression_61 (by decide) (fun c_61 => ?_) (fun c_61 => ?_)
              · refine wt_iconst (pc := 68) (v := nI 1) hc dX3_expression_68 (by decide) ?_
                refine wt_gov (tw_inv (pc := 69) 1 hc hE (ct_drops hE m t e34 e33 (by omega) (by omega) _) dX3_expression_69 rfl q1943 q1945 qs74 q116 q1946 (by decide +kernel) rfl (by decide) (by decide) (Nat.le_of_ble_eq_true rfl) rfl) (Nat.zero_le _) (Nat.zero_le _) ?_
                refine wt_aload_0 (pc := 72) hc dX3_expression_72 ?_
                refine wt_iload_2 (pc := 73) hc dX3_expression_73 ?_
                refine wt_bipush (pc := 74) (v := nI 15) hc dX3_expression_74 (by decide) ?_
                refine wt_icmp_ne (pc := 76) 83 hc dX3_expression_76 (by decide) (fun c_76 => ?_) (fun c_76 => ?_)
                · refine wt_iconst (pc := 83) (v := nI 5) hc dX3_expression_83 (by decide) ?_
                  first | exact absurd c_48 c_61 | exact absurd c_48 c_76 | exact absurd c_61 c_48 | exact absurd c_76 c_48 | exact a1 2 4 (Or.inl ⟨rfl, rfl, c_48⟩) | exact a1 1 5 (Or.inr ⟨rfl, rfl, c_48, c_54⟩)
                · refine wt_iconst (pc := 79) (v := nI 4) hc dX3_expression_79 (by decide) ?_
                  refine wt_goto (pc := 80) 84 hc dX3_expression_80 (by decide) ?_
                  first | exact absurd c_48 c_61 | exact absurd c_48 c_76 | exact absurd c_61 c_48 | exact absurd c_76 c_48 | exact a1 2 4 (Or.inl ⟨rfl, rfl, c_48⟩) | exact a1 1 5 (Or.inr ⟨rfl, rfl, c_48, c_54⟩)
              · refine wt_iconst (pc := 64) (v := nI 2) hc dX3_expression_64 (by decide) ?_
                refine wt_goto (pc := 65) 69 hc dX3_expression_65 (by decide) ?_
                refine wt_gov (tw_inv (pc := 69) 1 hc hE (ct_drops hE m t e34 e33 (by omega) (by omega) _) dX3_expression_69 rfl q1943 q1945 qs74 q116 q1946 (by decide +kernel) rfl (by decide) (by decide) (Nat.le_of_ble_eq_true rfl) rfl) (Nat.zero_le _) (Nat.zero_le _) ?_
                refine wt_aload_0 (pc := 72) hc dX3_expression_72 ?_
                refine wt_iload_2 (pc := 73) hc dX3_expression_73 ?_
                refine wt_bipush (pc := 74) (v := nI 15) hc dX3_expression_74 (by decide) ?_
                refine wt_icmp_ne (pc := 76) 83 hc dX3_expression_76 (by decide) (fun c_76 => ?_) (fun c_76 => ?_)
                · refine wt_iconst (pc := 83) (v := nI 5) hc dX3_expression_83 (by decide) ?_
                  first | exact absurd c_48 c_61 | exact absurd c_48 c_76 | exact absurd c_61 c_48 | exact absurd c_76 c_48 | exact a1 2 4 (Or.inl ⟨rfl, rfl, c_48⟩) | exact a1 1 5 (Or.inr ⟨rfl, rfl, c_48, c_54⟩)
                · refine wt_iconst (pc := 79) (v := nI 4) hc dX3_expression_79 (by decide) ?_
                  refine wt_goto (pc := 80) 84 hc dX3_expression_80 (by decide) ?_
                  first | exact absurd c_48 c_61 | exact absurd c_48 c_76 | exact absurd c_61 c_48 | exact absurd c_76 c_48 | exact a1 2 4 (Or.inl ⟨rfl, rfl, c_48⟩) | exact a1 1 5 (Or.inr ⟨rfl, rfl, c_48, c_54⟩)
            · refine wt_iload_2 (pc := 51) hc dX3_expression_51 ?_
              refine wt_bipush (pc := 52) (v := nI 16) hc dX3_expression_52 (by decide) ?_
              refine wt_icmp_ne (pc := 54) 109 hc dX3_expression_54 (by decide) (fun c_54 => ?_) (fun c_54 => ?_)
              · exact wt_drop (a3 c_48 c_54) ⟨rfl, rfl, trivial⟩
              · refine wt_aload_0 (pc := 57) hc dX3_expression_57 ?_
                refine wt_iload_2 (pc := 58) hc dX3_expression_58 ?_
                refine wt_bipush (pc := 59) (v := nI 15) hc dX3_expression_59 (by decide) ?_
                refine wt_icmp_ne (pc := 61) 68 hc dX3_expression_61 (by decide) (fun c_61 => ?_) (fun c_61 => ?_)
                · refine wt_iconst (pc := 68) (v := nI 1) hc dX3_expression_68 (by decide) ?_
                  refine wt_gov (tw_inv (pc := 69) 1 hc hE (ct_drops hE m t e34 e33 (by omega) (by omega) _) dX3_expression_69 rfl q1943 q1945 qs74 q116 q1946 (by decide +kernel) rfl (by decide) (by decide) (Nat.le_of_ble_eq_true rfl) rfl) (Nat.zero_le _) (Nat.zero_le _) ?_
                  refine wt_aload_0 (pc := 72) hc dX3_expression_72 ?_
                  refine wt_iload_2 (pc := 73) hc dX3_expression_73 ?_
                  refine wt_bipush (pc := 74) (v := nI 15) hc dX3_expression_74 (by decide) ?_
                  refine wt_icmp_ne (pc := 76) 83 hc dX3_expression_76 (by decide) (fun c_76 => ?_) (fun c_76 => ?_)
                  · refine wt_iconst (pc := 83) (v := nI 5) hc dX3_expression_83 (by decide) ?_
                    first | exact absurd c_48 c_61 | exact absurd c_48 c_76 | exact absurd c_61 c_48 | exact absurd c_76 c_48 | exact a1 2 4 (Or.inl ⟨rfl, rfl, c_48⟩) | exact a1 1 5 (Or.inr ⟨rfl, rfl, c_48, c_54⟩)
                  · refine wt_iconst (pc := 79) (v := nI 4) hc dX3_expression_79 (by decide) ?_
                    refine wt_goto (pc := 80) 84 hc dX3_expression_80 (by decide) ?_
                    first | exact absurd c_48 c_61 | exact absurd c_48 c_76 | exact absurd c_61 c_48 | exact absurd c_76 c_48 | exact a1 2 4 (Or.inl ⟨rfl, rfl, c_48⟩) | exact a1 1 5 (Or.inr ⟨rfl, rfl, c_48, c_54⟩)
                · refine wt_iconst (pc := 64) (v := nI 2) hc dX3_expression_64 (by decide) ?_
                  refine wt_goto (pc := 65) 69 hc dX3_expression_65 (by decide) ?_
                  refine wt_gov (tw_inv (pc := 69) 1 hc hE (ct_drops hE m t e34 e33 (by omega) (by omega) _) dX3_expression_69 rfl q1943 q1945 qs74 q116 q1946 (by decide +kernel) rfl (by decide) (by decide) (Nat.le_of_ble_eq_true rfl) rfl) (Nat.zero_le _) (Nat.zero_le _) ?_
                  refine wt_aload_0 (pc := 72) hc dX3_expression_72 ?_
                  refine wt_iload_2 (pc := 73) hc dX3_expression_73 ?_
                  refine wt_bipush (pc := 74) (v := nI 15) hc dX3_expression_74 (by decide) ?_
                  refine wt_icmp_ne (pc := 76) 83 hc dX3_expression_76 (by decide) (fun c_76 => ?_) (fun c_76 => ?_)
                  · refine wt_iconst (pc := 83) (v := nI 5) hc dX3_expression_83 (by decide) ?_
                    first | exact absurd c_48 c_61 | exact absurd c_48 c_76 | exact absurd c_61 c_48 | exact absurd c_76 c_48 | exact a1 2 4 (Or.inl ⟨rfl, rfl, c_48⟩) | exact a1 1 5 (Or.inr ⟨rfl, rfl, c_48, c_54⟩)
                  · refine wt_iconst (pc := 79) (v := nI 4) hc dX3_expression_79 (by decide) ?_
                    refine wt_goto (pc := 80) 84 hc dX3_expression_80 (by decide) ?_
                    first | exact absurd c_48 c_61 | exact absurd c_48 c_76 | exact absurd c_61 c_48 | exact absurd c_76 c_48 | exact a1 2 4 (Or.inl ⟨rfl, rfl, c_48⟩) | exact a1 1 5 (Or.inr ⟨rfl, rfl, c_48, c_54⟩)
        · rw [rd_exL, if_neg hg] at hv
          refine wt_iload_1 (pc := 29) hc dX3_expression_29 ?_
          refine wt_if_eq (pc := 30) 325 hc dX3_expression_30 (by decide) (fun z => absurd z (by decide)) (fun _ => ?_)
          refine wt_aload_0 (pc := 33) hc dX3_expression_33 ?_
          refine wt_gofn (tw_inv (pc := 34) 0 hc hE (ct_isGood hE) dX3_expression_34 rfl q1868 q1870 qs57 q116 q1871 (by decide +kernel) rfl (by decide) (by decide) (Nat.le_of_ble_eq_true rfl) rfl) ?_
          refine wt_if_eq (pc := 37) 325 hc dX3_expression_37 (by decide) (fun c_37 => ?_) (fun c_37 => ?_)
          · exact wt_drop (fin A u hA hv) ⟨rfl, trivial⟩
          · exact absurd (sp_b_n0 c_37) hg
    refine wt_aload_0 (pc := 0) hc dX3_expression_0 ?_
    refine wt_gofn (tw_inv (pc := 1) 0 hc hE (ct_isGood hE) dX3_expression_1 rfl q1868 q1870 qs57 q116 q1871 (by decide +kernel) rfl (by decide) (by decide) (Nat.le_of_ble_eq_true rfl) rfl) ?_
    refine wt_if_ne (pc := 4) 8 hc dX3_expression_4 (by decide) (fun c_4 => ?_) (fun c_4 => ?_)
    · refine wt_aload_0 (pc := 8) hc dX3_expression_8 ?_
      refine wt_iconst (pc := 9) (v := nI 0) hc dX3_expression_9 (by decide) ?_
      refine tw_put (pc := 10) 34 hc hE dX3_expression_10 q1638 (by decide) (fun _ _ _ => rfl) rfl rfl (rfl) rfl ?_
      refine wt_aload_0 (pc := 13) hc dX3_expression_13 ?_
      refine wt_iconst (pc := 14) (v := nI 0) hc dX3_expression_14 (by decide) ?_
      refine tw_put (pc := 15) 35 hc hE dX3_expression_15 q1639 (by decide) (fun _ _ _ => rfl) rfl rfl (rfl) rfl ?_
      refine wt_aload_0 (pc := 18) hc dX3_expression_18 ?_
      refine wt_gov (tw_inv (pc := 19) 0 hc hE (ct_deeper hE 0 (by rfl) (by decide)) dX3_expression_19 rfl q1919 q1921 qs68 q116 q1922 (by decide +kernel) rfl (by decide) (by decide) (Nat.le_of_ble_eq_true rfl) rfl) (Nat.zero_le _) (Nat.zero_le _) ?_
      refine wt_aload_0 (pc := 22) hc dX3_expression_22 ?_
      refine wt_iconst (pc := 23) (v := nI 1) hc dX3_expression_23 (by decide) ?_
      refine wt_gov (tw_inv (pc := 24) 1 hc hE (ct_operand hE hk1 true) dX3_expression_24 rfl q1927 q1929 qs70 q116 q1930 (by decide +kernel) rfl (by decide) (by decide) (Nat.le_of_ble_eq_true rfl) rfl) (Nat.zero_le _) (Nat.zero_le _) ?_
      refine wt_iconst (pc := 27) (v := nI 1) hc dX3_expression_27 (by decide) ?_
      refine wt_istore_1 (pc := 28) hc dX3_expression_28 rfl ?_
      exact loop 702 _ _ (rd_operand_ok true _ _ hk1) (fun _ => by omega) (fun _ => by omega) rfl
    · exact absurd hg (sp_b_0.mp c_4)
  · rw [if_neg hg] at hok
    refine wt_aload_0 (pc := 0) hc dX3_expression_0 ?_
    refine wt_gofn (tw_inv (pc := 1) 0 hc hE (ct_isGood hE) dX3_expression_1 rfl q1868 q1870 qs57 q116 q1871 (by decide +kernel) rfl (by decide) (by decide) (Nat.le_of_ble_eq_true rfl) rfl) ?_
    refine wt_if_ne (pc := 4) 8 hc dX3_expression_4 (by decide) (fun c_4 => ?_) (fun c_4 => ?_)
    · exact absurd (sp_b_n0 c_4) hg
    · exact wt_vret (pc := 7) hc hok dX3_expression_7 (fun H hZ => ⟨rfl, hZ⟩)
end TU
