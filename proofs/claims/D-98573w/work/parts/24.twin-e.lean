/-! THE REFERENCE: nights() -/
set_option maxRecDepth 100000
section TE
variable {l : Launch} {G : wt_G} {Z : Heap → Prop} {T : tw_T} {M : wt_It} {w : Int64}
/-- a memory with the same city, settings and rules -/
def sp_same (M M' : wt_It) : Prop := ∀ k, k ≠ 52 → k ≠ 53 → k ≠ 54 → k ≠ 55 → k ≠ 56 → k ≠ 57 → k ≠ 58 → k ≠ 59 → M' k = M k
theorem sp_city.same {M M' : wt_It} (h : sp_city M) (hs : sp_same M M') : sp_city M' := by
  unfold sp_city
  rw [hs 0 (by decide) (by decide) (by decide) (by decide) (by decide) (by decide) (by decide) (by decide), hs 9 (by decide) (by decide) (by decide) (by decide) (by decide) (by decide) (by decide) (by decide), hs 10 (by decide) (by decide) (by decide) (by decide) (by decide) (by decide) (by decide) (by decide), hs 11 (by decide) (by decide) (by decide) (by decide) (by decide) (by decide) (by decide) (by decide)]
  exact h
theorem sp_fok.same {M M' : wt_It} (h : sp_fok M) (hs : sp_same M M') : sp_fok M' := by
  unfold sp_fok
  rw [hs 47 (by decide) (by decide) (by decide) (by decide) (by decide) (by decide) (by decide) (by decide), hs 12 (by decide) (by decide) (by decide) (by decide) (by decide) (by decide) (by decide) (by decide), hs 13 (by decide) (by decide) (by decide) (by decide) (by decide) (by decide) (by decide) (by decide)]
  exact h
theorem sp_ns_same (M : wt_It) (b a r : Nat) : sp_same M (sp_ns M b a r) := by
  intro k h52 h53 h54 h55 h56 h57 h58 h59
  unfold sp_ns
  split <;> split
  · rw [wt_up2_row h58, wt_up2_row h55, wt_up2_row h54, sp_huM_row h52 h53]
  · split
    · rw [wt_up2_row h58, wt_up2_row h55, wt_up2_row h54, sp_huM_row h52 h53]
    · rw [wt_up2_row h58, wt_up2_row h57, wt_up2_row h56, wt_up2_row h55, wt_up2_row h54, sp_huM_row h52 h53]
  · rw [wt_up2_row h59, wt_up2_row h58, wt_up2_row h55, wt_up2_row h54, sp_huM_row h52 h53]
  · split
    · rw [wt_up2_row h59, wt_up2_row h58, wt_up2_row h55, wt_up2_row h54, sp_huM_row h52 h53]
    · rw [wt_up2_row h59, wt_up2_row h58, wt_up2_row h57, wt_up2_row h56, wt_up2_row h55, wt_up2_row h54, sp_huM_row h52 h53]
theorem sp_ns_58 (M : wt_It) (b a r : Nat) : ∀ o, sp_ns M b a r 58 o = if o = b then nI (a + 1) else M 58 o := by
  intro o
  have e : ∀ N : wt_It, N 58 = M 58 → wt_up2 N 58 b (nI (a + 1)) 58 o = if o = b then nI (a + 1) else M 58 o := by
    intro N hN
    by_cases h : o = b
    · rw [h, wt_up2_self, if_pos rfl]
    · rw [wt_up2_ne (fun z => h z.2), if_neg h, hN]
  have e3 : wt_up2 (wt_up2 (sp_huM M b r) 54 (8 * b + a) (M 59 b)) 55 (8 * b + a) (M 59 b + sp_hu M b r) 58 = M 58 := by
    rw [wt_up2_row (by decide), wt_up2_row (by decide), sp_huM_row (by decide) (by decide)]
  unfold sp_ns
  split <;> split
  · exact e _ e3
  · split
    · exact e _ e3
    · exact e _ (by rw [wt_up2_row (by decide), wt_up2_row (by decide), e3])
  · rw [wt_up2_row (by decide)]; exact e _ e3
  · rw [wt_up2_row (by decide)]
    split
    · exact e _ e3
    · exact e _ (by rw [wt_up2_row (by decide), wt_up2_row (by decide), e3])
theorem sp_flies_same {M M' : wt_It} {o a b : Nat} (h7 : M' 7 = M 7) (h8 : M' 8 = M 8) (h47 : M' 47 = M 47) : sp_flies M' o a b = sp_flies M o a b := by
  unfold sp_flies
  rw [h7, h8, h47]
theorem ct_nights (hE : tw_E G T) (hc0 : sp_city M) (hf0 : sp_fok M) : wt_Ct l G yX3_nights cX3_nights 6 none 4 0 0 [.ref T.1] (tw_Z G T M w) (wt_pv (tw_Z G T (sp_night M) w)) := by
  refine wt_enter [some (.ref T.1), none, none, none, none, none] (by decide +kernel) rfl (Nat.le_of_ble_eq_true rfl) (fun X hc hok => ?_)
  have hc1 := hc0
  obtain ⟨ro, hro, ero, ⟨ow, how, eow, hwl⟩, -⟩ := hc0
  have loop1 : ∀ n r : Nat, r ≤ ro → ro - r < n → wt_V G X 32 [some (.ref T.1), none, none, none, none, none] [] (tw_Z G T (sp_fill M 56 ro (fun r => nI 2 * M 47 (4 + r))) w) 0 0 → wt_V G X 2 [some (.ref T.1), some (.int (nI r)), none, none, none, none] [] (tw_Z G T (sp_fill M 56 r (fun r => nI 2 * M 47 (4 + r))) w) 0 0 := by
    intro n
    induction n with
    | zero => intro r _ h; omega
    | succ n ih =>
      intro r hr hn hend
      refine wt_iload_1 (pc := 2) hc dX3_nights_2 ?_
      refine wt_aload_0 (pc := 3) hc dX3_nights_3 ?_
      refine tw_get (pc := 4) 1 (nI ro) hc hE dX3_nights_4 q1605 (by decide) (fun _ _ _ => rfl) rfl (ero) ?_
      refine wt_nicmp_ge (pc := 7) 32 (r) (ro) hc dX3_nights_7 (by decide) (by omega) (by omega) (fun c_7 => ?_) (fun c_7 => ?_)
      · (have e : r = ro := by omega); subst e; exact wt_drop hend ⟨rfl, trivial⟩
      · refine wt_aload_0 (pc := 10) hc dX3_nights_10 ?_
        refine tw_geta (pc := 11) 56 hc hE dX3_nights_11 q1660 (by decide) (by decide) (fun _ _ _ => rfl) rfl ?_
        refine wt_iload_1 (pc := 14) hc dX3_nights_14 ?_
        refine wt_iconst (pc := 15) (v := nI 2) hc dX3_nights_15 (by decide) ?_
        refine wt_aload_0 (pc := 16) hc dX3_nights_16 ?_
        refine tw_geta (pc := 17) 47 hc hE dX3_nights_17 q1651 (by decide) (by decide) (fun _ _ _ => rfl) rfl ?_
        refine wt_iconst (pc := 20) (v := nI 4) hc dX3_nights_20 (by decide) ?_
        refine wt_iload_1 (pc := 21) hc dX3_nights_21 ?_
        refine wt_iadd (pc := 22) hc dX3_nights_22 ?_
        rw [nI_add 4 r]
        refine tw_iald (pc := 23) (k := 47) (4 + r) _ hc hE dX3_nights_23 rfl (rfl) (by show _ < 19; omega) (by decide) (rfl) ?_
        refine wt_imul (pc := 24) hc dX3_nights_24 ?_
        refine tw_iast (pc := 25) (k := 56) (r) hc hE dX3_nights_25 rfl (rfl) (by show _ < 10; omega) (by decide) ?_
        rw [show wt_up2 (sp_fill M 56 r (fun r => nI 2 * M 47 (4 + r))) 56 r (nI 2 * sp_fill M 56 r (fun r => nI 2 * M 47 (4 + r)) 47 (4 + r)) = sp_fill M 56 (r + 1) (fun r => nI 2 * M 47 (4 + r)) from sp_fill_up M 56 r (fun r => nI 2 * M 47 (4 + r))]
        refine wt_iinc_1 (pc := 26) (v := nI (r + 1)) hc dX3_nights_26 (nI_add r 1) rfl ?_
        refine wt_goto (pc := 29) 2 hc dX3_nights_29 (by decide) ?_
        exact ih (r + 1) (by omega) (by omega) hend
  have loop2 : ∀ (M : wt_It) (n o : Nat), M 0 3 = nI ow → o ≤ ow → ow - o < n → wt_V G X 94 [some (.ref T.1), none, none, none, none, none] [] (tw_Z G T (sp_n0 M ow) w) 0 0 → wt_V G X 34 [some (.ref T.1), some (.int (nI o)), none, none, none, none] [] (tw_Z G T (sp_n0 M o) w) 0 0 := by
    intro M n
    induction n with
    | zero => intro o _ _ h; omega
    | succ n ih =>
      intro o eow ho hn hend
      have hup := sp_n0_up M o
      refine wt_iload_1 (pc := 34) hc dX3_nights_34 ?_
      refine wt_aload_0 (pc := 35) hc dX3_nights_35 ?_
      refine tw_get (pc := 36) 3 (nI ow) hc hE dX3_nights_36 q1607 (by decide) (fun _ _ _ => rfl) rfl (eow) ?_
      refine wt_nicmp_ge (pc := 39) 94 (o) (ow) hc dX3_nights_39 (by decide) (by omega) (by omega) (fun c_39 => ?_) (fun c_39 => ?_)
      · (have e : o = ow := by omega); subst e; exact wt_drop hend ⟨rfl, trivial⟩
      · refine wt_aload_0 (pc := 42) hc dX3_nights_42 ?_
        refine tw_geta (pc := 43) 57 hc hE dX3_nights_43 q1661 (by decide) (by decide) (fun _ _ _ => rfl) rfl ?_
        refine wt_iload_1 (pc := 46) hc dX3_nights_46 ?_
        refine wt_iconst (pc := 47) (v := nI 0) hc dX3_nights_47 (by decide) ?_
        refine tw_iast (pc := 48) (k := 57) (o) hc hE dX3_nights_48 rfl (rfl) (by show _ < 5; omega) (by decide) ?_
        refine wt_aload_0 (pc := 49) hc dX3_nights_49 ?_
        refine tw_geta (pc := 50) 58 hc hE dX3_nights_50 q1662 (by decide) (by decide) (fun _ _ _ => rfl) rfl ?_
        refine wt_iload_1 (pc := 53) hc dX3_nights_53 ?_
        refine wt_aload_0 (pc := 54) hc dX3_nights_54 ?_
        refine wt_iload_1 (pc := 55) hc dX3_nights_55 ?_
        refine wt_gofn (tw_inv (pc := 56) 1 hc hE (ct_nests hE _) dX3_nights_56 rfl q1997 q1999 qs82 q116 q2000 (by decide +kernel) rfl (by decide) (by decide) (Nat.le_of_ble_eq_true rfl) rfl) ?_
        refine wt_if_eq (pc := 59) 71 hc dX3_nights_59 (by decide) (fun c_59 => ?_) (fun c_59 => ?_)
        · refine wt_iconst (pc := 71) (v := nI 0) hc dX3_nights_71 (by decide) ?_
          refine tw_iast (pc := 72) (k := 58) (o) hc hE dX3_nights_72 rfl (rfl) (by show _ < 5; omega) (by decide) ?_
          refine wt_aload_0 (pc := 73) hc dX3_nights_73 ?_
          refine tw_geta (pc := 74) 59 hc hE dX3_nights_74 q1663 (by decide) (by decide) (fun _ _ _ => rfl) rfl ?_
          refine wt_iload_1 (pc := 77) hc dX3_nights_77 ?_
          refine wt_aload_0 (pc := 78) hc dX3_nights_78 ?_
          refine tw_geta (pc := 79) 47 hc hE dX3_nights_79 q1651 (by decide) (by decide) (fun _ _ _ => rfl) rfl ?_
          refine wt_bipush (pc := 82) (v := nI 14) hc dX3_nights_82 (by decide) ?_
          refine wt_iload_1 (pc := 84) hc dX3_nights_84 ?_
          refine wt_iadd (pc := 85) hc dX3_nights_85 ?_
          rw [nI_add 14 o]
          refine tw_iald (pc := 86) (k := 47) (14 + o) _ hc hE dX3_nights_86 rfl (rfl) (by show _ < 19; omega) (by decide) (rfl) ?_
          refine tw_iast (pc := 87) (k := 59) (o) hc hE dX3_nights_87 rfl (rfl) (by show _ < 5; omega) (by decide) ?_
          first | (have c : M 47 3 >>> (nI o &&& 31) &&& 1 = 1 := sp_b_n0 c_59; rw [if_pos c] at hup; refine tw_eq hup ?_) | (have c : ¬ (M 47 3 >>> (nI o &&& 31) &&& 1 = 1) := sp_b_0.mp c_59; rw [if_neg c] at hup; refine tw_eq hup ?_)
          refine wt_iinc_1 (pc := 88) (v := nI (o + 1)) hc dX3_nights_88 (nI_add o 1) rfl ?_
          refine wt_goto (pc := 91) 34 hc dX3_nights_91 (by decide) ?_
          exact ih (o + 1) eow (by omega) (by omega) hend
        · refine wt_aload_0 (pc := 62) hc dX3_nights_62 ?_
          refine tw_geta (pc := 63) 9 hc hE dX3_nights_63 q1613 (by decide) (by decide) (fun _ _ _ => rfl) rfl ?_
          refine wt_iload_1 (pc := 66) hc dX3_nights_66 ?_
          refine tw_iald (pc := 67) (k := 9) (o) _ hc hE dX3_nights_67 rfl (rfl) (by show _ < 5; omega) (by decide) (rfl) ?_
          refine wt_goto (pc := 68) 72 hc dX3_nights_68 (by decide) ?_
          refine tw_iast (pc := 72) (k := 58) (o) hc hE dX3_nights_72 rfl (rfl) (by show _ < 5; omega) (by decide) ?_
          refine wt_aload_0 (pc := 73) hc dX3_nights_73 ?_
          refine tw_geta (pc := 74) 59 hc hE dX3_nights_74 q1663 (by decide) (by decide) (fun _ _ _ => rfl) rfl ?_
          refine wt_iload_1 (pc := 77) hc dX3_nights_77 ?_
          refine wt_aload_0 (pc := 78) hc dX3_nights_78 ?_
          refine tw_geta (pc := 79) 47 hc hE dX3_nights_79 q1651 (by decide) (by decide) (fun _ _ _ => rfl) rfl ?_
          refine wt_bipush (pc := 82) (v := nI 14) hc dX3_nights_82 (by decide) ?_
          refine wt_iload_1 (pc := 84) hc dX3_nights_84 ?_
          refine wt_iadd (pc := 85) hc dX3_nights_85 ?_
          rw [nI_add 14 o]
          refine tw_iald (pc := 86) (k := 47) (14 + o) _ hc hE dX3_nights_86 rfl (rfl) (by show _ < 19; omega) (by decide) (rfl) ?_
          refine tw_iast (pc := 87) (k := 59) (o) hc hE dX3_nights_87 rfl (rfl) (by show _ < 5; omega) (by decide) ?_
          first | (have c : M 47 3 >>> (nI o &&& 31) &&& 1 = 1 := sp_b_n0 c_59; rw [if_pos c] at hup; refine tw_eq hup ?_) | (have c : ¬ (M 47 3 >>> (nI o &&& 31) &&& 1 = 1) := sp_b_0.mp c_59; rw [if_neg c] at hup; refine tw_eq hup ?_)
          refine wt_iinc_1 (pc := 88) (v := nI (o + 1)) hc dX3_nights_88 (nI_add o 1) rfl ?_
          refine wt_goto (pc := 91) 34 hc dX3_nights_91 (by decide) ?_
          exact ih (o + 1) eow (by omega) (by omega) hend
  -- the search for who comes next
  have loop3 : ∀ (M : wt_It) (more : Int32) (n o : Nat), M 0 3 = nI ow → sp_nok M ow → o ≤ ow → ow - o < n → wt_V G X 155 [some (.ref T.1), some (.int more), some (.int (sp_bs M ow)), none, none, none] [] (tw_Z G T M w) 0 0 → wt_V G X 104 [some (.ref T.1), some (.int more), some (.int (sp_bs M o)), some (.int (nI o)), none, none] [] (tw_Z G T M w) 0 0 := by
    intro M more n
    induction n with
    | zero => intro o _ _ _ h; omega
    | succ n ih =>
      intro o eow hk ho hn hend
      have hs : sp_bs M (o + 1) = if ¬ M 9 o ≤ M 58 o ∧ (sp_bs M o = -1 ∨ ¬ M 59 (nn (sp_bs M o)) ≤ M 59 o) then nI o else sp_bs M o := rfl
      refine wt_iload_3 (pc := 104) hc dX3_nights_104 ?_
      refine wt_aload_0 (pc := 105) hc dX3_nights_105 ?_
      refine tw_get (pc := 106) 3 (nI ow) hc hE dX3_nights_106 q1607 (by decide) (fun _ _ _ => rfl) rfl (eow) ?_
      refine wt_nicmp_ge (pc := 109) 155 (o) (ow) hc dX3_nights_109 (by decide) (by omega) (by omega) (fun c_109 => ?_) (fun c_109 => ?_)
      · have e : o = ow := by omega
        subst e
        exact wt_drop hend ⟨rfl, rfl, rfl, trivial⟩
      · have ih' := ih (o + 1) eow hk (by omega) (by omega) hend
        refine wt_aload_0 (pc := 112) hc dX3_nights_112 ?_
        refine tw_geta (pc := 113) 58 hc hE dX3_nights_113 q1662 (by decide) (by decide) (fun _ _ _ => rfl) rfl ?_
        refine wt_iload_3 (pc := 116) hc dX3_nights_116 ?_
        refine tw_iald (pc := 117) (k := 58) (o) _ hc hE dX3_nights_117 rfl (rfl) (by show _ < 5; omega) (by decide) (rfl) ?_
        refine wt_aload_0 (pc := 118) hc dX3_nights_118 ?_
        refine tw_geta (pc := 119) 9 hc hE dX3_nights_119 q1613 (by decide) (by decide) (fun _ _ _ => rfl) rfl ?_
        refine wt_iload_3 (pc := 122) hc dX3_nights_122 ?_
        refine tw_iald (pc := 123) (k := 9) (o) _ hc hE dX3_nights_123 rfl (rfl) (by show _ < 5; omega) (by decide) (rfl) ?_
        refine wt_icmp_ge (pc := 124) 149 hc dX3_nights_124 (by decide) (fun c_124 => ?_) (fun c_124 => ?_)
        · rw [if_neg (fun z => z.1 c_124)] at hs
          refine wt_iinc_3 (pc := 149) (v := nI (o + 1)) hc dX3_nights_149 (nI_add o 1) rfl ?_
          refine wt_goto (pc := 152) 104 hc dX3_nights_152 (by decide) ?_
          rw [hs] at ih'
          exact ih'
        · refine wt_iload_2 (pc := 127) hc dX3_nights_127 ?_
          refine wt_iconst (pc := 128) (v := (-1 : Int32)) hc dX3_nights_128 (by decide) ?_
          refine wt_icmp_eq (pc := 129) 147 hc dX3_nights_129 (by decide) (fun c_129 => ?_) (fun c_129 => ?_)
          · rw [if_pos ⟨c_124, Or.inl c_129⟩] at hs
            refine wt_iload_3 (pc := 147) hc dX3_nights_147 ?_
            refine wt_istore_2 (pc := 148) hc dX3_nights_148 rfl ?_
            refine wt_iinc_3 (pc := 149) (v := nI (o + 1)) hc dX3_nights_149 (nI_add o 1) rfl ?_
            refine wt_goto (pc := 152) 104 hc dX3_nights_152 (by decide) ?_
            rw [hs] at ih'
            exact ih'
          · rcases sp_bs_or M o with hb | ⟨b, hb1, hb2, -⟩
            · exact absurd hb c_129
            · rw [hb2, nn_nI (by omega)] at hs
              rw [hb2]
              refine wt_aload_0 (pc := 132) hc dX3_nights_132 ?_
              refine tw_geta (pc := 133) 59 hc hE dX3_nights_133 q1663 (by decide) (by decide) (fun _ _ _ => rfl) rfl ?_
              refine wt_iload_3 (pc := 136) hc dX3_nights_136 ?_
              refine tw_iald (pc := 137) (k := 59) (o) _ hc hE dX3_nights_137 rfl (rfl) (by show _ < 5; omega) (by decide) (rfl) ?_
              refine wt_aload_0 (pc := 138) hc dX3_nights_138 ?_
              refine tw_geta (pc := 139) 59 hc hE dX3_nights_139 q1663 (by decide) (by decide) (fun _ _ _ => rfl) rfl ?_
              refine wt_iload_2 (pc := 142) hc dX3_nights_142 ?_
              refine tw_iald (pc := 143) (k := 59) (b) _ hc hE dX3_nights_143 rfl (rfl) (by show _ < 5; omega) (by decide) (rfl) ?_
              refine wt_icmp_ge (pc := 144) 149 hc dX3_nights_144 (by decide) (fun c_144 => ?_) (fun c_144 => ?_)
              · rw [if_neg (fun z => z.2.elim (fun q => absurd q (sp_nI_m1 (by omega))) (fun q => q c_144))] at hs
                refine wt_iinc_3 (pc := 149) (v := nI (o + 1)) hc dX3_nights_149 (nI_add o 1) rfl ?_
                refine wt_goto (pc := 152) 104 hc dX3_nights_152 (by decide) ?_
                rw [hs] at ih'
                exact ih'
              · rw [if_pos ⟨c_124, Or.inr c_144⟩] at hs
                refine wt_iload_3 (pc := 147) hc dX3_nights_147 ?_
                refine wt_istore_2 (pc := 148) hc dX3_nights_148 rfl ?_
                refine wt_iinc_3 (pc := 149) (v := nI (o + 1)) hc dX3_nights_149 (nI_add o 1) rfl ?_
                refine wt_goto (pc := 152) 104 hc dX3_nights_152 (by decide) ?_
                rw [hs] at ih'
                exact ih'
  have loop4 : ∀ (n : Nat) (M : wt_It), M 0 3 = nI ow → sp_city M → sp_fok M → sp_nok M ow → sp_left M ow < n → wt_V G X 321 [some (.ref T.1), none, none, none, none, none] [] (tw_Z G T (sp_nl n M) w) 0 0 → wt_V G X 96 [some (.ref T.1), some (.int (nI 1)), none, none, none, none] [] (tw_Z G T M w) 0 0 := by
    intro n
    induction n with
    | zero => intro M _ _ _ _ h; omega
    | succ n ih =>
      intro M eow hcy hfo hk hlt hend
      rw [sp_nl, eow, nn_nI (by omega)] at hend
      refine wt_iload_1 (pc := 96) hc dX3_nights_96 ?_
      refine wt_if_eq (pc := 97) 321 hc dX3_nights_97 (by decide) (fun z => absurd z (by decide)) (fun _ => ?_)
      refine wt_iconst (pc := 100) (v := (-1 : Int32)) hc dX3_nights_100 (by decide) ?_
      refine wt_istore_2 (pc := 101) hc dX3_nights_101 rfl ?_
      refine wt_iconst (pc := 102) (v := nI 0) hc dX3_nights_102 (by decide) ?_
      refine wt_istore_3 (pc := 103) hc dX3_nights_103 rfl ?_
      refine loop3 M (nI 1) (ow + 1) 0 eow hk (by omega) (by omega) ?_
      refine wt_iload_2 (pc := 155) hc dX3_nights_155 ?_
      refine wt_iconst (pc := 156) (v := (-1 : Int32)) hc dX3_nights_156 (by decide) ?_
      refine wt_icmp_eq (pc := 157) 164 hc dX3_nights_157 (by decide) (fun c_157 => ?_) (fun c_157 => ?_)
      · rw [if_pos c_157] at hend
        refine wt_iconst (pc := 164) (v := nI 0) hc dX3_nights_164 (by decide) ?_
        refine wt_istore_1 (pc := 165) hc dX3_nights_165 rfl ?_
        refine wt_iload_1 (pc := 166) hc dX3_nights_166 ?_
        refine wt_if_ne (pc := 167) 173 hc dX3_nights_167 (by decide) (fun z => absurd z (by decide)) (fun _ => ?_)
        refine wt_goto (pc := 170) 96 hc dX3_nights_170 (by decide) ?_
        refine wt_iload_1 (pc := 96) hc dX3_nights_96 ?_
        refine wt_if_eq (pc := 97) 321 hc dX3_nights_97 (by decide) (fun _ => ?_) (fun z => absurd z (by decide))
        exact wt_drop hend ⟨rfl, trivial⟩
      · rw [if_neg c_157] at hend
        rcases sp_bs_or M ow with hb | ⟨b, hb1, hb2, hb3⟩
        · exact absurd hb c_157
        rw [hb2, nn_nI (by omega)] at hend
        rw [hb2]
        obtain ⟨a, wl, h1, h2, e58, e9⟩ := hk b hb1
        have hawl : a < wl := by
          rcases Nat.lt_or_ge a wl with q | q
          · exact q
          · exact absurd (by rw [e58, e9]; exact nI_le q (by omega)) hb3
        rw [e58, nn_nI (by omega)] at hend
        have hway : ∀ i, i < wl → ∃ r, r < 10 ∧ M 10 (8 * b + i) = nI r := by
          obtain ⟨ro', h1', h2', ⟨ow', h3', h4', h5'⟩, -⟩ := hcy
          have e : ow' = ow := by
            have q := (nI_eq (by omega) (by omega)).mp (h4'.symm.trans eow)
            exact q
          subst e
          obtain ⟨wl', h6', h7', h8'⟩ := h5' b hb1
          have e2 : wl' = wl := (nI_eq (by omega) (by omega)).mp (h7'.symm.trans e9)
          subst e2
          intro i hi
          obtain ⟨r, hr, er⟩ := h8' i hi
          exact ⟨r, by omega, er⟩
        obtain ⟨r, hr, er⟩ := hway a hawl
        rw [er, nn_nI (by omega)] at hend
        have hM : ∀ k, k ≠ 52 → k ≠ 53 → ∀ j, sp_huM M b r k j = M k j := fun k q1 q2 j => congrFun (sp_huM_row q1 q2) j
        have fin : wt_V G X 96 [some (.ref T.1), some (.int (nI 1)), none, none, none, none] [] (tw_Z G T (sp_ns M b a r) w) 0 0 := by
          have hsm := sp_ns_same M b a r
          have e9' : ∀ o, sp_ns M b a r 9 o = M 9 o := fun o => congrFun (hsm 9 (by decide) (by decide) (by decide) (by decide) (by decide) (by decide) (by decide) (by decide)) o
          have e58' := sp_ns_58 M b a r
          refine ih _ ((congrFun (hsm 0 (by decide) (by decide) (by decide) (by decide) (by decide) (by decide) (by decide) (by decide)) 3).trans eow) (hcy.same hsm) (hfo.same hsm) (fun o ho => ?_) ?_ hend
          · by_cases e : o = b
            · subst e
              exact ⟨a + 1, wl, hawl, h2, by rw [e58', if_pos rfl], by rw [e9', e9]⟩
            · obtain ⟨a', wl', g1, g2, g3, g4⟩ := hk o ho
              exact ⟨a', wl', g1, g2, by rw [e58', if_neg e, g3], by rw [e9', g4]⟩
          · have := sp_left_lt (M := M) (M' := sp_ns M b a r) hawl h2 e58 e9 (by rw [e58', if_pos rfl]) (by rw [e9', e9]) ow hb1 (fun o _ ho => ⟨e9' o, by rw [e58', if_neg ho]⟩)
            omega
        refine wt_iconst (pc := 160) (v := nI 1) hc dX3_nights_160 (by decide) ?_
        refine wt_goto (pc := 161) 165 hc dX3_nights_161 (by decide) ?_
        refine wt_istore_1 (pc := 165) hc dX3_nights_165 rfl ?_
        refine wt_iload_1 (pc := 166) hc dX3_nights_166 ?_
        refine wt_if_ne (pc := 167) 173 hc dX3_nights_167 (by decide) (fun _ => ?_) (fun z => absurd z (by decide))
        refine wt_bipush (pc := 173) (v := nI 8) hc dX3_nights_173 (by decide) ?_
        refine wt_iload_2 (pc := 175) hc dX3_nights_175 ?_
        refine wt_imul (pc := 176) hc dX3_nights_176 ?_
        rw [pk_mul 8 b]
        refine wt_aload_0 (pc := 177) hc dX3_nights_177 ?_
        refine tw_geta (pc := 178) 58 hc hE dX3_nights_178 q1662 (by decide) (by decide) (fun _ _ _ => rfl) rfl ?_
        refine wt_iload_2 (pc := 181) hc dX3_nights_181 ?_
        refine tw_iald (pc := 182) (k := 58) (b) (nI a) hc hE dX3_nights_182 rfl (rfl) (by show _ < 5; omega) (by decide) (e58) ?_
        refine wt_iadd (pc := 183) hc dX3_nights_183 ?_
        rw [nI_add (8 * b) a]
        refine wt_istore_3 (pc := 184) hc dX3_nights_184 rfl ?_
        refine wt_aload_0 (pc := 185) hc dX3_nights_185 ?_
        refine tw_geta (pc := 186) 10 hc hE dX3_nights_186 q1614 (by decide) (by decide) (fun _ _ _ => rfl) rfl ?_
        refine wt_iload_3 (pc := 189) hc dX3_nights_189 ?_
        refine tw_iald (pc := 190) (k := 10) (8 * b + a) (nI r) hc hE dX3_nights_190 rfl (rfl) (by show _ < 40; omega) (by decide) (er) ?_
        refine wt_istore_4 (pc := 191) hc dX3_nights_191 rfl ?_
        refine wt_aload_0 (pc := 193) hc dX3_nights_193 ?_
        refine wt_iload_2 (pc := 194) hc dX3_nights_194 ?_
        refine wt_iload_4 (pc := 195) hc dX3_nights_195 ?_
        refine wt_gofn (tw_inv (pc := 197) 2 hc hE (ct_huntsFor hE b r (by omega) hr hfo) dX3_nights_197 rfl q2001 q2003 qs83 q116 q2004 (by decide +kernel) rfl (by decide) (by decide) (Nat.le_of_ble_eq_true rfl) rfl) ?_
        refine wt_istore_5 (pc := 200) hc dX3_nights_200 rfl ?_
        refine wt_aload_0 (pc := 202) hc dX3_nights_202 ?_
        refine tw_geta (pc := 203) 54 hc hE dX3_nights_203 q1658 (by decide) (by decide) (fun _ _ _ => rfl) rfl ?_
        refine wt_iload_3 (pc := 206) hc dX3_nights_206 ?_
        refine wt_aload_0 (pc := 207) hc dX3_nights_207 ?_
        refine tw_geta (pc := 208) 59 hc hE dX3_nights_208 q1663 (by decide) (by decide) (fun _ _ _ => rfl) rfl ?_
        refine wt_iload_2 (pc := 211) hc dX3_nights_211 ?_
        refine tw_iald (pc := 212) (k := 59) (b) (M 59 b) hc hE dX3_nights_212 rfl (rfl) (by show _ < 5; omega) (by decide) (hM 59 (by decide) (by decide) b) ?_
        refine tw_iast (pc := 213) (k := 54) (8 * b + a) hc hE dX3_nights_213 rfl (rfl) (by show _ < 40; omega) (by decide) ?_
        refine wt_aload_0 (pc := 214) hc dX3_nights_214 ?_
        refine tw_geta (pc := 215) 55 hc hE dX3_nights_215 q1659 (by decide) (by decide) (fun _ _ _ => rfl) rfl ?_
        refine wt_iload_3 (pc := 218) hc dX3_nights_218 ?_
        refine wt_aload_0 (pc := 219) hc dX3_nights_219 ?_
        refine tw_geta (pc := 220) 59 hc hE dX3_nights_220 q1663 (by decide) (by decide) (fun _ _ _ => rfl) rfl ?_
        refine wt_iload_2 (pc := 223) hc dX3_nights_223 ?_
        refine tw_iald (pc := 224) (k := 59) (b) (M 59 b) hc hE dX3_nights_224 rfl (rfl) (by show _ < 5; omega) (by decide) (hM 59 (by decide) (by decide) b) ?_
        refine wt_iload_5 (pc := 225) hc dX3_nights_225 ?_
        refine wt_iadd (pc := 227) hc dX3_nights_227 ?_
        refine tw_iast (pc := 228) (k := 55) (8 * b + a) hc hE dX3_nights_228 rfl (rfl) (by show _ < 40; omega) (by decide) ?_
        refine wt_iload_5 (pc := 229) hc dX3_nights_229 ?_
        refine wt_if_le (pc := 231) 265 hc dX3_nights_231 (by decide) (fun c_231 => ?_) (fun c_231 => ?_)
        · refine wt_aload_0 (pc := 265) hc dX3_nights_265 ?_
          refine tw_geta (pc := 266) 58 hc hE dX3_nights_266 q1662 (by decide) (by decide) (fun _ _ _ => rfl) rfl ?_
          refine wt_iload_2 (pc := 269) hc dX3_nights_269 ?_
          refine wt_dup2 (pc := 270) hc dX3_nights_270 rfl rfl ?_
          refine tw_iald (pc := 271) (k := 58) (b) (nI a) hc hE dX3_nights_271 rfl (rfl) (by show _ < 5; omega) (by decide) ((hM 58 (by decide) (by decide) b).trans e58) ?_
          refine wt_iconst (pc := 272) (v := nI 1) hc dX3_nights_272 (by decide) ?_
          refine wt_iadd (pc := 273) hc dX3_nights_273 ?_
          rw [nI_add a 1]
          refine tw_iast (pc := 274) (k := 58) (b) hc hE dX3_nights_274 rfl (rfl) (by show _ < 5; omega) (by decide) ?_
          refine wt_aload_0 (pc := 275) hc dX3_nights_275 ?_
          refine tw_geta (pc := 276) 58 hc hE dX3_nights_276 q1662 (by decide) (by decide) (fun _ _ _ => rfl) rfl ?_
          refine wt_iload_2 (pc := 279) hc dX3_nights_279 ?_
          refine tw_iald (pc := 280) (k := 58) (b) (nI (a + 1)) hc hE dX3_nights_280 rfl (rfl) (by show _ < 5; omega) (by decide) (wt_up2_self _ _ _ _) ?_
          refine wt_aload_0 (pc := 281) hc dX3_nights_281 ?_
          refine tw_geta (pc := 282) 9 hc hE dX3_nights_282 q1613 (by decide) (by decide) (fun _ _ _ => rfl) rfl ?_
          refine wt_iload_2 (pc := 285) hc dX3_nights_285 ?_
          refine tw_iald (pc := 286) (k := 9) (b) (nI wl) hc hE dX3_nights_286 rfl (rfl) (by show _ < 5; omega) (by decide) ((hM 9 (by decide) (by decide) b).trans e9) ?_
          refine wt_nicmp_ge (pc := 287) 318 (a + 1) (wl) hc dX3_nights_287 (by decide) (by omega) (by omega) (fun c_287 => ?_) (fun c_287 => ?_)
          · refine wt_goto (pc := 318) 96 hc dX3_nights_318 (by decide) ?_
            refine tw_eq (M := sp_ns M b a r) ?_ (wt_drop fin ⟨rfl, rfl, trivial⟩); unfold sp_ns; (first | rw [if_pos (show M 9 b ≤ nI (a + 1) by rw [e9]; exact nI_le c_287 (by omega))] | rw [if_neg (show ¬ M 9 b ≤ nI (a + 1) by rw [e9]; exact nI_ge c_287 (by omega)), show 8 * b + a + 1 = 8 * b + (a + 1) from rfl, er2, nn_nI (by omega)]); (first | rw [if_pos c_231] | rw [if_neg c_231, if_pos c_241] | rw [if_neg c_231, if_neg c_241])
          · refine wt_aload_0 (pc := 290) hc dX3_nights_290 ?_
            refine tw_geta (pc := 291) 59 hc hE dX3_nights_291 q1663 (by decide) (by decide) (fun _ _ _ => rfl) rfl ?_
            refine wt_iload_2 (pc := 294) hc dX3_nights_294 ?_
            refine wt_aload_0 (pc := 295) hc dX3_nights_295 ?_
            refine tw_geta (pc := 296) 55 hc hE dX3_nights_296 q1659 (by decide) (by decide) (fun _ _ _ => rfl) rfl ?_
            refine wt_iload_3 (pc := 299) hc dX3_nights_299 ?_
            refine tw_iald (pc := 300) (k := 55) (8 * b + a) (M 59 b + sp_hu M b r) hc hE dX3_nights_300 rfl (rfl) (by show _ < 40; omega) (by decide) (wt_up2_self _ _ _ _) ?_
            refine wt_aload_0 (pc := 301) hc dX3_nights_301 ?_
            refine wt_iload_2 (pc := 302) hc dX3_nights_302 ?_
            refine wt_iload_4 (pc := 303) hc dX3_nights_303 ?_
            refine wt_aload_0 (pc := 305) hc dX3_nights_305 ?_
            refine tw_geta (pc := 306) 10 hc hE dX3_nights_306 q1614 (by decide) (by decide) (fun _ _ _ => rfl) rfl ?_
            refine wt_iload_3 (pc := 309) hc dX3_nights_309 ?_
            refine wt_iconst (pc := 310) (v := nI 1) hc dX3_nights_310 (by decide) ?_
            refine wt_iadd (pc := 311) hc dX3_nights_311 ?_
            rw [nI_add (8 * b + a) 1]
            obtain ⟨r2, hr2, er2⟩ := hway (a + 1) (by omega)
            refine tw_iald (pc := 312) (k := 10) (8 * b + a + 1) (nI r2) hc hE dX3_nights_312 rfl (rfl) (by show _ < 40; omega) (by decide) ((hM 10 (by decide) (by decide) _).trans er2) ?_
            refine wt_gofn (tw_inv (pc := 313) 3 hc hE (ct_flies hE b r r2 (by omega) hr hr2) dX3_nights_313 rfl q2012 q2014 qs85 q116 q2015 (by decide +kernel) rfl (by decide) (by decide) (Nat.le_of_ble_eq_true rfl) rfl) ?_
            refine wt_topi (sp_flies_same (M := M) (funext fun j => hM 7 (by decide) (by decide) j) (funext fun j => hM 8 (by decide) (by decide) j) (funext fun j => hM 47 (by decide) (by decide) j)) ?_
            refine wt_iadd (pc := 316) hc dX3_nights_316 ?_
            refine tw_iast (pc := 317) (k := 59) (b) hc hE dX3_nights_317 rfl (rfl) (by show _ < 5; omega) (by decide) ?_
            refine wt_goto (pc := 318) 96 hc dX3_nights_318 (by decide) ?_
            refine tw_eq (M := sp_ns M b a r) ?_ (wt_drop fin ⟨rfl, rfl, trivial⟩); unfold sp_ns; (first | rw [if_pos (show M 9 b ≤ nI (a + 1) by rw [e9]; exact nI_le c_287 (by omega))] | rw [if_neg (show ¬ M 9 b ≤ nI (a + 1) by rw [e9]; exact nI_ge c_287 (by omega)), show 8 * b + a + 1 = 8 * b + (a + 1) from rfl, er2, nn_nI (by omega)]); (first | rw [if_pos c_231] | rw [if_neg c_231, if_pos c_241] | rw [if_neg c_231, if_neg c_241])
        · refine wt_aload_0 (pc := 234) hc dX3_nights_234 ?_
          refine tw_geta (pc := 235) 56 hc hE dX3_nights_235 q1660 (by decide) (by decide) (fun _ _ _ => rfl) rfl ?_
          refine wt_iload_4 (pc := 238) hc dX3_nights_238 ?_
          refine tw_iald (pc := 240) (k := 56) (r) (M 56 r) hc hE dX3_nights_240 rfl (rfl) (by show _ < 10; omega) (by decide) (hM 56 (by decide) (by decide) r) ?_
          refine wt_if_le (pc := 241) 265 hc dX3_nights_241 (by decide) (fun c_241 => ?_) (fun c_241 => ?_)
          · refine wt_aload_0 (pc := 265) hc dX3_nights_265 ?_
            refine tw_geta (pc := 266) 58 hc hE dX3_nights_266 q1662 (by decide) (by decide) (fun _ _ _ => rfl) rfl ?_
            refine wt_iload_2 (pc := 269) hc dX3_nights_269 ?_
            refine wt_dup2 (pc := 270) hc dX3_nights_270 rfl rfl ?_
            refine tw_iald (pc := 271) (k := 58) (b) (nI a) hc hE dX3_nights_271 rfl (rfl) (by show _ < 5; omega) (by decide) ((hM 58 (by decide) (by decide) b).trans e58) ?_
            refine wt_iconst (pc := 272) (v := nI 1) hc dX3_nights_272 (by decide) ?_
            refine wt_iadd (pc := 273) hc dX3_nights_273 ?_
            rw [nI_add a 1]
            refine tw_iast (pc := 274) (k := 58) (b) hc hE dX3_nights_274 rfl (rfl) (by show _ < 5; omega) (by decide) ?_
            refine wt_aload_0 (pc := 275) hc dX3_nights_275 ?_
            refine tw_geta (pc := 276) 58 hc hE dX3_nights_276 q1662 (by decide) (by decide) (fun _ _ _ => rfl) rfl ?_
            refine wt_iload_2 (pc := 279) hc dX3_nights_279 ?_
            refine tw_iald (pc := 280) (k := 58) (b) (nI (a + 1)) hc hE dX3_nights_280 rfl (rfl) (by show _ < 5; omega) (by decide) (wt_up2_self _ _ _ _) ?_
            refine wt_aload_0 (pc := 281) hc dX3_nights_281 ?_
            refine tw_geta (pc := 282) 9 hc hE dX3_nights_282 q1613 (by decide) (by decide) (fun _ _ _ => rfl) rfl ?_
            refine wt_iload_2 (pc := 285) hc dX3_nights_285 ?_
            refine tw_iald (pc := 286) (k := 9) (b) (nI wl) hc hE dX3_nights_286 rfl (rfl) (by show _ < 5; omega) (by decide) ((hM 9 (by decide) (by decide) b).trans e9) ?_
            refine wt_nicmp_ge (pc := 287) 318 (a + 1) (wl) hc dX3_nights_287 (by decide) (by omega) (by omega) (fun c_287 => ?_) (fun c_287 => ?_)
            · refine wt_goto (pc := 318) 96 hc dX3_nights_318 (by decide) ?_
              refine tw_eq (M := sp_ns M b a r) ?_ (wt_drop fin ⟨rfl, rfl, trivial⟩); unfold sp_ns; (first | rw [if_pos (show M 9 b ≤ nI (a + 1) by rw [e9]; exact nI_le c_287 (by omega))] | rw [if_neg (show ¬ M 9 b ≤ nI (a + 1) by rw [e9]; exact nI_ge c_287 (by omega)), show 8 * b + a + 1 = 8 * b + (a + 1) from rfl, er2, nn_nI (by omega)]); (first | rw [if_pos c_231] | rw [if_neg c_231, if_pos c_241] | rw [if_neg c_231, if_neg c_241])
            · refine wt_aload_0 (pc := 290) hc dX3_nights_290 ?_
              refine tw_geta (pc := 291) 59 hc hE dX3_nights_291 q1663 (by decide) (by decide) (fun _ _ _ => rfl) rfl ?_
              refine wt_iload_2 (pc := 294) hc dX3_nights_294 ?_
              refine wt_aload_0 (pc := 295) hc dX3_nights_295 ?_
              refine tw_geta (pc := 296) 55 hc hE dX3_nights_296 q1659 (by decide) (by decide) (fun _ _ _ => rfl) rfl ?_
              refine wt_iload_3 (pc := 299) hc dX3_nights_299 ?_
              refine tw_iald (pc := 300) (k := 55) (8 * b + a) (M 59 b + sp_hu M b r) hc hE dX3_nights_300 rfl (rfl) (by show _ < 40; omega) (by decide) (wt_up2_self _ _ _ _) ?_
              refine wt_aload_0 (pc := 301) hc dX3_nights_301 ?_
              refine wt_iload_2 (pc := 302) hc dX3_nights_302 ?_
              refine wt_iload_4 (pc := 303) hc dX3_nights_303 ?_
              refine wt_aload_0 (pc := 305) hc dX3_nights_305 ?_
              refine tw_geta (pc := 306) 10 hc hE dX3_nights_306 q1614 (by decide) (by decide) (fun _ _ _ => rfl) rfl ?_
              refine wt_iload_3 (pc := 309) hc dX3_nights_309 ?_
              refine wt_iconst (pc := 310) (v := nI 1) hc dX3_nights_310 (by decide) ?_
              refine wt_iadd (pc := 311) hc dX3_nights_311 ?_
              rw [nI_add (8 * b + a) 1]
              obtain ⟨r2, hr2, er2⟩ := hway (a + 1) (by omega)
              refine tw_iald (pc := 312) (k := 10) (8 * b + a + 1) (nI r2) hc hE dX3_nights_312 rfl (rfl) (by show _ < 40; omega) (by decide) ((hM 10 (by decide) (by decide) _).trans er2) ?_
              refine wt_gofn (tw_inv (pc := 313) 3 hc hE (ct_flies hE b r r2 (by omega) hr hr2) dX3_nights_313 rfl q2012 q2014 qs85 q116 q2015 (by decide +kernel) rfl (by decide) (by decide) (Nat.le_of_ble_eq_true rfl) rfl) ?_
              refine wt_topi (sp_flies_same (M := M) (funext fun j => hM 7 (by decide) (by decide) j) (funext fun j => hM 8 (by decide) (by decide) j) (funext fun j => hM 47 (by decide) (by decide) j)) ?_
              refine wt_iadd (pc := 316) hc dX3_nights_316 ?_
              refine tw_iast (pc := 317) (k := 59) (b) hc hE dX3_nights_317 rfl (rfl) (by show _ < 5; omega) (by decide) ?_
              refine wt_goto (pc := 318) 96 hc dX3_nights_318 (by decide) ?_
              refine tw_eq (M := sp_ns M b a r) ?_ (wt_drop fin ⟨rfl, rfl, trivial⟩); unfold sp_ns; (first | rw [if_pos (show M 9 b ≤ nI (a + 1) by rw [e9]; exact nI_le c_287 (by omega))] | rw [if_neg (show ¬ M 9 b ≤ nI (a + 1) by rw [e9]; exact nI_ge c_287 (by omega)), show 8 * b + a + 1 = 8 * b + (a + 1) from rfl, er2, nn_nI (by omega)]); (first | rw [if_pos c_231] | rw [if_neg c_231, if_pos c_241] | rw [if_neg c_231, if_neg c_241])
          · refine wt_aload_0 (pc := 244) hc dX3_nights_244 ?_
            refine tw_geta (pc := 245) 56 hc hE dX3_nights_245 q1660 (by decide) (by decide) (fun _ _ _ => rfl) rfl ?_
            refine wt_iload_4 (pc := 248) hc dX3_nights_248 ?_
            refine wt_dup2 (pc := 250) hc dX3_nights_250 rfl rfl ?_
            refine tw_iald (pc := 251) (k := 56) (r) (M 56 r) hc hE dX3_nights_251 rfl (rfl) (by show _ < 10; omega) (by decide) (hM 56 (by decide) (by decide) r) ?_
            refine wt_iconst (pc := 252) (v := nI 1) hc dX3_nights_252 (by decide) ?_
            refine wt_isub (pc := 253) hc dX3_nights_253 ?_
            refine tw_iast (pc := 254) (k := 56) (r) hc hE dX3_nights_254 rfl (rfl) (by show _ < 10; omega) (by decide) ?_
            refine wt_aload_0 (pc := 255) hc dX3_nights_255 ?_
            refine tw_geta (pc := 256) 57 hc hE dX3_nights_256 q1661 (by decide) (by decide) (fun _ _ _ => rfl) rfl ?_
            refine wt_iload_2 (pc := 259) hc dX3_nights_259 ?_
            refine wt_dup2 (pc := 260) hc dX3_nights_260 rfl rfl ?_
            refine tw_iald (pc := 261) (k := 57) (b) (M 57 b) hc hE dX3_nights_261 rfl (rfl) (by show _ < 5; omega) (by decide) (hM 57 (by decide) (by decide) b) ?_
            refine wt_iconst (pc := 262) (v := nI 1) hc dX3_nights_262 (by decide) ?_
            refine wt_iadd (pc := 263) hc dX3_nights_263 ?_
            refine tw_iast (pc := 264) (k := 57) (b) hc hE dX3_nights_264 rfl (rfl) (by show _ < 5; omega) (by decide) ?_
            refine wt_aload_0 (pc := 265) hc dX3_nights_265 ?_
            refine tw_geta (pc := 266) 58 hc hE dX3_nights_266 q1662 (by decide) (by decide) (fun _ _ _ => rfl) rfl ?_
            refine wt_iload_2 (pc := 269) hc dX3_nights_269 ?_
            refine wt_dup2 (pc := 270) hc dX3_nights_270 rfl rfl ?_
            refine tw_iald (pc := 271) (k := 58) (b) (nI a) hc hE dX3_nights_271 rfl (rfl) (by show _ < 5; omega) (by decide) ((hM 58 (by decide) (by decide) b).trans e58) ?_
            refine wt_iconst (pc := 272) (v := nI 1) hc dX3_nights_272 (by decide) ?_
            refine wt_iadd (pc := 273) hc dX3_nights_273 ?_
            rw [nI_add a 1]
            refine tw_iast (pc := 274) (k := 58) (b) hc hE dX3_nights_274 rfl (rfl) (by show _ < 5; omega) (by decide) ?_
            refine wt_aload_0 (pc := 275) hc dX3_nights_275 ?_
            refine tw_geta (pc := 276) 58 hc hE dX3_nights_276 q1662 (by decide) (by decide) (fun _ _ _ => rfl) rfl ?_
            refine wt_iload_2 (pc := 279) hc dX3_nights_279 ?_
            refine tw_iald (pc := 280) (k := 58) (b) (nI (a + 1)) hc hE dX3_nights_280 rfl (rfl) (by show _ < 5; omega) (by decide) (wt_up2_self _ _ _ _) ?_
            refine wt_aload_0 (pc := 281) hc dX3_nights_281 ?_
            refine tw_geta (pc := 282) 9 hc hE dX3_nights_282 q1613 (by decide) (by decide) (fun _ _ _ => rfl) rfl ?_
            refine wt_iload_2 (pc := 285) hc dX3_nights_285 ?_
            refine tw_iald (pc := 286) (k := 9) (b) (nI wl) hc hE dX3_nights_286 rfl (rfl) (by show _ < 5; omega) (by decide) ((hM 9 (by decide) (by decide) b).trans e9) ?_
            refine wt_nicmp_ge (pc := 287) 318 (a + 1) (wl) hc dX3_nights_287 (by decide) (by omega) (by omega) (fun c_287 => ?_) (fun c_287 => ?_)
            · refine wt_goto (pc := 318) 96 hc dX3_nights_318 (by decide) ?_
              refine tw_eq (M := sp_ns M b a r) ?_ (wt_drop fin ⟨rfl, rfl, trivial⟩); unfold sp_ns; (first | rw [if_pos (show M 9 b ≤ nI (a + 1) by rw [e9]; exact nI_le c_287 (by omega))] | rw [if_neg (show ¬ M 9 b ≤ nI (a + 1) by rw [e9]; exact nI_ge c_287 (by omega)), show 8 * b + a + 1 = 8 * b + (a + 1) from rfl, er2, nn_nI (by omega)]); (first | rw [if_pos c_231] | rw [if_neg c_231, if_pos c_241] | rw [if_neg c_231, if_neg c_241])
            · refine wt_aload_0 (pc := 290) hc dX3_nights_290 ?_
              refine tw_geta (pc := 291) 59 hc hE dX3_nights_291 q1663 (by decide) (by decide) (fun _ _ _ => rfl) rfl ?_
              refine wt_iload_2 (pc := 294) hc dX3_nights_294 ?_
              refine wt_aload_0 (pc := 295) hc dX3_nights_295 ?_
              refine tw_geta (pc := 296) 55 hc hE dX3_nights_296 q1659 (by decide) (by decide) (fun _ _ _ => rfl) rfl ?_
              refine wt_iload_3 (pc := 299) hc dX3_nights_299 ?_
              refine tw_iald (pc := 300) (k := 55) (8 * b + a) (M 59 b + sp_hu M b r) hc hE dX3_nights_300 rfl (rfl) (by show _ < 40; omega) (by decide) (wt_up2_self _ _ _ _) ?_
              refine wt_aload_0 (pc := 301) hc dX3_nights_301 ?_
              refine wt_iload_2 (pc := 302) hc dX3_nights_302 ?_
              refine wt_iload_4 (pc := 303) hc dX3_nights_303 ?_
              refine wt_aload_0 (pc := 305) hc dX3_nights_305 ?_
              refine tw_geta (pc := 306) 10 hc hE dX3_nights_306 q1614 (by decide) (by decide) (fun _ _ _ => rfl) rfl ?_
              refine wt_iload_3 (pc := 309) hc dX3_nights_309 ?_
              refine wt_iconst (pc := 310) (v := nI 1) hc dX3_nights_310 (by decide) ?_
              refine wt_iadd (pc := 311) hc dX3_nights_311 ?_
              rw [nI_add (8 * b + a) 1]
              obtain ⟨r2, hr2, er2⟩ := hway (a + 1) (by omega)
              refine tw_iald (pc := 312) (k := 10) (8 * b + a + 1) (nI r2) hc hE dX3_nights_312 rfl (rfl) (by show _ < 40; omega) (by decide) ((hM 10 (by decide) (by decide) _).trans er2) ?_
              refine wt_gofn (tw_inv (pc := 313) 3 hc hE (ct_flies hE b r r2 (by omega) hr hr2) dX3_nights_313 rfl q2012 q2014 qs85 q116 q2015 (by decide +kernel) rfl (by decide) (by decide) (Nat.le_of_ble_eq_true rfl) rfl) ?_
              refine wt_topi (sp_flies_same (M := M) (funext fun j => hM 7 (by decide) (by decide) j) (funext fun j => hM 8 (by decide) (by decide) j) (funext fun j => hM 47 (by decide) (by decide) j)) ?_
              refine wt_iadd (pc := 316) hc dX3_nights_316 ?_
              refine tw_iast (pc := 317) (k := 59) (b) hc hE dX3_nights_317 rfl (rfl) (by show _ < 5; omega) (by decide) ?_
              refine wt_goto (pc := 318) 96 hc dX3_nights_318 (by decide) ?_
              refine tw_eq (M := sp_ns M b a r) ?_ (wt_drop fin ⟨rfl, rfl, trivial⟩); unfold sp_ns; (first | rw [if_pos (show M 9 b ≤ nI (a + 1) by rw [e9]; exact nI_le c_287 (by omega))] | rw [if_neg (show ¬ M 9 b ≤ nI (a + 1) by rw [e9]; exact nI_ge c_287 (by omega)), show 8 * b + a + 1 = 8 * b + (a + 1) from rfl, er2, nn_nI (by omega)]); (first | rw [if_pos c_231] | rw [if_neg c_231, if_pos c_241] | rw [if_neg c_231, if_neg c_241])
  refine wt_iconst (pc := 0) (v := nI 0) hc dX3_nights_0 (by decide) ?_
  refine wt_istore_1 (pc := 1) hc dX3_nights_1 rfl ?_
  have eM : sp_ni M = sp_n0 (sp_fill M 56 ro (fun r => nI 2 * M 47 (4 + r))) ow := by
    unfold sp_ni
    rw [ero, eow, nn_nI (by omega), nn_nI (by omega)]
  rw [← sp_fill_0 M 56 (fun r => nI 2 * M 47 (4 + r))]
  refine loop1 (ro + 1) 0 (by omega) (by omega) ?_
  refine wt_iconst (pc := 32) (v := nI 0) hc dX3_nights_32 (by decide) ?_
  refine wt_istore_1 (pc := 33) hc dX3_nights_33 rfl ?_
  rw [← sp_n0_0 (sp_fill M 56 ro (fun r => nI 2 * M 47 (4 + r)))]
  refine loop2 _ (ow + 1) 0 eow (by omega) (by omega) ?_
  rw [← eM]
  refine wt_iconst (pc := 94) (v := nI 1) hc dX3_nights_94 (by decide) ?_
  refine wt_istore_1 (pc := 95) hc dX3_nights_95 rfl ?_
  have hs1 : sp_same M (sp_ni M) := by
    rw [eM]
    intro k _ _ _ _ h56 h57 h58 h59
    unfold sp_n0
    rw [sp_fill_row h59, sp_fill_row h58, sp_fill_row h57, sp_fill_row h56]
  have hnk : sp_nok (sp_ni M) ow := by
    intro o ho
    obtain ⟨wl, g1, g2, -⟩ := hwl o ho
    have e9 : sp_ni M 9 o = nI wl := (congrFun (hs1 9 (by decide) (by decide) (by decide) (by decide) (by decide) (by decide) (by decide) (by decide)) o).trans g2
    have e58 : sp_ni M 58 o = if M 47 3 >>> (nI o &&& 31) &&& 1 = 1 then M 9 o else nI 0 := by
      rw [eM]
      unfold sp_n0
      rw [sp_fill_row (by decide)]
      exact if_pos ⟨rfl, ho⟩
    by_cases q : M 47 3 >>> (nI o &&& 31) &&& 1 = 1
    · exact ⟨wl, wl, Nat.le_refl _, g1, by rw [e58, if_pos q, g2], e9⟩
    · exact ⟨0, wl, Nat.zero_le _, g1, by rw [e58, if_neg q], e9⟩
  refine loop4 41 (sp_ni M) ((congrFun (hs1 0 (by decide) (by decide) (by decide) (by decide) (by decide) (by decide) (by decide) (by decide)) 3).trans eow) (hc1.same hs1) (hf0.same hs1) hnk ?_ ?_
  · have := sp_left_le (sp_ni M) ow hnk
    omega
  · exact wt_vret (pc := 321) hc hok dX3_nights_321 (fun H hZ => ⟨rfl, hZ⟩)
end TE
