/-! THE REFERENCE: numbers, roofs, parts of expressions -/
set_option maxRecDepth 100000
theorem sp_wrong_row {M : wt_It} {k : Int32} {r : Nat} (h : r ≠ 0) : sp_wrong M k r = M r := by
  unfold sp_wrong
  split
  · rw [wt_up2_row h, wt_up2_row h]
  · rfl
theorem sp_wrong_at {M : wt_It} {k : Int32} {j : Nat} (h1 : j ≠ 16) (h2 : j ≠ 17) : sp_wrong M k 0 j = M 0 j := by
  unfold sp_wrong
  split
  · rw [wt_up2_ne (fun z => h2 z.2), wt_up2_ne (fun z => h1 z.2)]
  · rfl
theorem sp_wrong_bad {M : wt_It} {k : Int32} (hk : ¬ k = 0) : ¬ sp_wrong M k 0 16 = 0 := by
  unfold sp_wrong
  by_cases h : M 0 16 = 0
  · rw [if_pos h, wt_up2_ne (fun z => by omega), wt_up2_self]
    exact hk
  · rw [if_neg h]
    exact h
theorem rd_in.of {M M' : wt_It} {n p : Nat} (h : rd_in M n p) (e19 : M' 0 19 = M 0 19) (e20 : M' 0 20 = M 0 20) : rd_in M' n p := ⟨h.1, h.2.1, e19.trans h.2.2.1, e20.trans h.2.2.2⟩
theorem rd_in.wrong {M : wt_It} {n p : Nat} (h : rd_in M n p) (k : Int32) : rd_in (sp_wrong M k) n p := h.of (sp_wrong_at (by decide) (by decide)) (sp_wrong_at (by decide) (by decide))
def rd_need (M : wt_It) (w : Int64) (is : Int32) : wt_It × Int64 := if M 0 16 = 0 then (if is = 0 then (sp_wrong M (nI 1), w) else rd_go M) else (M, w)
def rd_nchk (M : wt_It) (lo hi : Int32) : wt_It := if M 0 21 = nI 2 then (if M 0 23 ≤ nI 4 ∧ lo ≤ M 0 24 ∧ M 0 24 ≤ hi then M else sp_wrong M (nI 2)) else sp_wrong M (nI 1)
/-- go on where nothing is wrong -/
def rd_ifgo (M : wt_It) (w : Int64) : wt_It × Int64 := if M 0 16 = 0 then rd_go M else (M, w)
def rd_num (M : wt_It) (w : Int64) (lo hi : Int32) : Int32 × wt_It × Int64 := if M 0 16 = 0 then (M 0 24, rd_ifgo (rd_nchk M lo hi) w) else (nI 0, M, w)
def rd_rchk (M : wt_It) : wt_It := if M 0 21 = nI 2 then (if M 0 23 ≤ nI 4 then (if M 0 24 < M 0 27 then M else sp_wrong M (nI 3)) else sp_wrong M (nI 2)) else sp_wrong M (nI 1)
def rd_rh (M : wt_It) : Int32 × wt_It := if M 0 16 = 0 then ((if rd_rchk M 0 16 = 0 then M 0 24 else nI 0), rd_rchk M) else (nI 0, M)
def rd_rn (M : wt_It) (w : Int64) : Int32 × wt_It × Int64 := ((rd_rh M).1, rd_ifgo (rd_rh M).2 w)
theorem rd_nchk_row {M : wt_It} {lo hi : Int32} {r : Nat} (h : r ≠ 0) : rd_nchk M lo hi r = M r := by
  unfold rd_nchk
  split
  · split
    · rfl
    · exact sp_wrong_row h
  · exact sp_wrong_row h
theorem rd_nchk_at {M : wt_It} {lo hi : Int32} {j : Nat} (h1 : j ≠ 16) (h2 : j ≠ 17) : rd_nchk M lo hi 0 j = M 0 j := by
  unfold rd_nchk
  split
  · split
    · rfl
    · exact sp_wrong_at h1 h2
  · exact sp_wrong_at h1 h2
theorem rd_rchk_row {M : wt_It} {r : Nat} (h : r ≠ 0) : rd_rchk M r = M r := by
  unfold rd_rchk
  split
  · split
    · split
      · rfl
      · exact sp_wrong_row h
    · exact sp_wrong_row h
  · exact sp_wrong_row h
theorem rd_rchk_at {M : wt_It} {j : Nat} (h1 : j ≠ 16) (h2 : j ≠ 17) : rd_rchk M 0 j = M 0 j := by
  unfold rd_rchk
  split
  · split
    · split
      · rfl
      · exact sp_wrong_at h1 h2
    · exact sp_wrong_at h1 h2
  · exact sp_wrong_at h1 h2
theorem rd_rh_row {M : wt_It} {r : Nat} (h : r ≠ 0) : (rd_rh M).2 r = M r := by
  unfold rd_rh
  split
  · exact rd_rchk_row h
  · rfl
theorem rd_rh_at {M : wt_It} {j : Nat} (h1 : j ≠ 16) (h2 : j ≠ 17) : (rd_rh M).2 0 j = M 0 j := by
  unfold rd_rh
  split
  · exact rd_rchk_at h1 h2
  · rfl
def rd_puts (M : wt_It) (v : Int32) : wt_It := sp_puts M (nn (M 0 33)) v
def rd_waits (M : wt_It) (v : Int32) : wt_It := sp_waitsFor M (nn (M 0 34)) v
/-- what waits goes out, down to what is weaker -/
def rd_dr (least : Int32) : Nat → wt_It → wt_It
  | 0, M => M
  | m + 1, M => if 14 ≤ M 45 m then M else if sp_strength (M 45 m) < least then M else rd_dr least m (rd_puts (wt_up2 M 0 34 (nI m)) (M 45 m))
def rd_drops (M : wt_It) (least : Int32) : wt_It := rd_dr least (nn (M 0 34)) M
def rd_op (M : wt_It) : Nat → Bool
  | 0 => false
  | m + 1 => if 14 ≤ M 45 m then true else rd_op M m
def rd_sg (M : wt_It) (c : Int32) : Prop := M 0 21 = 3 ∧ M 0 25 = c
def rd_deep (M : wt_It) : wt_It := if nI 6 ≤ M 0 35 then sp_wrong M (if M 0 21 = nI 2 then nI 2 else if M 0 21 = nI 1 then nI 2 else if M 0 21 = 3 ∧ M 0 25 = nI 40 then nI 2 else nI 1) else wt_up2 (wt_up2 M 0 35 (M 0 35 + nI 1)) 46 (nn (M 0 35 + nI 1)) (nI 0)
def rd_pt (M : wt_It) (w : Int64) : wt_It := if M 0 21 = nI 2 then rd_puts (rd_puts (if M 0 23 ≤ nI 4 then M else sp_wrong M (nI 2)) (nI 1)) (M 0 24) else if M 0 21 = nI 1 then rd_puts (rd_puts (if sp_kw M w < 0 then sp_wrong M (nI 3) else if sp_kw M w ≤ nI 6 then M else sp_wrong M (nI 3)) (nI 2)) (sp_kw M w) else sp_wrong M (nI 1)
def rd_part (M : wt_It) (w : Int64) : wt_It × Int64 := if M 0 16 = 0 then rd_ifgo (rd_pt M w) w else (M, w)
section TR
variable {l : Launch} {G : wt_G} {Z : Heap → Prop} {T : tw_T} {M N : wt_It} {w : Int64}
theorem ct_need (hE : tw_E G T) (n p : Nat) (hi : rd_in M n p) (is : Int32) : wt_Ct l G yX3_need cX3_need 2 none 3 0 0 [.ref T.1, .int is] (tw_Z G T M w) (wt_pv (tw_Z G T (rd_need M w is).1 (rd_need M w is).2)) := by
  unfold rd_need
  refine wt_enter [some (.ref T.1), some (.int is)] (by decide +kernel) rfl (Nat.le_of_ble_eq_true rfl) (fun X hc hok => ?_)
  refine wt_aload_0 (pc := 0) hc dX3_need_0 ?_
  refine wt_gofn (tw_inv (pc := 1) 0 hc hE (ct_isGood hE) dX3_need_1 rfl q1868 q1870 qs57 q116 q1871 (by decide +kernel) rfl (by decide) (by decide) (Nat.le_of_ble_eq_true rfl) rfl) ?_
  refine wt_if_ne (pc := 4) 8 hc dX3_need_4 (by decide) (fun c_4 => ?_) (fun c_4 => ?_)
  · refine wt_iload_1 (pc := 8) hc dX3_need_8 ?_
    refine wt_if_eq (pc := 9) 19 hc dX3_need_9 (by decide) (fun c_9 => ?_) (fun c_9 => ?_)
    · refine wt_aload_0 (pc := 19) hc dX3_need_19 ?_
      refine wt_iconst (pc := 20) (v := nI 1) hc dX3_need_20 (by decide) ?_
      refine wt_gov (tw_inv (pc := 21) 1 hc hE (ct_wrong hE _) dX3_need_21 rfl q1887 q1889 qs60 q116 q1890 (by decide +kernel) rfl (by decide) (by decide) (Nat.le_of_ble_eq_true rfl) rfl) (Nat.zero_le _) (Nat.zero_le _) ?_
      exact wt_vret (pc := 24) hc hok dX3_need_24 (fun H hZ => ⟨rfl, by first | (rw [if_pos (sp_b_n0 c_4), if_pos c_9]; exact hZ) | (rw [if_pos (sp_b_n0 c_4), if_neg c_9]; exact hZ)⟩)
    · refine wt_aload_0 (pc := 12) hc dX3_need_12 ?_
      refine wt_gov (tw_inv (pc := 13) 0 hc hE (ct_goes hE n p hi) dX3_need_13 rfl q1854 q1856 qs55 q116 q1857 (by decide +kernel) rfl (by decide) (by decide) (Nat.le_of_ble_eq_true rfl) rfl) (Nat.zero_le _) (Nat.zero_le _) ?_
      refine wt_goto (pc := 16) 24 hc dX3_need_16 (by decide) ?_
      exact wt_vret (pc := 24) hc hok dX3_need_24 (fun H hZ => ⟨rfl, by first | (rw [if_pos (sp_b_n0 c_4), if_pos c_9]; exact hZ) | (rw [if_pos (sp_b_n0 c_4), if_neg c_9]; exact hZ)⟩)
  · exact wt_vret (pc := 7) hc hok dX3_need_7 (fun H hZ => ⟨rfl, by rw [if_neg (sp_b_0.mp c_4)]; exact hZ⟩)
theorem ct_number (hE : tw_E G T) (n p : Nat) (hi : rd_in M n p) (lo hi' : Int32) : wt_Ct l G yX3_number cX3_number 4 (some .int) 3 0 0 [.ref T.1, .int lo, .int hi'] (tw_Z G T M w) (wt_fn (rd_num M w lo hi').1 (tw_Z G T (rd_num M w lo hi').2.1 (rd_num M w lo hi').2.2)) := by
  unfold rd_num
  refine wt_enter [some (.ref T.1), some (.int lo), some (.int hi'), none] (by decide +kernel) rfl (Nat.le_of_ble_eq_true rfl) (fun X hc hok => ?_)
  by_cases hg : M 0 16 = 0
  · rw [if_pos hg] at hok
    have tail : ∀ A, A = rd_nchk M lo hi' → wt_V G X 54 [some (.ref T.1), some (.int lo), some (.int hi'), none] [] (tw_Z G T A w) 0 0 := by
      intro A eA
      subst eA
      have hi2 : rd_in (rd_nchk M lo hi') n p := hi.of (rd_nchk_at (by decide) (by decide)) (rd_nchk_at (by decide) (by decide))
      unfold rd_ifgo at hok
      refine wt_aload_0 (pc := 54) hc dX3_number_54 ?_
      refine tw_get (pc := 55) 24 (M 0 24) hc hE dX3_number_55 q1628 (by decide) (fun _ _ _ => rfl) rfl (rd_nchk_at (by decide) (by decide)) ?_
      refine wt_istore_3 (pc := 58) hc dX3_number_58 rfl ?_
      refine wt_aload_0 (pc := 59) hc dX3_number_59 ?_
      refine wt_gofn (tw_inv (pc := 60) 0 hc hE (ct_isGood hE) dX3_number_60 rfl q1868 q1870 qs57 q116 q1871 (by decide +kernel) rfl (by decide) (by decide) (Nat.le_of_ble_eq_true rfl) rfl) ?_
      refine wt_if_eq (pc := 63) 70 hc dX3_number_63 (by decide) (fun c_63 => ?_) (fun c_63 => ?_)
      · refine wt_iload_3 (pc := 70) hc dX3_number_70 ?_
        exact wt_iret (pc := 71) hc hok dX3_number_71 (rfl) (fun H hZ => ⟨rfl, by first | (rw [if_pos (sp_b_n0 c_63)]; exact hZ) | (rw [if_neg (sp_b_0.mp c_63)]; exact hZ)⟩)
      · refine wt_aload_0 (pc := 66) hc dX3_number_66 ?_
        refine wt_gov (tw_inv (pc := 67) 0 hc hE (ct_goes hE n p hi2) dX3_number_67 rfl q1854 q1856 qs55 q116 q1857 (by decide +kernel) rfl (by decide) (by decide) (Nat.le_of_ble_eq_true rfl) rfl) (Nat.zero_le _) (Nat.zero_le _) ?_
        refine wt_iload_3 (pc := 70) hc dX3_number_70 ?_
        exact wt_iret (pc := 71) hc hok dX3_number_71 (rfl) (fun H hZ => ⟨rfl, by first | (rw [if_pos (sp_b_n0 c_63)]; exact hZ) | (rw [if_neg (sp_b_0.mp c_63)]; exact hZ)⟩)
    refine wt_aload_0 (pc := 0) hc dX3_number_0 ?_
    refine wt_gofn (tw_inv (pc := 1) 0 hc hE (ct_isGood hE) dX3_number_1 rfl q1868 q1870 qs57 q116 q1871 (by decide +kernel) rfl (by decide) (by decide) (Nat.le_of_ble_eq_true rfl) rfl) ?_
    refine wt_if_ne (pc := 4) 9 hc dX3_number_4 (by decide) (fun c_4 => ?_) (fun c_4 => ?_)
    · refine wt_aload_0 (pc := 9) hc dX3_number_9 ?_
      refine tw_get (pc := 10) 21 _ hc hE dX3_number_10 q1625 (by decide) (fun _ _ _ => rfl) rfl (rfl) ?_
      refine wt_iconst (pc := 13) (v := nI 2) hc dX3_number_13 (by decide) ?_
      refine wt_icmp_eq (pc := 14) 25 hc dX3_number_14 (by decide) (fun c_14 => ?_) (fun c_14 => ?_)
      · refine wt_aload_0 (pc := 25) hc dX3_number_25 ?_
        refine tw_get (pc := 26) 23 _ hc hE dX3_number_26 q1627 (by decide) (fun _ _ _ => rfl) rfl (rfl) ?_
        refine wt_iconst (pc := 29) (v := nI 4) hc dX3_number_29 (by decide) ?_
        refine wt_icmp_gt (pc := 30) 49 hc dX3_number_30 (by decide) (fun c_30 => ?_) (fun c_30 => ?_)
        · refine wt_aload_0 (pc := 49) hc dX3_number_49 ?_
          refine wt_iconst (pc := 50) (v := nI 2) hc dX3_number_50 (by decide) ?_
          refine wt_gov (tw_inv (pc := 51) 1 hc hE (ct_wrong hE _) dX3_number_51 rfl q1887 q1889 qs60 q116 q1890 (by decide +kernel) rfl (by decide) (by decide) (Nat.le_of_ble_eq_true rfl) rfl) (Nat.zero_le _) (Nat.zero_le _) ?_
          exact tail _ (by unfold rd_nchk; first | rw [if_neg c_14] | rw [if_pos c_14, if_neg (fun z => absurd c_30 (Int32.not_lt.mpr z.1))] | rw [if_pos c_14, if_neg (fun z => absurd c_38 (Int32.not_lt.mpr z.2.1))] | rw [if_pos c_14, if_neg (fun z => c_46 z.2.2)] | rw [if_pos c_14, if_pos ⟨Int32.not_lt.mp c_30, Int32.not_lt.mp c_38, c_46⟩])
        · refine wt_aload_0 (pc := 33) hc dX3_number_33 ?_
          refine tw_get (pc := 34) 24 _ hc hE dX3_number_34 q1628 (by decide) (fun _ _ _ => rfl) rfl (rfl) ?_
          refine wt_iload_1 (pc := 37) hc dX3_number_37 ?_
          refine wt_icmp_lt (pc := 38) 49 hc dX3_number_38 (by decide) (fun c_38 => ?_) (fun c_38 => ?_)
          · refine wt_aload_0 (pc := 49) hc dX3_number_49 ?_
            refine wt_iconst (pc := 50) (v := nI 2) hc dX3_number_50 (by decide) ?_
            refine wt_gov (tw_inv (pc := 51) 1 hc hE (ct_wrong hE _) dX3_number_51 rfl q1887 q1889 qs60 q116 q1890 (by decide +kernel) rfl (by decide) (by decide) (Nat.le_of_ble_eq_true rfl) rfl) (Nat.zero_le _) (Nat.zero_le _) ?_
            exact tail _ (by unfold rd_nchk; first | rw [if_neg c_14] | rw [if_pos c_14, if_neg (fun z => absurd c_30 (Int32.not_lt.mpr z.1))] | rw [if_pos c_14, if_neg (fun z => absurd c_38 (Int32.not_lt.mpr z.2.1))] | rw [if_pos c_14, if_neg (fun z => c_46 z.2.2)] | rw [if_pos c_14, if_pos ⟨Int32.not_lt.mp c_30, Int32.not_lt.mp c_38, c_46⟩])
          · refine wt_aload_0 (pc := 41) hc dX3_number_41 ?_
            refine tw_get (pc := 42) 24 _ hc hE dX3_number_42 q1628 (by decide) (fun _ _ _ => rfl) rfl (rfl) ?_
            refine wt_iload_2 (pc := 45) hc dX3_number_45 ?_
            refine wt_icmp_le (pc := 46) 54 hc dX3_number_46 (by decide) (fun c_46 => ?_) (fun c_46 => ?_)
            · exact tail _ (by unfold rd_nchk; first | rw [if_neg c_14] | rw [if_pos c_14, if_neg (fun z => absurd c_30 (Int32.not_lt.mpr z.1))] | rw [if_pos c_14, if_neg (fun z => absurd c_38 (Int32.not_lt.mpr z.2.1))] | rw [if_pos c_14, if_neg (fun z => c_46 z.2.2)] | rw [if_pos c_14, if_pos ⟨Int32.not_lt.mp c_30, Int32.not_lt.mp c_38, c_46⟩])
            · refine wt_aload_0 (pc := 49) hc dX3_number_49 ?_
              refine wt_iconst (pc := 50) (v := nI 2) hc dX3_number_50 (by decide) ?_
              refine wt_gov (tw_inv (pc := 51) 1 hc hE (ct_wrong hE _) dX3_number_51 rfl q1887 q1889 qs60 q116 q1890 (by decide +kernel) rfl (by decide) (by decide) (Nat.le_of_ble_eq_true rfl) rfl) (Nat.zero_le _) (Nat.zero_le _) ?_
              exact tail _ (by unfold rd_nchk; first | rw [if_neg c_14] | rw [if_pos c_14, if_neg (fun z => absurd c_30 (Int32.not_lt.mpr z.1))] | rw [if_pos c_14, if_neg (fun z => absurd c_38 (Int32.not_lt.mpr z.2.1))] | rw [if_pos c_14, if_neg (fun z => c_46 z.2.2)] | rw [if_pos c_14, if_pos ⟨Int32.not_lt.mp c_30, Int32.not_lt.mp c_38, c_46⟩])
      · refine wt_aload_0 (pc := 17) hc dX3_number_17 ?_
        refine wt_iconst (pc := 18) (v := nI 1) hc dX3_number_18 (by decide) ?_
        refine wt_gov (tw_inv (pc := 19) 1 hc hE (ct_wrong hE _) dX3_number_19 rfl q1887 q1889 qs60 q116 q1890 (by decide +kernel) rfl (by decide) (by decide) (Nat.le_of_ble_eq_true rfl) rfl) (Nat.zero_le _) (Nat.zero_le _) ?_
        refine wt_goto (pc := 22) 54 hc dX3_number_22 (by decide) ?_
        exact tail _ (by unfold rd_nchk; first | rw [if_neg c_14] | rw [if_pos c_14, if_neg (fun z => absurd c_30 (Int32.not_lt.mpr z.1))] | rw [if_pos c_14, if_neg (fun z => absurd c_38 (Int32.not_lt.mpr z.2.1))] | rw [if_pos c_14, if_neg (fun z => c_46 z.2.2)] | rw [if_pos c_14, if_pos ⟨Int32.not_lt.mp c_30, Int32.not_lt.mp c_38, c_46⟩])
    · exact absurd hg (sp_b_0.mp c_4)
  · rw [if_neg hg] at hok
    refine wt_aload_0 (pc := 0) hc dX3_number_0 ?_
    refine wt_gofn (tw_inv (pc := 1) 0 hc hE (ct_isGood hE) dX3_number_1 rfl q1868 q1870 qs57 q116 q1871 (by decide +kernel) rfl (by decide) (by decide) (Nat.le_of_ble_eq_true rfl) rfl) ?_
    refine wt_if_ne (pc := 4) 9 hc dX3_number_4 (by decide) (fun c_4 => ?_) (fun c_4 => ?_)
    · exact absurd (sp_b_n0 c_4) hg
    · refine wt_iconst (pc := 7) (v := nI 0) hc dX3_number_7 (by decide) ?_
      exact wt_iret (pc := 8) hc hok dX3_number_8 (rfl) (fun H hZ => ⟨rfl, hZ⟩)
theorem ct_roofHere (hE : tw_E G T) : wt_Ct l G yX3_roofHere cX3_roofHere 1 (some .int) 2 0 0 [.ref T.1] (tw_Z G T M w) (wt_fn (rd_rh M).1 (tw_Z G T (rd_rh M).2 w)) := by
  unfold rd_rh
  refine wt_enter [some (.ref T.1)] (by decide +kernel) rfl (Nat.le_of_ble_eq_true rfl) (fun X hc hok => ?_)
  by_cases hg : M 0 16 = 0
  · rw [if_pos hg] at hok
    have tail : ∀ A, A = rd_rchk M → wt_V G X 57 [some (.ref T.1)] [] (tw_Z G T A w) 0 0 := by
      intro A eA
      subst eA
      refine wt_aload_0 (pc := 57) hc dX3_roofHere_57 ?_
      refine wt_gofn (tw_inv (pc := 58) 0 hc hE (ct_isGood hE) dX3_roofHere_58 rfl q1868 q1870 qs57 q116 q1871 (by decide +kernel) rfl (by decide) (by decide) (Nat.le_of_ble_eq_true rfl) rfl) ?_
      refine wt_if_eq (pc := 61) 71 hc dX3_roofHere_61 (by decide) (fun c_61 => ?_) (fun c_61 => ?_)
      · refine wt_iconst (pc := 71) (v := nI 0) hc dX3_roofHere_71 (by decide) ?_
        exact wt_iret (pc := 72) hc hok dX3_roofHere_72 (rfl) (fun H hZ => ⟨by first | rw [if_pos (sp_b_n0 c_61)] | rw [if_neg (sp_b_0.mp c_61)], hZ⟩)
      · refine wt_aload_0 (pc := 64) hc dX3_roofHere_64 ?_
        refine tw_get (pc := 65) 24 (M 0 24) hc hE dX3_roofHere_65 q1628 (by decide) (fun _ _ _ => rfl) rfl (rd_rchk_at (by decide) (by decide)) ?_
        refine wt_goto (pc := 68) 72 hc dX3_roofHere_68 (by decide) ?_
        exact wt_iret (pc := 72) hc hok dX3_roofHere_72 (rfl) (fun H hZ => ⟨by first | rw [if_pos (sp_b_n0 c_61)] | rw [if_neg (sp_b_0.mp c_61)], hZ⟩)
    refine wt_aload_0 (pc := 0) hc dX3_roofHere_0 ?_
    refine wt_gofn (tw_inv (pc := 1) 0 hc hE (ct_isGood hE) dX3_roofHere_1 rfl q1868 q1870 qs57 q116 q1871 (by decide +kernel) rfl (by decide) (by decide) (Nat.le_of_ble_eq_true rfl) rfl) ?_
    refine wt_if_ne (pc := 4) 9 hc dX3_roofHere_4 (by decide) (fun c_4 => ?_) (fun c_4 => ?_)
    · refine wt_aload_0 (pc := 9) hc dX3_roofHere_9 ?_
      refine tw_get (pc := 10) 21 _ hc hE dX3_roofHere_10 q1625 (by decide) (fun _ _ _ => rfl) rfl (rfl) ?_
      refine wt_iconst (pc := 13) (v := nI 2) hc dX3_roofHere_13 (by decide) ?_
      refine wt_icmp_eq (pc := 14) 25 hc dX3_roofHere_14 (by decide) (fun c_14 => ?_) (fun c_14 => ?_)
      · refine wt_aload_0 (pc := 25) hc dX3_roofHere_25 ?_
        refine tw_get (pc := 26) 23 _ hc hE dX3_roofHere_26 q1627 (by decide) (fun _ _ _ => rfl) rfl (rfl) ?_
        refine wt_iconst (pc := 29) (v := nI 4) hc dX3_roofHere_29 (by decide) ?_
        refine wt_icmp_le (pc := 30) 41 hc dX3_roofHere_30 (by decide) (fun c_30 => ?_) (fun c_30 => ?_)
        · refine wt_aload_0 (pc := 41) hc dX3_roofHere_41 ?_
          refine tw_get (pc := 42) 24 _ hc hE dX3_roofHere_42 q1628 (by decide) (fun _ _ _ => rfl) rfl (rfl) ?_
          refine wt_aload_0 (pc := 45) hc dX3_roofHere_45 ?_
          refine tw_get (pc := 46) 27 _ hc hE dX3_roofHere_46 q1631 (by decide) (fun _ _ _ => rfl) rfl (rfl) ?_
          refine wt_icmp_lt (pc := 49) 57 hc dX3_roofHere_49 (by decide) (fun c_49 => ?_) (fun c_49 => ?_)
          · exact tail _ (by unfold rd_rchk; first | rw [if_neg c_14] | rw [if_pos c_14, if_neg c_30] | rw [if_pos c_14, if_pos c_30, if_pos c_49] | rw [if_pos c_14, if_pos c_30, if_neg c_49])
          · refine wt_aload_0 (pc := 52) hc dX3_roofHere_52 ?_
            refine wt_iconst (pc := 53) (v := nI 3) hc dX3_roofHere_53 (by decide) ?_
            refine wt_gov (tw_inv (pc := 54) 1 hc hE (ct_wrong hE _) dX3_roofHere_54 rfl q1887 q1889 qs60 q116 q1890 (by decide +kernel) rfl (by decide) (by decide) (Nat.le_of_ble_eq_true rfl) rfl) (Nat.zero_le _) (Nat.zero_le _) ?_
            exact tail _ (by unfold rd_rchk; first | rw [if_neg c_14] | rw [if_pos c_14, if_neg c_30] | rw [if_pos c_14, if_pos c_30, if_pos c_49] | rw [if_pos c_14, if_pos c_30, if_neg c_49])
        · refine wt_aload_0 (pc := 33) hc dX3_roofHere_33 ?_
          refine wt_iconst (pc := 34) (v := nI 2) hc dX3_roofHere_34 (by decide) ?_
          refine wt_gov (tw_inv (pc := 35) 1 hc hE (ct_wrong hE _) dX3_roofHere_35 rfl q1887 q1889 qs60 q116 q1890 (by decide +kernel) rfl (by decide) (by decide) (Nat.le_of_ble_eq_true rfl) rfl) (Nat.zero_le _) (Nat.zero_le _) ?_
          refine wt_goto (pc := 38) 57 hc dX3_roofHere_38 (by decide) ?_
          exact tail _ (by unfold rd_rchk; first | rw [if_neg c_14] | rw [if_pos c_14, if_neg c_30] | rw [if_pos c_14, if_pos c_30, if_pos c_49] | rw [if_pos c_14, if_pos c_30, if_neg c_49])
      · refine wt_aload_0 (pc := 17) hc dX3_roofHere_17 ?_
        refine wt_iconst (pc := 18) (v := nI 1) hc dX3_roofHere_18 (by decide) ?_
        refine wt_gov (tw_inv (pc := 19) 1 hc hE (ct_wrong hE _) dX3_roofHere_19 rfl q1887 q1889 qs60 q116 q1890 (by decide +kernel) rfl (by decide) (by decide) (Nat.le_of_ble_eq_true rfl) rfl) (Nat.zero_le _) (Nat.zero_le _) ?_
        refine wt_goto (pc := 22) 57 hc dX3_roofHere_22 (by decide) ?_
        exact tail _ (by unfold rd_rchk; first | rw [if_neg c_14] | rw [if_pos c_14, if_neg c_30] | rw [if_pos c_14, if_pos c_30, if_pos c_49] | rw [if_pos c_14, if_pos c_30, if_neg c_49])
    · exact absurd hg (sp_b_0.mp c_4)
  · rw [if_neg hg] at hok
    refine wt_aload_0 (pc := 0) hc dX3_roofHere_0 ?_
    refine wt_gofn (tw_inv (pc := 1) 0 hc hE (ct_isGood hE) dX3_roofHere_1 rfl q1868 q1870 qs57 q116 q1871 (by decide +kernel) rfl (by decide) (by decide) (Nat.le_of_ble_eq_true rfl) rfl) ?_
    refine wt_if_ne (pc := 4) 9 hc dX3_roofHere_4 (by decide) (fun c_4 => ?_) (fun c_4 => ?_)
    · exact absurd (sp_b_n0 c_4) hg
    · refine wt_iconst (pc := 7) (v := nI 0) hc dX3_roofHere_7 (by decide) ?_
      exact wt_iret (pc := 8) hc hok dX3_roofHere_8 (rfl) (fun H hZ => ⟨rfl, hZ⟩)
theorem ct_roofNext (hE : tw_E G T) (n p : Nat) (hi : rd_in M n p) : wt_Ct l G yX3_roofNext cX3_roofNext 2 (some .int) 3 0 0 [.ref T.1] (tw_Z G T M w) (wt_fn (rd_rn M w).1 (tw_Z G T (rd_rn M w).2.1 (rd_rn M w).2.2)) := by
  unfold rd_rn rd_ifgo
  have hi2 : rd_in (rd_rh M).2 n p := hi.of (rd_rh_at (by decide) (by decide)) (rd_rh_at (by decide) (by decide))
  refine wt_enter [some (.ref T.1), none] (by decide +kernel) rfl (Nat.le_of_ble_eq_true rfl) (fun X hc hok => ?_)
  refine wt_aload_0 (pc := 0) hc dX3_roofNext_0 ?_
  refine wt_gofn (tw_inv (pc := 1) 0 hc hE (ct_roofHere hE) dX3_roofNext_1 rfl q1903 q1905 qs64 q116 q1906 (by decide +kernel) rfl (by decide) (by decide) (Nat.le_of_ble_eq_true rfl) rfl) ?_
  refine wt_istore_1 (pc := 4) hc dX3_roofNext_4 rfl ?_
  refine wt_aload_0 (pc := 5) hc dX3_roofNext_5 ?_
  refine wt_gofn (tw_inv (pc := 6) 0 hc hE (ct_isGood hE) dX3_roofNext_6 rfl q1868 q1870 qs57 q116 q1871 (by decide +kernel) rfl (by decide) (by decide) (Nat.le_of_ble_eq_true rfl) rfl) ?_
  refine wt_if_eq (pc := 9) 16 hc dX3_roofNext_9 (by decide) (fun c_9 => ?_) (fun c_9 => ?_)
  · refine wt_iload_1 (pc := 16) hc dX3_roofNext_16 ?_
    exact wt_iret (pc := 17) hc hok dX3_roofNext_17 (rfl) (fun H hZ => ⟨rfl, by first | (rw [if_pos (sp_b_n0 c_9)]; exact hZ) | (rw [if_neg (sp_b_0.mp c_9)]; exact hZ)⟩)
  · refine wt_aload_0 (pc := 12) hc dX3_roofNext_12 ?_
    refine wt_gov (tw_inv (pc := 13) 0 hc hE (ct_goes hE n p hi2) dX3_roofNext_13 rfl q1854 q1856 qs55 q116 q1857 (by decide +kernel) rfl (by decide) (by decide) (Nat.le_of_ble_eq_true rfl) rfl) (Nat.zero_le _) (Nat.zero_le _) ?_
    refine wt_iload_1 (pc := 16) hc dX3_roofNext_16 ?_
    exact wt_iret (pc := 17) hc hok dX3_roofNext_17 (rfl) (fun H hZ => ⟨rfl, by first | (rw [if_pos (sp_b_n0 c_9)]; exact hZ) | (rw [if_neg (sp_b_0.mp c_9)]; exact hZ)⟩)
theorem ct_putsM (hE : tw_E G T) (v : Int32) (t : Nat) (ht : M 0 33 = nI t) (hl : t < 2800) : wt_Ct l G yX3_puts cX3_puts 2 none 1 0 0 [.ref T.1, .int v] (tw_Z G T M w) (wt_pv (tw_Z G T (rd_puts M v) w)) := by
  have h := ct_puts (l := l) (G := G) (M := M) (w := w) hE t v ht hl
  unfold rd_puts
  rw [ht, nn_nI (by omega)]
  exact h
theorem ct_waitsM (hE : tw_E G T) (v : Int32) (t : Nat) (ht : M 0 34 = nI t) (hl : t < 950) : wt_Ct l G yX3_waitsFor cX3_waitsFor 2 none 1 0 0 [.ref T.1, .int v] (tw_Z G T M w) (wt_pv (tw_Z G T (rd_waits M v) w)) := by
  have h := ct_waitsFor (l := l) (G := G) (M := M) (w := w) hE t v ht hl
  unfold rd_waits
  rw [ht, nn_nI (by omega)]
  exact h
theorem ct_drops (hE : tw_E G T) (m t : Nat) (hm : M 0 34 = nI m) (ht : M 0 33 = nI t) (hm9 : m < 950) (hl : t + m < 2800) (least : Int32) : wt_Ct l G yX3_drops cX3_drops 2 none 2 0 0 [.ref T.1, .int least] (tw_Z G T M w) (wt_pv (tw_Z G T (rd_drops M least) w)) := by
  unfold rd_drops
  rw [hm, nn_nI (by omega)]
  refine wt_enter [some (.ref T.1), some (.int least)] (by decide +kernel) rfl (Nat.le_of_ble_eq_true rfl) (fun X hc hok => ?_)
  have loop : ∀ (k : Nat) (A : wt_It) (t : Nat), A 0 34 = nI k → A 0 33 = nI t → k < 950 → t + k < 2800 → rd_dr least m M = rd_dr least k A → wt_V G X 0 [some (.ref T.1), some (.int least)] [] (tw_Z G T A w) 0 0 := by
    intro k
    induction k with
    | zero =>
      intro A t h34 h33 hk ht hv
      refine wt_aload_0 (pc := 0) hc dX3_drops_0 ?_
      refine tw_get (pc := 1) 34 (nI 0) hc hE dX3_drops_1 q1638 (by decide) (fun _ _ _ => rfl) rfl (h34) ?_
      refine wt_if_le (pc := 4) 68 hc dX3_drops_4 (by decide) (fun c_4 => ?_) (fun c_4 => ?_)
      · exact wt_vret (pc := 68) hc hok dX3_drops_68 (fun H hZ => ⟨rfl, by rw [hv]; exact hZ⟩)
      · exact absurd (by decide) c_4
    | succ k ih =>
      intro A t h34 h33 hk ht hv
      rw [rd_dr] at hv
      refine wt_aload_0 (pc := 0) hc dX3_drops_0 ?_
      refine tw_get (pc := 1) 34 (nI (k + 1)) hc hE dX3_drops_1 q1638 (by decide) (fun _ _ _ => rfl) rfl (h34) ?_
      refine wt_if_le (pc := 4) 68 hc dX3_drops_4 (by decide) (fun c_4 => ?_) (fun c_4 => ?_)
      · exact absurd c_4 (nI_nle (by omega) (by omega))
      · refine wt_aload_0 (pc := 7) hc dX3_drops_7 ?_
        refine tw_geta (pc := 8) 45 hc hE dX3_drops_8 q1649 (by decide) (by decide) (fun _ _ _ => rfl) rfl ?_
        refine wt_aload_0 (pc := 11) hc dX3_drops_11 ?_
        refine tw_get (pc := 12) 34 (nI (k + 1)) hc hE dX3_drops_12 q1638 (by decide) (fun _ _ _ => rfl) rfl (h34) ?_
        refine wt_iconst (pc := 15) (v := nI 1) hc dX3_drops_15 (by decide) ?_
        refine wt_isub (pc := 16) hc dX3_drops_16 ?_
        rw [show nI (k + 1) - nI 1 = nI k from nI_pred k]
        refine tw_iald (pc := 17) (k := 45) (k) _ hc hE dX3_drops_17 rfl (rfl) (by show _ < 950; omega) (by decide) (rfl) ?_
        refine wt_gofn (wt_invS (pc := 18) 1 hc (ct_isOpen _) dX3_drops_18 rfl q1947 q1948 q116 q1949 (by decide +kernel) rfl (by decide) (by decide) (Nat.le_of_ble_eq_true rfl) rfl) ?_
        refine wt_if_ne (pc := 21) 68 hc dX3_drops_21 (by decide) (fun c_21 => ?_) (fun c_21 => ?_)
        · exact wt_vret (pc := 68) hc hok dX3_drops_68 (fun H hZ => ⟨rfl, by first | (rw [hv, if_pos (sp_b_n0 c_21)]; exact hZ) | (rw [hv, if_neg (sp_b_0.mp c_21), if_pos c_39]; exact hZ)⟩)
        · refine wt_aload_0 (pc := 24) hc dX3_drops_24 ?_
          refine tw_geta (pc := 25) 45 hc hE dX3_drops_25 q1649 (by decide) (by decide) (fun _ _ _ => rfl) rfl ?_
          refine wt_aload_0 (pc := 28) hc dX3_drops_28 ?_
          refine tw_get (pc := 29) 34 (nI (k + 1)) hc hE dX3_drops_29 q1638 (by decide) (fun _ _ _ => rfl) rfl (h34) ?_
          refine wt_iconst (pc := 32) (v := nI 1) hc dX3_drops_32 (by decide) ?_
          refine wt_isub (pc := 33) hc dX3_drops_33 ?_
          rw [show nI (k + 1) - nI 1 = nI k from nI_pred k]
          refine tw_iald (pc := 34) (k := 45) (k) _ hc hE dX3_drops_34 rfl (rfl) (by show _ < 950; omega) (by decide) (rfl) ?_
          refine wt_gofn (wt_invS (pc := 35) 1 hc (ct_strength _) dX3_drops_35 rfl q1950 q1951 q116 q1952 (by decide +kernel) rfl (by decide) (by decide) (Nat.le_of_ble_eq_true rfl) rfl) ?_
          refine wt_iload_1 (pc := 38) hc dX3_drops_38 ?_
          refine wt_icmp_lt (pc := 39) 68 hc dX3_drops_39 (by decide) (fun c_39 => ?_) (fun c_39 => ?_)
          · exact wt_vret (pc := 68) hc hok dX3_drops_68 (fun H hZ => ⟨rfl, by first | (rw [hv, if_pos (sp_b_n0 c_21)]; exact hZ) | (rw [hv, if_neg (sp_b_0.mp c_21), if_pos c_39]; exact hZ)⟩)
          · refine wt_aload_0 (pc := 42) hc dX3_drops_42 ?_
            refine wt_dup (pc := 43) hc dX3_drops_43 rfl ?_
            refine tw_get (pc := 44) 34 (nI (k + 1)) hc hE dX3_drops_44 q1638 (by decide) (fun _ _ _ => rfl) rfl (h34) ?_
            refine wt_iconst (pc := 47) (v := nI 1) hc dX3_drops_47 (by decide) ?_
            refine wt_isub (pc := 48) hc dX3_drops_48 ?_
            rw [show nI (k + 1) - nI 1 = nI k from nI_pred k]
            refine tw_put (pc := 49) 34 hc hE dX3_drops_49 q1638 (by decide) (fun _ _ _ => rfl) rfl rfl (rfl) rfl ?_
            refine wt_aload_0 (pc := 52) hc dX3_drops_52 ?_
            refine wt_aload_0 (pc := 53) hc dX3_drops_53 ?_
            refine tw_geta (pc := 54) 45 hc hE dX3_drops_54 q1649 (by decide) (by decide) (fun _ _ _ => rfl) rfl ?_
            refine wt_aload_0 (pc := 57) hc dX3_drops_57 ?_
            refine tw_get (pc := 58) 34 (nI k) hc hE dX3_drops_58 q1638 (by decide) (fun _ _ _ => rfl) rfl (rfl) ?_
            refine tw_iald (pc := 61) (k := 45) (k) _ hc hE dX3_drops_61 rfl (rfl) (by show _ < 950; omega) (by decide) (rfl) ?_
            refine wt_gov (tw_inv (pc := 62) 1 hc hE (ct_putsM hE _ t (by exact h33) (by omega)) dX3_drops_62 rfl q1939 q1941 qs73 q116 q1942 (by decide +kernel) rfl (by decide) (by decide) (Nat.le_of_ble_eq_true rfl) rfl) (Nat.zero_le _) (Nat.zero_le _) ?_
            refine wt_goto (pc := 65) 0 hc dX3_drops_65 (by decide) ?_
            (rw [if_neg (sp_b_0.mp c_21), if_neg c_39] at hv); exact ih _ (t + 1) (by unfold rd_puts; rfl) (by unfold rd_puts sp_puts; rw [wt_up2_self, show wt_up2 A 0 34 (nI k) 0 33 = nI t from h33, nn_nI (by omega)]) (by omega) (by omega) hv
  exact loop m M t hm ht hm9 hl rfl
theorem ct_deeper (hE : tw_E G T) (d : Nat) (hd : M 0 35 = nI d) (hd9 : d < 8) : wt_Ct l G yX3_deeper cX3_deeper 1 none 2 0 0 [.ref T.1] (tw_Z G T M w) (wt_pv (tw_Z G T (rd_deep M) w)) := by
  unfold rd_deep
  rw [hd, nI_add, nn_nI (by omega)]
  refine wt_enter [some (.ref T.1)] (by decide +kernel) rfl (Nat.le_of_ble_eq_true rfl) (fun X hc hok => ?_)
  refine wt_aload_0 (pc := 0) hc dX3_deeper_0 ?_
  refine tw_get (pc := 1) 35 (nI d) hc hE dX3_deeper_1 q1639 (by decide) (fun _ _ _ => rfl) rfl (hd) ?_
  refine wt_bipush (pc := 4) (v := nI 6) hc dX3_deeper_4 (by decide) ?_
  refine wt_nicmp_ge (pc := 6) 30 (d) (6) hc dX3_deeper_6 (by decide) (by omega) (by omega) (fun c_6 => ?_) (fun c_6 => ?_)
  · rw [if_pos (nI_le c_6 (by omega))] at hok
    refine wt_aload_0 (pc := 30) hc dX3_deeper_30 ?_
    refine wt_aload_0 (pc := 31) hc dX3_deeper_31 ?_
    refine tw_get (pc := 32) 21 _ hc hE dX3_deeper_32 q1625 (by decide) (fun _ _ _ => rfl) rfl (rfl) ?_
    refine wt_iconst (pc := 35) (v := nI 2) hc dX3_deeper_35 (by decide) ?_
    refine wt_icmp_eq (pc := 36) 56 hc dX3_deeper_36 (by decide) (fun c_36 => ?_) (fun c_36 => ?_)
    · refine wt_iconst (pc := 56) (v := nI 2) hc dX3_deeper_56 (by decide) ?_
      refine wt_goto (pc := 57) 61 hc dX3_deeper_57 (by decide) ?_
      refine wt_gov (tw_inv (pc := 61) 1 hc hE (ct_wrong hE _) dX3_deeper_61 rfl q1887 q1889 qs60 q116 q1890 (by decide +kernel) rfl (by decide) (by decide) (Nat.le_of_ble_eq_true rfl) rfl) (Nat.zero_le _) (Nat.zero_le _) ?_
      exact wt_vret (pc := 64) hc hok dX3_deeper_64 (fun H hZ => ⟨rfl, by first | (rw [if_pos c_36] at *; exact hZ) | (rw [if_neg c_36, if_pos c_44] at *; exact hZ) | (rw [if_neg c_36, if_neg c_44, if_pos (sp_b_n0 c_53)] at *; exact hZ) | (rw [if_neg c_36, if_neg c_44, if_neg (sp_b_0.mp c_53)] at *; exact hZ)⟩)
    · refine wt_aload_0 (pc := 39) hc dX3_deeper_39 ?_
      refine tw_get (pc := 40) 21 _ hc hE dX3_deeper_40 q1625 (by decide) (fun _ _ _ => rfl) rfl (rfl) ?_
      refine wt_iconst (pc := 43) (v := nI 1) hc dX3_deeper_43 (by decide) ?_
      refine wt_icmp_eq (pc := 44) 56 hc dX3_deeper_44 (by decide) (fun c_44 => ?_) (fun c_44 => ?_)
      · refine wt_iconst (pc := 56) (v := nI 2) hc dX3_deeper_56 (by decide) ?_
        refine wt_goto (pc := 57) 61 hc dX3_deeper_57 (by decide) ?_
        refine wt_gov (tw_inv (pc := 61) 1 hc hE (ct_wrong hE _) dX3_deeper_61 rfl q1887 q1889 qs60 q116 q1890 (by decide +kernel) rfl (by decide) (by decide) (Nat.le_of_ble_eq_true rfl) rfl) (Nat.zero_le _) (Nat.zero_le _) ?_
        exact wt_vret (pc := 64) hc hok dX3_deeper_64 (fun H hZ => ⟨rfl, by first | (rw [if_pos c_36] at *; exact hZ) | (rw [if_neg c_36, if_pos c_44] at *; exact hZ) | (rw [if_neg c_36, if_neg c_44, if_pos (sp_b_n0 c_53)] at *; exact hZ) | (rw [if_neg c_36, if_neg c_44, if_neg (sp_b_0.mp c_53)] at *; exact hZ)⟩)
      · refine wt_aload_0 (pc := 47) hc dX3_deeper_47 ?_
        refine wt_bipush (pc := 48) (v := nI 40) hc dX3_deeper_48 (by decide) ?_
        refine wt_gofn (tw_inv (pc := 50) 1 hc hE (ct_isSign hE _) dX3_deeper_50 rfl q1923 q1925 qs69 q116 q1926 (by decide +kernel) rfl (by decide) (by decide) (Nat.le_of_ble_eq_true rfl) rfl) ?_
        refine wt_if_eq (pc := 53) 60 hc dX3_deeper_53 (by decide) (fun c_53 => ?_) (fun c_53 => ?_)
        · refine wt_iconst (pc := 60) (v := nI 1) hc dX3_deeper_60 (by decide) ?_
          refine wt_gov (tw_inv (pc := 61) 1 hc hE (ct_wrong hE _) dX3_deeper_61 rfl q1887 q1889 qs60 q116 q1890 (by decide +kernel) rfl (by decide) (by decide) (Nat.le_of_ble_eq_true rfl) rfl) (Nat.zero_le _) (Nat.zero_le _) ?_
          exact wt_vret (pc := 64) hc hok dX3_deeper_64 (fun H hZ => ⟨rfl, by first | (rw [if_pos c_36] at *; exact hZ) | (rw [if_neg c_36, if_pos c_44] at *; exact hZ) | (rw [if_neg c_36, if_neg c_44, if_pos (sp_b_n0 c_53)] at *; exact hZ) | (rw [if_neg c_36, if_neg c_44, if_neg (sp_b_0.mp c_53)] at *; exact hZ)⟩)
        · refine wt_iconst (pc := 56) (v := nI 2) hc dX3_deeper_56 (by decide) ?_
          refine wt_goto (pc := 57) 61 hc dX3_deeper_57 (by decide) ?_
          refine wt_gov (tw_inv (pc := 61) 1 hc hE (ct_wrong hE _) dX3_deeper_61 rfl q1887 q1889 qs60 q116 q1890 (by decide +kernel) rfl (by decide) (by decide) (Nat.le_of_ble_eq_true rfl) rfl) (Nat.zero_le _) (Nat.zero_le _) ?_
          exact wt_vret (pc := 64) hc hok dX3_deeper_64 (fun H hZ => ⟨rfl, by first | (rw [if_pos c_36] at *; exact hZ) | (rw [if_neg c_36, if_pos c_44] at *; exact hZ) | (rw [if_neg c_36, if_neg c_44, if_pos (sp_b_n0 c_53)] at *; exact hZ) | (rw [if_neg c_36, if_neg c_44, if_neg (sp_b_0.mp c_53)] at *; exact hZ)⟩)
  · rw [if_neg (nI_ge (by omega) (by omega))] at hok
    refine wt_aload_0 (pc := 9) hc dX3_deeper_9 ?_
    refine wt_dup (pc := 10) hc dX3_deeper_10 rfl ?_
    refine tw_get (pc := 11) 35 (nI d) hc hE dX3_deeper_11 q1639 (by decide) (fun _ _ _ => rfl) rfl (hd) ?_
    refine wt_iconst (pc := 14) (v := nI 1) hc dX3_deeper_14 (by decide) ?_
    refine wt_iadd (pc := 15) hc dX3_deeper_15 ?_
    rw [nI_add d 1]
    refine tw_put (pc := 16) 35 hc hE dX3_deeper_16 q1639 (by decide) (fun _ _ _ => rfl) rfl rfl (rfl) rfl ?_
    refine wt_aload_0 (pc := 19) hc dX3_deeper_19 ?_
    refine tw_geta (pc := 20) 46 hc hE dX3_deeper_20 q1650 (by decide) (by decide) (fun _ _ _ => rfl) rfl ?_
    refine wt_aload_0 (pc := 23) hc dX3_deeper_23 ?_
    refine tw_get (pc := 24) 35 (nI (d + 1)) hc hE dX3_deeper_24 q1639 (by decide) (fun _ _ _ => rfl) rfl (rfl) ?_
    refine wt_iconst (pc := 27) (v := nI 0) hc dX3_deeper_27 (by decide) ?_
    refine tw_zast (pc := 28) (k := 46) (d + 1) hc hE dX3_deeper_28 rfl (rfl) (rfl) (by show _ < 9; omega) (by decide) ?_
    exact wt_vret (pc := 29) hc hok dX3_deeper_29 (fun H hZ => ⟨rfl, hZ⟩)
theorem ct_isOpened (hE : tw_E G T) (m : Nat) (hm : M 0 34 = nI m) (hm9 : m < 950) : wt_Ct l G yX3_isOpened cX3_isOpened 2 (some .boolean) 2 0 0 [.ref T.1] (tw_Z G T M w) (wt_fn (sp_i (rd_op M m)) (tw_Z G T M w)) := by
  refine wt_enter [some (.ref T.1), none] (by decide +kernel) rfl (Nat.le_of_ble_eq_true rfl) (fun X hc hok => ?_)
  have loop : ∀ k, k < 950 → rd_op M m = rd_op M k → wt_V G X 7 [some (.ref T.1), some (.int (sp_m1 k))] [] (tw_Z G T M w) 0 0 := by
    intro k
    induction k with
    | zero =>
      intro _ hv
      show wt_V G X 7 [some (.ref T.1), some (.int (-1))] [] (tw_Z G T M w) 0 0
      refine wt_iload_1 (pc := 7) hc dX3_isOpened_7 ?_
      refine wt_if_lt (pc := 8) 29 hc dX3_isOpened_8 (by decide) (fun c_8 => ?_) (fun c_8 => ?_)
      · refine wt_iload_1 (pc := 29) hc dX3_isOpened_29 ?_
        refine wt_if_lt (pc := 30) 37 hc dX3_isOpened_30 (by decide) (fun c_30 => ?_) (fun c_30 => ?_)
        · refine wt_iconst (pc := 37) (v := nI 0) hc dX3_isOpened_37 (by decide) ?_
          exact wt_iret (pc := 38) hc hok dX3_isOpened_38 (rfl) (fun H hZ => ⟨by rw [hv]; rfl, hZ⟩)
        · exact absurd (by decide) c_30
      · exact absurd (by decide) c_8
    | succ k ih =>
      intro hk hv
      rw [rd_op] at hv
      show wt_V G X 7 [some (.ref T.1), some (.int (nI k))] [] (tw_Z G T M w) 0 0
      refine wt_iload_1 (pc := 7) hc dX3_isOpened_7 ?_
      refine wt_if_lt (pc := 8) 29 hc dX3_isOpened_8 (by decide) (fun c_8 => ?_) (fun c_8 => ?_)
      · exact absurd c_8 (Int32.not_lt.mpr (nI_pos' (by omega)))
      · refine wt_aload_0 (pc := 11) hc dX3_isOpened_11 ?_
        refine tw_geta (pc := 12) 45 hc hE dX3_isOpened_12 q1649 (by decide) (by decide) (fun _ _ _ => rfl) rfl ?_
        refine wt_iload_1 (pc := 15) hc dX3_isOpened_15 ?_
        refine tw_iald (pc := 16) (k := 45) (k) _ hc hE dX3_isOpened_16 rfl (rfl) (by show _ < 950; omega) (by decide) (rfl) ?_
        refine wt_gofn (wt_invS (pc := 17) 1 hc (ct_isOpen _) dX3_isOpened_17 rfl q1947 q1948 q116 q1949 (by decide +kernel) rfl (by decide) (by decide) (Nat.le_of_ble_eq_true rfl) rfl) ?_
        refine wt_if_ne (pc := 20) 29 hc dX3_isOpened_20 (by decide) (fun c_20 => ?_) (fun c_20 => ?_)
        · refine wt_iload_1 (pc := 29) hc dX3_isOpened_29 ?_
          refine wt_if_lt (pc := 30) 37 hc dX3_isOpened_30 (by decide) (fun c_30 => ?_) (fun c_30 => ?_)
          · exact absurd c_30 (Int32.not_lt.mpr (nI_pos' (by omega)))
          · refine wt_iconst (pc := 33) (v := nI 1) hc dX3_isOpened_33 (by decide) ?_
            refine wt_goto (pc := 34) 38 hc dX3_isOpened_34 (by decide) ?_
            exact wt_iret (pc := 38) hc hok dX3_isOpened_38 (rfl) (fun H hZ => ⟨by rw [hv, if_pos (sp_b_n0 c_20)]; rfl, hZ⟩)
        · refine wt_iinc_1 (pc := 23) (v := sp_m1 k) hc dX3_isOpened_23 (sp_m1_dec k) rfl ?_
          refine wt_goto (pc := 26) 7 hc dX3_isOpened_26 (by decide) ?_
          rw [if_neg (sp_b_0.mp c_20)] at hv; exact ih (by omega) hv
  have e : nI m - nI 1 = sp_m1 m := by
    cases m with
    | zero => decide
    | succ m => exact nI_pred m
  refine wt_aload_0 (pc := 0) hc dX3_isOpened_0 ?_
  refine tw_get (pc := 1) 34 (nI m) hc hE dX3_isOpened_1 q1638 (by decide) (fun _ _ _ => rfl) rfl (hm) ?_
  refine wt_iconst (pc := 4) (v := nI 1) hc dX3_isOpened_4 (by decide) ?_
  refine wt_isub (pc := 5) hc dX3_isOpened_5 ?_
  rw [e]
  refine wt_istore_1 (pc := 6) hc dX3_isOpened_6 rfl ?_
  exact loop m hm9 rfl
theorem rd_putsR (M : wt_It) (v : Int32) : rd_puts M v = wt_up2 (wt_up2 M 44 (nn (M 0 33)) v) 0 33 (nI (nn (M 0 33) + 1)) := rfl
theorem ct_part (hE : tw_E G T) (n p t : Nat) (hi : rd_in M n p) (ht : M 0 33 = nI t) (hl : t + 2 < 2800) : wt_Ct l G yX3_part cX3_part 2 none 4 0 0 [.ref T.1] (tw_Z G T M w) (wt_pv (tw_Z G T (rd_part M w).1 (rd_part M w).2)) := by
  unfold rd_part
  refine wt_enter [some (.ref T.1), none] (by decide +kernel) rfl (Nat.le_of_ble_eq_true rfl) (fun X hc hok => ?_)
  by_cases hg : M 0 16 = 0
  · rw [if_pos hg] at hok
    have tail : ∀ (A : wt_It) (x : Option Value), A = rd_pt M w → rd_in A n p → wt_V G X 91 [some (.ref T.1), x] [] (tw_Z G T A w) 0 0 := by
      intro A x eA hi2
      subst eA
      unfold rd_ifgo at hok
      refine wt_drop (L' := [some (.ref T.1), none]) ?_ ⟨rfl, trivial⟩
      refine wt_aload_0 (pc := 91) hc dX3_part_91 ?_
      refine wt_gofn (tw_inv (pc := 92) 0 hc hE (ct_isGood hE) dX3_part_92 rfl q1868 q1870 qs57 q116 q1871 (by decide +kernel) rfl (by decide) (by decide) (Nat.le_of_ble_eq_true rfl) rfl) ?_
      refine wt_if_eq (pc := 95) 102 hc dX3_part_95 (by decide) (fun c_95 => ?_) (fun c_95 => ?_)
      · exact wt_vret (pc := 102) hc hok dX3_part_102 (fun H hZ => ⟨rfl, by first | (rw [if_pos (sp_b_n0 c_95)]; exact hZ) | (rw [if_neg (sp_b_0.mp c_95)]; exact hZ)⟩)
      · refine wt_aload_0 (pc := 98) hc dX3_part_98 ?_
        refine wt_gov (tw_inv (pc := 99) 0 hc hE (ct_goes hE n p hi2) dX3_part_99 rfl q1854 q1856 qs55 q116 q1857 (by decide +kernel) rfl (by decide) (by decide) (Nat.le_of_ble_eq_true rfl) rfl) (Nat.zero_le _) (Nat.zero_le _) ?_
        exact wt_vret (pc := 102) hc hok dX3_part_102 (fun H hZ => ⟨rfl, by first | (rw [if_pos (sp_b_n0 c_95)]; exact hZ) | (rw [if_neg (sp_b_0.mp c_95)]; exact hZ)⟩)
    have two : ∀ (A : wt_It) (a b : Int32), A 0 33 = nI t → rd_in A n p → rd_puts A a 0 33 = nI (t + 1) ∧ rd_in (rd_puts (rd_puts A a) b) n p := by
      intro A a b h33 hA
      have e1 : rd_puts A a 0 33 = nI (t + 1) := by rw [rd_putsR, wt_up2_self, h33, nn_nI (by omega)]
      exact ⟨e1, hA⟩
    have hwr : ∀ k, sp_wrong M k 0 33 = nI t := fun k => (sp_wrong_at (by decide) (by decide)).trans ht
    refine wt_aload_0 (pc := 0) hc dX3_part_0 ?_
    refine wt_gofn (tw_inv (pc := 1) 0 hc hE (ct_isGood hE) dX3_part_1 rfl q1868 q1870 qs57 q116 q1871 (by decide +kernel) rfl (by decide) (by decide) (Nat.le_of_ble_eq_true rfl) rfl) ?_
    refine wt_if_ne (pc := 4) 8 hc dX3_part_4 (by decide) (fun c_4 => ?_) (fun c_4 => ?_)
    · refine wt_aload_0 (pc := 8) hc dX3_part_8 ?_
      refine tw_get (pc := 9) 21 _ hc hE dX3_part_9 q1625 (by decide) (fun _ _ _ => rfl) rfl (rfl) ?_
      refine wt_iconst (pc := 12) (v := nI 2) hc dX3_part_12 (by decide) ?_
      refine wt_icmp_ne (pc := 13) 45 hc dX3_part_13 (by decide) (fun c_13 => ?_) (fun c_13 => ?_)
      · refine wt_aload_0 (pc := 45) hc dX3_part_45 ?_
        refine tw_get (pc := 46) 21 _ hc hE dX3_part_46 q1625 (by decide) (fun _ _ _ => rfl) rfl (rfl) ?_
        refine wt_iconst (pc := 49) (v := nI 1) hc dX3_part_49 (by decide) ?_
        refine wt_icmp_ne (pc := 50) 86 hc dX3_part_50 (by decide) (fun c_50 => ?_) (fun c_50 => ?_)
        · refine wt_aload_0 (pc := 86) hc dX3_part_86 ?_
          refine wt_iconst (pc := 87) (v := nI 1) hc dX3_part_87 (by decide) ?_
          refine wt_gov (tw_inv (pc := 88) 1 hc hE (ct_wrong hE _) dX3_part_88 rfl q1887 q1889 qs60 q116 q1890 (by decide +kernel) rfl (by decide) (by decide) (Nat.le_of_ble_eq_true rfl) rfl) (Nat.zero_le _) (Nat.zero_le _) ?_
          exact tail _ _ (by unfold rd_pt; rw [if_neg c_13, if_neg c_50]) (hi.wrong _)
        · refine wt_aload_0 (pc := 53) hc dX3_part_53 ?_
          refine wt_gofn (tw_inv (pc := 54) 0 hc hE (ct_knownWord hE) dX3_part_54 rfl q1876 q1878 qs59 q116 q1879 (by decide +kernel) rfl (by decide) (by decide) (Nat.le_of_ble_eq_true rfl) rfl) ?_
          refine wt_istore_1 (pc := 57) hc dX3_part_57 rfl ?_
          have fin : ∀ A : wt_It, A 0 33 = nI t → rd_in A n p → rd_puts (rd_puts A (nI 2)) (sp_kw M w) = rd_pt M w → wt_V G X 73 [some (.ref T.1), some (.int (sp_kw M w))] [] (tw_Z G T A w) 0 0 := by
            intro A h33 hA hv
            obtain ⟨e1, e2⟩ := two A (nI 2) (sp_kw M w) h33 hA
            refine wt_aload_0 (pc := 73) hc dX3_part_73 ?_
            refine wt_iconst (pc := 74) (v := nI 2) hc dX3_part_74 (by decide) ?_
            refine wt_gov (tw_inv (pc := 75) 1 hc hE (ct_putsM hE _ t h33 (by omega)) dX3_part_75 rfl q1939 q1941 qs73 q116 q1942 (by decide +kernel) rfl (by decide) (by decide) (Nat.le_of_ble_eq_true rfl) rfl) (Nat.zero_le _) (Nat.zero_le _) ?_
            refine wt_aload_0 (pc := 78) hc dX3_part_78 ?_
            refine wt_iload_1 (pc := 79) hc dX3_part_79 ?_
            refine wt_gov (tw_inv (pc := 80) 1 hc hE (ct_putsM hE _ (t + 1) e1 (by omega)) dX3_part_80 rfl q1939 q1941 qs73 q116 q1942 (by decide +kernel) rfl (by decide) (by decide) (Nat.le_of_ble_eq_true rfl) rfl) (Nat.zero_le _) (Nat.zero_le _) ?_
            refine wt_goto (pc := 83) 91 hc dX3_part_83 (by decide) ?_
            exact tail _ _ hv e2
          refine wt_iload_1 (pc := 58) hc dX3_part_58 ?_
          refine wt_if_lt (pc := 59) 68 hc dX3_part_59 (by decide) (fun c_59 => ?_) (fun c_59 => ?_)
          · refine wt_aload_0 (pc := 68) hc dX3_part_68 ?_
            refine wt_iconst (pc := 69) (v := nI 3) hc dX3_part_69 (by decide) ?_
            refine wt_gov (tw_inv (pc := 70) 1 hc hE (ct_wrong hE _) dX3_part_70 rfl q1887 q1889 qs60 q116 q1890 (by decide +kernel) rfl (by decide) (by decide) (Nat.le_of_ble_eq_true rfl) rfl) (Nat.zero_le _) (Nat.zero_le _) ?_
            first | exact fin _ (hwr _) (hi.wrong _) (by unfold rd_pt; rw [if_neg c_13, if_pos c_50, if_pos c_59]) | exact fin _ ht hi (by unfold rd_pt; rw [if_neg c_13, if_pos c_50, if_neg c_59, if_pos c_65]) | exact fin _ (hwr _) (hi.wrong _) (by unfold rd_pt; rw [if_neg c_13, if_pos c_50, if_neg c_59, if_neg c_65])
          · refine wt_iload_1 (pc := 62) hc dX3_part_62 ?_
            refine wt_bipush (pc := 63) (v := nI 6) hc dX3_part_63 (by decide) ?_
            refine wt_icmp_le (pc := 65) 73 hc dX3_part_65 (by decide) (fun c_65 => ?_) (fun c_65 => ?_)
            · first | exact fin _ (hwr _) (hi.wrong _) (by unfold rd_pt; rw [if_neg c_13, if_pos c_50, if_pos c_59]) | exact fin _ ht hi (by unfold rd_pt; rw [if_neg c_13, if_pos c_50, if_neg c_59, if_pos c_65]) | exact fin _ (hwr _) (hi.wrong _) (by unfold rd_pt; rw [if_neg c_13, if_pos c_50, if_neg c_59, if_neg c_65])
            · refine wt_aload_0 (pc := 68) hc dX3_part_68 ?_
              refine wt_iconst (pc := 69) (v := nI 3) hc dX3_part_69 (by decide) ?_
              refine wt_gov (tw_inv (pc := 70) 1 hc hE (ct_wrong hE _) dX3_part_70 rfl q1887 q1889 qs60 q116 q1890 (by decide +kernel) rfl (by decide) (by decide) (Nat.le_of_ble_eq_true rfl) rfl) (Nat.zero_le _) (Nat.zero_le _) ?_
              first | exact fin _ (hwr _) (hi.wrong _) (by unfold rd_pt; rw [if_neg c_13, if_pos c_50, if_pos c_59]) | exact fin _ ht hi (by unfold rd_pt; rw [if_neg c_13, if_pos c_50, if_neg c_59, if_pos c_65]) | exact fin _ (hwr _) (hi.wrong _) (by unfold rd_pt; rw [if_neg c_13, if_pos c_50, if_neg c_59, if_neg c_65])
      · have fin : ∀ A : wt_It, A 0 33 = nI t → rd_in A n p → A 0 24 = M 0 24 → rd_puts (rd_puts A (nI 1)) (M 0 24) = rd_pt M w → wt_V G X 29 [some (.ref T.1), none] [] (tw_Z G T A w) 0 0 := by
          intro A h33 hA h24 hv
          obtain ⟨e1, e2⟩ := two A (nI 1) (M 0 24) h33 hA
          refine wt_aload_0 (pc := 29) hc dX3_part_29 ?_
          refine wt_iconst (pc := 30) (v := nI 1) hc dX3_part_30 (by decide) ?_
          refine wt_gov (tw_inv (pc := 31) 1 hc hE (ct_putsM hE _ t h33 (by omega)) dX3_part_31 rfl q1939 q1941 qs73 q116 q1942 (by decide +kernel) rfl (by decide) (by decide) (Nat.le_of_ble_eq_true rfl) rfl) (Nat.zero_le _) (Nat.zero_le _) ?_
          refine wt_aload_0 (pc := 34) hc dX3_part_34 ?_
          refine wt_aload_0 (pc := 35) hc dX3_part_35 ?_
          refine tw_get (pc := 36) 24 (M 0 24) hc hE dX3_part_36 q1628 (by decide) (fun _ _ _ => rfl) rfl (h24) ?_
          refine wt_gov (tw_inv (pc := 39) 1 hc hE (ct_putsM hE _ (t + 1) e1 (by omega)) dX3_part_39 rfl q1939 q1941 qs73 q116 q1942 (by decide +kernel) rfl (by decide) (by decide) (Nat.le_of_ble_eq_true rfl) rfl) (Nat.zero_le _) (Nat.zero_le _) ?_
          refine wt_goto (pc := 42) 91 hc dX3_part_42 (by decide) ?_
          exact tail _ _ hv e2
        refine wt_aload_0 (pc := 16) hc dX3_part_16 ?_
        refine tw_get (pc := 17) 23 _ hc hE dX3_part_17 q1627 (by decide) (fun _ _ _ => rfl) rfl (rfl) ?_
        refine wt_iconst (pc := 20) (v := nI 4) hc dX3_part_20 (by decide) ?_
        refine wt_icmp_le (pc := 21) 29 hc dX3_part_21 (by decide) (fun c_21 => ?_) (fun c_21 => ?_)
        · first | exact fin _ ht hi rfl (by unfold rd_pt; rw [if_pos c_13, if_pos c_21]) | exact fin _ (hwr _) (hi.wrong _) (sp_wrong_at (by decide) (by decide)) (by unfold rd_pt; rw [if_pos c_13, if_neg c_21])
        · refine wt_aload_0 (pc := 24) hc dX3_part_24 ?_
          refine wt_iconst (pc := 25) (v := nI 2) hc dX3_part_25 (by decide) ?_
          refine wt_gov (tw_inv (pc := 26) 1 hc hE (ct_wrong hE _) dX3_part_26 rfl q1887 q1889 qs60 q116 q1890 (by decide +kernel) rfl (by decide) (by decide) (Nat.le_of_ble_eq_true rfl) rfl) (Nat.zero_le _) (Nat.zero_le _) ?_
          first | exact fin _ ht hi rfl (by unfold rd_pt; rw [if_pos c_13, if_pos c_21]) | exact fin _ (hwr _) (hi.wrong _) (sp_wrong_at (by decide) (by decide)) (by unfold rd_pt; rw [if_pos c_13, if_neg c_21])
    · exact absurd hg (sp_b_0.mp c_4)
  · rw [if_neg hg] at hok
    refine wt_aload_0 (pc := 0) hc dX3_part_0 ?_
    refine wt_gofn (tw_inv (pc := 1) 0 hc hE (ct_isGood hE) dX3_part_1 rfl q1868 q1870 qs57 q116 q1871 (by decide +kernel) rfl (by decide) (by decide) (Nat.le_of_ble_eq_true rfl) rfl) ?_
    refine wt_if_ne (pc := 4) 8 hc dX3_part_4 (by decide) (fun c_4 => ?_) (fun c_4 => ?_)
    · exact absurd (sp_b_n0 c_4) hg
    · exact wt_vret (pc := 7) hc hok dX3_part_7 (fun H hZ => ⟨rfl, hZ⟩)
end TR
