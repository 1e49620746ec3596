/-! THE REFERENCE: checks, small steps -/
set_option maxRecDepth 100000
section TB
variable {l : Launch} {G : wt_G} {Z : Heap → Prop} {T : tw_T} {M : wt_It} {w : Int64}
theorem ct_right0 (hE : tw_E G T) (h0 : M 0 0 = 0) (is what : Int32) : wt_Ct l G yX3_right cX3_right 3 (some .boolean) 1 0 0 [.ref T.1, .int is, .int what] (tw_Z G T M w) (wt_fn (sp_b (¬ is = 0 ∨ what = 0)) (tw_Z G T (if is = 0 then wt_up2 M 0 0 what else M) w)) := by
  refine wt_enter [some (.ref T.1), some (.int is), some (.int what)] (by decide +kernel) rfl (Nat.le_of_ble_eq_true rfl) (fun X hc hok => ?_)
  refine wt_aload_0 (pc := 0) hc dX3_right_0 ?_
  refine tw_get (pc := 1) 0 _ hc hE dX3_right_1 q1604 (by decide) (fun _ _ _ => rfl) rfl (rfl) ?_
  refine wt_if_ne (pc := 4) 16 hc dX3_right_4 (by decide) (fun c_4 => ?_) (fun c_4 => ?_)
  · exact absurd h0 c_4
  · refine wt_iload_1 (pc := 7) hc dX3_right_7 ?_
    refine wt_if_ne (pc := 8) 16 hc dX3_right_8 (by decide) (fun c_8 => ?_) (fun c_8 => ?_)
    · refine wt_aload_0 (pc := 16) hc dX3_right_16 ?_
      refine tw_get (pc := 17) 0 _ hc hE dX3_right_17 q1604 (by decide) (fun _ _ _ => rfl) rfl (rfl) ?_
      refine wt_if_ne (pc := 20) 27 hc dX3_right_20 (by decide) (fun c_20 => ?_) (fun c_20 => ?_)
      · refine wt_iconst (pc := 27) (v := nI 0) hc dX3_right_27 (by decide) ?_
        exact wt_iret (pc := 28) hc hok dX3_right_28 (rfl) (fun H hZ => by first | (rw [if_pos c_8]; first | exact sp_fnT (Or.inr c_20) hZ | exact sp_fnF (fun z => z.elim (fun q => q c_8) c_20) hZ) | (rw [if_neg c_8]; first | exact sp_fnT (Or.inl c_8) hZ | exact absurd h0 c_20))
      · refine wt_iconst (pc := 23) (v := nI 1) hc dX3_right_23 (by decide) ?_
        refine wt_goto (pc := 24) 28 hc dX3_right_24 (by decide) ?_
        exact wt_iret (pc := 28) hc hok dX3_right_28 (rfl) (fun H hZ => by first | (rw [if_pos c_8]; first | exact sp_fnT (Or.inr c_20) hZ | exact sp_fnF (fun z => z.elim (fun q => q c_8) c_20) hZ) | (rw [if_neg c_8]; first | exact sp_fnT (Or.inl c_8) hZ | exact absurd h0 c_20))
    · refine wt_aload_0 (pc := 11) hc dX3_right_11 ?_
      refine wt_iload_2 (pc := 12) hc dX3_right_12 ?_
      refine tw_put (pc := 13) 0 hc hE dX3_right_13 q1604 (by decide) (fun _ _ _ => rfl) rfl rfl (rfl) rfl ?_
      refine wt_aload_0 (pc := 16) hc dX3_right_16 ?_
      refine tw_get (pc := 17) 0 _ hc hE dX3_right_17 q1604 (by decide) (fun _ _ _ => rfl) rfl (rfl) ?_
      refine wt_if_ne (pc := 20) 27 hc dX3_right_20 (by decide) (fun c_20 => ?_) (fun c_20 => ?_)
      · refine wt_iconst (pc := 27) (v := nI 0) hc dX3_right_27 (by decide) ?_
        exact wt_iret (pc := 28) hc hok dX3_right_28 (rfl) (fun H hZ => by first | (rw [if_pos c_8]; first | exact sp_fnT (Or.inr c_20) hZ | exact sp_fnF (fun z => z.elim (fun q => q c_8) c_20) hZ) | (rw [if_neg c_8]; first | exact sp_fnT (Or.inl c_8) hZ | exact absurd h0 c_20))
      · refine wt_iconst (pc := 23) (v := nI 1) hc dX3_right_23 (by decide) ?_
        refine wt_goto (pc := 24) 28 hc dX3_right_24 (by decide) ?_
        exact wt_iret (pc := 28) hc hok dX3_right_28 (rfl) (fun H hZ => by first | (rw [if_pos c_8]; first | exact sp_fnT (Or.inr c_20) hZ | exact sp_fnF (fun z => z.elim (fun q => q c_8) c_20) hZ) | (rw [if_neg c_8]; first | exact sp_fnT (Or.inl c_8) hZ | exact absurd h0 c_20))
theorem sp_chk {G : wt_G} {T : tw_T} {M : wt_It} {w : Int64} {c : Prop} [Decidable c] {n : Int32} {b : Int32} (hn : ¬ n = 0) (hb : c ∧ b = 1 ∨ ¬ c ∧ b = 0) {v : Option Value} {H : Heap} (h : wt_fn (sp_b (¬ b = 0 ∨ n = 0)) (tw_Z G T (if b = 0 then wt_up2 M 0 0 n else M) w) v H) : wt_fn (sp_b c) (tw_Z G T (if c then M else wt_up2 M 0 0 n) w) v H := by
  rcases hb with ⟨h1, rfl⟩ | ⟨h1, rfl⟩
  · rw [if_pos h1, sp_b_t h1]
    rw [if_neg (by decide), sp_b_t (Or.inl (by decide))] at h
    exact h
  · rw [if_neg h1, sp_b_f h1]
    rw [if_pos rfl, sp_b_f (by intro z; rcases z with z | z; exact z rfl; exact hn z)] at h
    exact h
theorem ct_isRoof (hE : tw_E G T) (h0 : M 0 0 = 0) (r : Int32) : wt_Ct l G yX3_isRoof cX3_isRoof 2 (some .boolean) 2 0 0 [.ref T.1, .int r] (tw_Z G T M w) (wt_fn (sp_b (0 ≤ r ∧ r < M 0 1)) (tw_Z G T (if 0 ≤ r ∧ r < M 0 1 then M else wt_up2 M 0 0 1) w)) := by
  refine wt_enter [some (.ref T.1), some (.int r)] (by decide +kernel) rfl (Nat.le_of_ble_eq_true rfl) (fun X hc hok => ?_)
  refine wt_aload_0 (pc := 0) hc dX3_isRoof_0 ?_
  refine wt_iload_1 (pc := 1) hc dX3_isRoof_1 ?_
  refine wt_if_lt (pc := 2) 17 hc dX3_isRoof_2 (by decide) (fun c_2 => ?_) (fun c_2 => ?_)
  · refine wt_iconst (pc := 17) (v := nI 0) hc dX3_isRoof_17 (by decide) ?_
    refine wt_iconst (pc := 18) (v := nI 1) hc dX3_isRoof_18 (by decide) ?_
    refine wt_gofn (tw_inv (pc := 19) 2 hc hE (ct_right0 hE h0 _ _) dX3_isRoof_19 rfl q1850 q1852 qs54 q116 q1853 (by decide +kernel) rfl (by decide) (by decide) (Nat.le_of_ble_eq_true rfl) rfl) ?_
    exact wt_iret (pc := 22) hc hok dX3_isRoof_22 (rfl) (fun H hZ => sp_chk (by decide) (by first | exact Or.inl ⟨⟨Int32.not_lt.mp c_2, Int32.not_le.mp c_10⟩, rfl⟩ | exact Or.inr ⟨fun z => absurd c_2 (Int32.not_lt.mpr z.1), rfl⟩ | exact Or.inr ⟨fun z => absurd c_10 (Int32.not_le.mpr z.2), rfl⟩) ⟨rfl, hZ⟩)
  · refine wt_iload_1 (pc := 5) hc dX3_isRoof_5 ?_
    refine wt_aload_0 (pc := 6) hc dX3_isRoof_6 ?_
    refine tw_get (pc := 7) 1 _ hc hE dX3_isRoof_7 q1605 (by decide) (fun _ _ _ => rfl) rfl (rfl) ?_
    refine wt_icmp_ge (pc := 10) 17 hc dX3_isRoof_10 (by decide) (fun c_10 => ?_) (fun c_10 => ?_)
    · refine wt_iconst (pc := 17) (v := nI 0) hc dX3_isRoof_17 (by decide) ?_
      refine wt_iconst (pc := 18) (v := nI 1) hc dX3_isRoof_18 (by decide) ?_
      refine wt_gofn (tw_inv (pc := 19) 2 hc hE (ct_right0 hE h0 _ _) dX3_isRoof_19 rfl q1850 q1852 qs54 q116 q1853 (by decide +kernel) rfl (by decide) (by decide) (Nat.le_of_ble_eq_true rfl) rfl) ?_
      exact wt_iret (pc := 22) hc hok dX3_isRoof_22 (rfl) (fun H hZ => sp_chk (by decide) (by first | exact Or.inl ⟨⟨Int32.not_lt.mp c_2, Int32.not_le.mp c_10⟩, rfl⟩ | exact Or.inr ⟨fun z => absurd c_2 (Int32.not_lt.mpr z.1), rfl⟩ | exact Or.inr ⟨fun z => absurd c_10 (Int32.not_le.mpr z.2), rfl⟩) ⟨rfl, hZ⟩)
    · refine wt_iconst (pc := 13) (v := nI 1) hc dX3_isRoof_13 (by decide) ?_
      refine wt_goto (pc := 14) 18 hc dX3_isRoof_14 (by decide) ?_
      refine wt_iconst (pc := 18) (v := nI 1) hc dX3_isRoof_18 (by decide) ?_
      refine wt_gofn (tw_inv (pc := 19) 2 hc hE (ct_right0 hE h0 _ _) dX3_isRoof_19 rfl q1850 q1852 qs54 q116 q1853 (by decide +kernel) rfl (by decide) (by decide) (Nat.le_of_ble_eq_true rfl) rfl) ?_
      exact wt_iret (pc := 22) hc hok dX3_isRoof_22 (rfl) (fun H hZ => sp_chk (by decide) (by first | exact Or.inl ⟨⟨Int32.not_lt.mp c_2, Int32.not_le.mp c_10⟩, rfl⟩ | exact Or.inr ⟨fun z => absurd c_2 (Int32.not_lt.mpr z.1), rfl⟩ | exact Or.inr ⟨fun z => absurd c_10 (Int32.not_le.mpr z.2), rfl⟩) ⟨rfl, hZ⟩)
theorem ct_isOwl (hE : tw_E G T) (h0 : M 0 0 = 0) (r : Int32) : wt_Ct l G yX3_isOwl cX3_isOwl 2 (some .boolean) 2 0 0 [.ref T.1, .int r] (tw_Z G T M w) (wt_fn (sp_b (0 ≤ r ∧ r < M 0 3)) (tw_Z G T (if 0 ≤ r ∧ r < M 0 3 then M else wt_up2 M 0 0 1) w)) := by
  refine wt_enter [some (.ref T.1), some (.int r)] (by decide +kernel) rfl (Nat.le_of_ble_eq_true rfl) (fun X hc hok => ?_)
  refine wt_aload_0 (pc := 0) hc dX3_isOwl_0 ?_
  refine wt_iload_1 (pc := 1) hc dX3_isOwl_1 ?_
  refine wt_if_lt (pc := 2) 17 hc dX3_isOwl_2 (by decide) (fun c_2 => ?_) (fun c_2 => ?_)
  · refine wt_iconst (pc := 17) (v := nI 0) hc dX3_isOwl_17 (by decide) ?_
    refine wt_iconst (pc := 18) (v := nI 1) hc dX3_isOwl_18 (by decide) ?_
    refine wt_gofn (tw_inv (pc := 19) 2 hc hE (ct_right0 hE h0 _ _) dX3_isOwl_19 rfl q1850 q1852 qs54 q116 q1853 (by decide +kernel) rfl (by decide) (by decide) (Nat.le_of_ble_eq_true rfl) rfl) ?_
    exact wt_iret (pc := 22) hc hok dX3_isOwl_22 (rfl) (fun H hZ => sp_chk (by decide) (by first | exact Or.inl ⟨⟨Int32.not_lt.mp c_2, Int32.not_le.mp c_10⟩, rfl⟩ | exact Or.inr ⟨fun z => absurd c_2 (Int32.not_lt.mpr z.1), rfl⟩ | exact Or.inr ⟨fun z => absurd c_10 (Int32.not_le.mpr z.2), rfl⟩) ⟨rfl, hZ⟩)
  · refine wt_iload_1 (pc := 5) hc dX3_isOwl_5 ?_
    refine wt_aload_0 (pc := 6) hc dX3_isOwl_6 ?_
    refine tw_get (pc := 7) 3 _ hc hE dX3_isOwl_7 q1607 (by decide) (fun _ _ _ => rfl) rfl (rfl) ?_
    refine wt_icmp_ge (pc := 10) 17 hc dX3_isOwl_10 (by decide) (fun c_10 => ?_) (fun c_10 => ?_)
    · refine wt_iconst (pc := 17) (v := nI 0) hc dX3_isOwl_17 (by decide) ?_
      refine wt_iconst (pc := 18) (v := nI 1) hc dX3_isOwl_18 (by decide) ?_
      refine wt_gofn (tw_inv (pc := 19) 2 hc hE (ct_right0 hE h0 _ _) dX3_isOwl_19 rfl q1850 q1852 qs54 q116 q1853 (by decide +kernel) rfl (by decide) (by decide) (Nat.le_of_ble_eq_true rfl) rfl) ?_
      exact wt_iret (pc := 22) hc hok dX3_isOwl_22 (rfl) (fun H hZ => sp_chk (by decide) (by first | exact Or.inl ⟨⟨Int32.not_lt.mp c_2, Int32.not_le.mp c_10⟩, rfl⟩ | exact Or.inr ⟨fun z => absurd c_2 (Int32.not_lt.mpr z.1), rfl⟩ | exact Or.inr ⟨fun z => absurd c_10 (Int32.not_le.mpr z.2), rfl⟩) ⟨rfl, hZ⟩)
    · refine wt_iconst (pc := 13) (v := nI 1) hc dX3_isOwl_13 (by decide) ?_
      refine wt_goto (pc := 14) 18 hc dX3_isOwl_14 (by decide) ?_
      refine wt_iconst (pc := 18) (v := nI 1) hc dX3_isOwl_18 (by decide) ?_
      refine wt_gofn (tw_inv (pc := 19) 2 hc hE (ct_right0 hE h0 _ _) dX3_isOwl_19 rfl q1850 q1852 qs54 q116 q1853 (by decide +kernel) rfl (by decide) (by decide) (Nat.le_of_ble_eq_true rfl) rfl) ?_
      exact wt_iret (pc := 22) hc hok dX3_isOwl_22 (rfl) (fun H hZ => sp_chk (by decide) (by first | exact Or.inl ⟨⟨Int32.not_lt.mp c_2, Int32.not_le.mp c_10⟩, rfl⟩ | exact Or.inr ⟨fun z => absurd c_2 (Int32.not_lt.mpr z.1), rfl⟩ | exact Or.inr ⟨fun z => absurd c_10 (Int32.not_le.mpr z.2), rfl⟩) ⟨rfl, hZ⟩)
theorem ct_isRider (hE : tw_E G T) (h0 : M 0 0 = 0) (r : Int32) : wt_Ct l G yX3_isRider cX3_isRider 2 (some .boolean) 2 0 0 [.ref T.1, .int r] (tw_Z G T M w) (wt_fn (sp_b (0 ≤ r ∧ r < M 0 4)) (tw_Z G T (if 0 ≤ r ∧ r < M 0 4 then M else wt_up2 M 0 0 1) w)) := by
  refine wt_enter [some (.ref T.1), some (.int r)] (by decide +kernel) rfl (Nat.le_of_ble_eq_true rfl) (fun X hc hok => ?_)
  refine wt_aload_0 (pc := 0) hc dX3_isRider_0 ?_
  refine wt_iload_1 (pc := 1) hc dX3_isRider_1 ?_
  refine wt_if_lt (pc := 2) 17 hc dX3_isRider_2 (by decide) (fun c_2 => ?_) (fun c_2 => ?_)
  · refine wt_iconst (pc := 17) (v := nI 0) hc dX3_isRider_17 (by decide) ?_
    refine wt_iconst (pc := 18) (v := nI 1) hc dX3_isRider_18 (by decide) ?_
    refine wt_gofn (tw_inv (pc := 19) 2 hc hE (ct_right0 hE h0 _ _) dX3_isRider_19 rfl q1850 q1852 qs54 q116 q1853 (by decide +kernel) rfl (by decide) (by decide) (Nat.le_of_ble_eq_true rfl) rfl) ?_
    exact wt_iret (pc := 22) hc hok dX3_isRider_22 (rfl) (fun H hZ => sp_chk (by decide) (by first | exact Or.inl ⟨⟨Int32.not_lt.mp c_2, Int32.not_le.mp c_10⟩, rfl⟩ | exact Or.inr ⟨fun z => absurd c_2 (Int32.not_lt.mpr z.1), rfl⟩ | exact Or.inr ⟨fun z => absurd c_10 (Int32.not_le.mpr z.2), rfl⟩) ⟨rfl, hZ⟩)
  · refine wt_iload_1 (pc := 5) hc dX3_isRider_5 ?_
    refine wt_aload_0 (pc := 6) hc dX3_isRider_6 ?_
    refine tw_get (pc := 7) 4 _ hc hE dX3_isRider_7 q1608 (by decide) (fun _ _ _ => rfl) rfl (rfl) ?_
    refine wt_icmp_ge (pc := 10) 17 hc dX3_isRider_10 (by decide) (fun c_10 => ?_) (fun c_10 => ?_)
    · refine wt_iconst (pc := 17) (v := nI 0) hc dX3_isRider_17 (by decide) ?_
      refine wt_iconst (pc := 18) (v := nI 1) hc dX3_isRider_18 (by decide) ?_
      refine wt_gofn (tw_inv (pc := 19) 2 hc hE (ct_right0 hE h0 _ _) dX3_isRider_19 rfl q1850 q1852 qs54 q116 q1853 (by decide +kernel) rfl (by decide) (by decide) (Nat.le_of_ble_eq_true rfl) rfl) ?_
      exact wt_iret (pc := 22) hc hok dX3_isRider_22 (rfl) (fun H hZ => sp_chk (by decide) (by first | exact Or.inl ⟨⟨Int32.not_lt.mp c_2, Int32.not_le.mp c_10⟩, rfl⟩ | exact Or.inr ⟨fun z => absurd c_2 (Int32.not_lt.mpr z.1), rfl⟩ | exact Or.inr ⟨fun z => absurd c_10 (Int32.not_le.mpr z.2), rfl⟩) ⟨rfl, hZ⟩)
    · refine wt_iconst (pc := 13) (v := nI 1) hc dX3_isRider_13 (by decide) ?_
      refine wt_goto (pc := 14) 18 hc dX3_isRider_14 (by decide) ?_
      refine wt_iconst (pc := 18) (v := nI 1) hc dX3_isRider_18 (by decide) ?_
      refine wt_gofn (tw_inv (pc := 19) 2 hc hE (ct_right0 hE h0 _ _) dX3_isRider_19 rfl q1850 q1852 qs54 q116 q1853 (by decide +kernel) rfl (by decide) (by decide) (Nat.le_of_ble_eq_true rfl) rfl) ?_
      exact wt_iret (pc := 22) hc hok dX3_isRider_22 (rfl) (fun H hZ => sp_chk (by decide) (by first | exact Or.inl ⟨⟨Int32.not_lt.mp c_2, Int32.not_le.mp c_10⟩, rfl⟩ | exact Or.inr ⟨fun z => absurd c_2 (Int32.not_lt.mpr z.1), rfl⟩ | exact Or.inr ⟨fun z => absurd c_10 (Int32.not_le.mpr z.2), rfl⟩) ⟨rfl, hZ⟩)
theorem ct_isWhat (hE : tw_E G T) (h0 : M 0 0 = 0) (a b : Int32) : wt_Ct l G yX3_isWhat cX3_isWhat 3 (some .boolean) 2 0 0 [.ref T.1, .int a, .int b] (tw_Z G T M w) (wt_fn (sp_b (0 ≤ a ∧ a ≤ b)) (tw_Z G T (if 0 ≤ a ∧ a ≤ b then M else wt_up2 M 0 0 1) w)) := by
  refine wt_enter [some (.ref T.1), some (.int a), some (.int b)] (by decide +kernel) rfl (Nat.le_of_ble_eq_true rfl) (fun X hc hok => ?_)
  refine wt_aload_0 (pc := 0) hc dX3_isWhat_0 ?_
  refine wt_iload_1 (pc := 1) hc dX3_isWhat_1 ?_
  refine wt_iconst (pc := 2) (v := nI 0) hc dX3_isWhat_2 (by decide) ?_
  refine wt_iload_2 (pc := 3) hc dX3_isWhat_3 ?_
  refine wt_gofn (wt_invS (pc := 4) 3 hc (ct_within _ _ _) dX3_isWhat_4 rfl q1986 q1987 q116 q1988 (by decide +kernel) rfl (by decide) (by decide) (Nat.le_of_ble_eq_true rfl) rfl) ?_
  refine wt_iconst (pc := 7) (v := nI 1) hc dX3_isWhat_7 (by decide) ?_
  refine wt_gofn (tw_inv (pc := 8) 2 hc hE (ct_right0 hE h0 _ _) dX3_isWhat_8 rfl q1850 q1852 qs54 q116 q1853 (by decide +kernel) rfl (by decide) (by decide) (Nat.le_of_ble_eq_true rfl) rfl) ?_
  exact wt_iret (pc := 11) hc hok dX3_isWhat_11 (sp_b_nar) (fun H hZ => sp_chk (by decide) (by by_cases q : 0 ≤ a ∧ a ≤ b; exact Or.inl ⟨q, sp_b_t q⟩; exact Or.inr ⟨q, sp_b_f q⟩) ⟨rfl, hZ⟩)
theorem ct_isDigit (c : Int32) : wt_Ct l G yX3_isDigit cX3_isDigit 1 (some .boolean) 1 0 0 [.int c] Z (wt_fn (sp_b (48 ≤ c ∧ c ≤ 57)) Z) := by
  refine wt_enter [some (.int c)] (by decide +kernel) rfl (Nat.le_of_ble_eq_true rfl) (fun X hc hok => ?_)
  refine wt_iload_0 (pc := 0) hc dX3_isDigit_0 ?_
  refine wt_bipush (pc := 1) (v := nI 48) hc dX3_isDigit_1 (by decide) ?_
  refine wt_icmp_lt (pc := 3) 16 hc dX3_isDigit_3 (by decide) (fun c_3 => ?_) (fun c_3 => ?_)
  · refine wt_iconst (pc := 16) (v := nI 0) hc dX3_isDigit_16 (by decide) ?_
    exact wt_iret (pc := 17) hc hok dX3_isDigit_17 (rfl) (fun H hZ => by first | exact sp_fnT ⟨Int32.not_lt.mp c_3, Int32.not_lt.mp c_9⟩ hZ | exact sp_fnF (fun z => absurd c_9 (Int32.not_lt.mpr z.2)) hZ | exact sp_fnF (fun z => absurd c_3 (Int32.not_lt.mpr z.1)) hZ)
  · refine wt_iload_0 (pc := 6) hc dX3_isDigit_6 ?_
    refine wt_bipush (pc := 7) (v := nI 57) hc dX3_isDigit_7 (by decide) ?_
    refine wt_icmp_gt (pc := 9) 16 hc dX3_isDigit_9 (by decide) (fun c_9 => ?_) (fun c_9 => ?_)
    · refine wt_iconst (pc := 16) (v := nI 0) hc dX3_isDigit_16 (by decide) ?_
      exact wt_iret (pc := 17) hc hok dX3_isDigit_17 (rfl) (fun H hZ => by first | exact sp_fnT ⟨Int32.not_lt.mp c_3, Int32.not_lt.mp c_9⟩ hZ | exact sp_fnF (fun z => absurd c_9 (Int32.not_lt.mpr z.2)) hZ | exact sp_fnF (fun z => absurd c_3 (Int32.not_lt.mpr z.1)) hZ)
    · refine wt_iconst (pc := 12) (v := nI 1) hc dX3_isDigit_12 (by decide) ?_
      refine wt_goto (pc := 13) 17 hc dX3_isDigit_13 (by decide) ?_
      exact wt_iret (pc := 17) hc hok dX3_isDigit_17 (rfl) (fun H hZ => by first | exact sp_fnT ⟨Int32.not_lt.mp c_3, Int32.not_lt.mp c_9⟩ hZ | exact sp_fnF (fun z => absurd c_9 (Int32.not_lt.mpr z.2)) hZ | exact sp_fnF (fun z => absurd c_3 (Int32.not_lt.mpr z.1)) hZ)
theorem ct_isOpen (c : Int32) : wt_Ct l G yX3_isOpen cX3_isOpen 1 (some .boolean) 1 0 0 [.int c] Z (wt_fn (sp_b (14 ≤ c)) Z) := by
  refine wt_enter [some (.int c)] (by decide +kernel) rfl (Nat.le_of_ble_eq_true rfl) (fun X hc hok => ?_)
  refine wt_iload_0 (pc := 0) hc dX3_isOpen_0 ?_
  refine wt_bipush (pc := 1) (v := nI 14) hc dX3_isOpen_1 (by decide) ?_
  refine wt_icmp_lt (pc := 3) 10 hc dX3_isOpen_3 (by decide) (fun c_3 => ?_) (fun c_3 => ?_)
  · refine wt_iconst (pc := 10) (v := nI 0) hc dX3_isOpen_10 (by decide) ?_
    exact wt_iret (pc := 11) hc hok dX3_isOpen_11 (rfl) (fun H hZ => by first | exact sp_fnT (Int32.not_lt.mp c_3) hZ | exact sp_fnF (Int32.not_le.mpr c_3) hZ)
  · refine wt_iconst (pc := 6) (v := nI 1) hc dX3_isOpen_6 (by decide) ?_
    refine wt_goto (pc := 7) 11 hc dX3_isOpen_7 (by decide) ?_
    exact wt_iret (pc := 11) hc hok dX3_isOpen_11 (rfl) (fun H hZ => by first | exact sp_fnT (Int32.not_lt.mp c_3) hZ | exact sp_fnF (Int32.not_le.mpr c_3) hZ)
def sp_strength (a : Int32) : Int32 := if a = 5 then 1 else if a = 4 then 2 else if a = 3 then 3 else if a = 6 ∨ a = 7 then 4 else if a = 8 ∨ a = 9 then 5 else 6
theorem ct_strength (a : Int32) : wt_Ct l G yX3_strength cX3_strength 1 (some .int) 1 0 0 [.int a] Z (wt_fn (sp_strength a) Z) := by
  refine wt_enter [some (.int a)] (by decide +kernel) rfl (Nat.le_of_ble_eq_true rfl) (fun X hc hok => ?_)
  refine wt_iload_0 (pc := 0) hc dX3_strength_0 ?_
  refine wt_iconst (pc := 1) (v := nI 5) hc dX3_strength_1 (by decide) ?_
  refine wt_icmp_ne (pc := 2) 9 hc dX3_strength_2 (by decide) (fun c_2 => ?_) (fun c_2 => ?_)
  · refine wt_iload_0 (pc := 9) hc dX3_strength_9 ?_
    refine wt_iconst (pc := 10) (v := nI 4) hc dX3_strength_10 (by decide) ?_
    refine wt_icmp_ne (pc := 11) 18 hc dX3_strength_11 (by decide) (fun c_11 => ?_) (fun c_11 => ?_)
    · refine wt_iload_0 (pc := 18) hc dX3_strength_18 ?_
      refine wt_iconst (pc := 19) (v := nI 3) hc dX3_strength_19 (by decide) ?_
      refine wt_icmp_ne (pc := 20) 27 hc dX3_strength_20 (by decide) (fun c_20 => ?_) (fun c_20 => ?_)
      · refine wt_iload_0 (pc := 27) hc dX3_strength_27 ?_
        refine wt_bipush (pc := 28) (v := nI 6) hc dX3_strength_28 (by decide) ?_
        refine wt_icmp_eq (pc := 30) 39 hc dX3_strength_30 (by decide) (fun c_30 => ?_) (fun c_30 => ?_)
        · refine wt_iconst (pc := 39) (v := nI 4) hc dX3_strength_39 (by decide) ?_
          refine wt_goto (pc := 40) 61 hc dX3_strength_40 (by decide) ?_
          exact wt_iret (pc := 61) hc hok dX3_strength_61 (rfl) (fun H hZ => ⟨by
      have e5 : nI 5 = 5 := rfl
      have e4 : nI 4 = 4 := rfl
      have e3 : nI 3 = 3 := rfl
      have e6 : nI 6 = 6 := rfl
      have e7 : nI 7 = 7 := rfl
      have e8 : nI 8 = 8 := rfl
      have e9 : nI 9 = 9 := rfl
      simp only [e5, e4, e3, e6, e7, e8, e9] at *
      simp [sp_strength, *] <;> rfl, hZ⟩)
        · refine wt_iload_0 (pc := 33) hc dX3_strength_33 ?_
          refine wt_bipush (pc := 34) (v := nI 7) hc dX3_strength_34 (by decide) ?_
          refine wt_icmp_ne (pc := 36) 43 hc dX3_strength_36 (by decide) (fun c_36 => ?_) (fun c_36 => ?_)
          · refine wt_iload_0 (pc := 43) hc dX3_strength_43 ?_
            refine wt_bipush (pc := 44) (v := nI 8) hc dX3_strength_44 (by decide) ?_
            refine wt_icmp_eq (pc := 46) 55 hc dX3_strength_46 (by decide) (fun c_46 => ?_) (fun c_46 => ?_)
            · refine wt_iconst (pc := 55) (v := nI 5) hc dX3_strength_55 (by decide) ?_
              refine wt_goto (pc := 56) 61 hc dX3_strength_56 (by decide) ?_
              exact wt_iret (pc := 61) hc hok dX3_strength_61 (rfl) (fun H hZ => ⟨by
      have e5 : nI 5 = 5 := rfl
      have e4 : nI 4 = 4 := rfl
      have e3 : nI 3 = 3 := rfl
      have e6 : nI 6 = 6 := rfl
      have e7 : nI 7 = 7 := rfl
      have e8 : nI 8 = 8 := rfl
      have e9 : nI 9 = 9 := rfl
      simp only [e5, e4, e3, e6, e7, e8, e9] at *
      simp [sp_strength, *] <;> rfl, hZ⟩)
            · refine wt_iload_0 (pc := 49) hc dX3_strength_49 ?_
              refine wt_bipush (pc := 50) (v := nI 9) hc dX3_strength_50 (by decide) ?_
              refine wt_icmp_ne (pc := 52) 59 hc dX3_strength_52 (by decide) (fun c_52 => ?_) (fun c_52 => ?_)
              · refine wt_bipush (pc := 59) (v := nI 6) hc dX3_strength_59 (by decide) ?_
                exact wt_iret (pc := 61) hc hok dX3_strength_61 (rfl) (fun H hZ => ⟨by
      have e5 : nI 5 = 5 := rfl
      have e4 : nI 4 = 4 := rfl
      have e3 : nI 3 = 3 := rfl
      have e6 : nI 6 = 6 := rfl
      have e7 : nI 7 = 7 := rfl
      have e8 : nI 8 = 8 := rfl
      have e9 : nI 9 = 9 := rfl
      simp only [e5, e4, e3, e6, e7, e8, e9] at *
      simp [sp_strength, *] <;> rfl, hZ⟩)
              · refine wt_iconst (pc := 55) (v := nI 5) hc dX3_strength_55 (by decide) ?_
                refine wt_goto (pc := 56) 61 hc dX3_strength_56 (by decide) ?_
                exact wt_iret (pc := 61) hc hok dX3_strength_61 (rfl) (fun H hZ => ⟨by
      have e5 : nI 5 = 5 := rfl
      have e4 : nI 4 = 4 := rfl
      have e3 : nI 3 = 3 := rfl
      have e6 : nI 6 = 6 := rfl
      have e7 : nI 7 = 7 := rfl
      have e8 : nI 8 = 8 := rfl
      have e9 : nI 9 = 9 := rfl
      simp only [e5, e4, e3, e6, e7, e8, e9] at *
      simp [sp_strength, *] <;> rfl, hZ⟩)
          · refine wt_iconst (pc := 39) (v := nI 4) hc dX3_strength_39 (by decide) ?_
            refine wt_goto (pc := 40) 61 hc dX3_strength_40 (by decide) ?_
            exact wt_iret (pc := 61) hc hok dX3_strength_61 (rfl) (fun H hZ => ⟨by
      have e5 : nI 5 = 5 := rfl
      have e4 : nI 4 = 4 := rfl
      have e3 : nI 3 = 3 := rfl
      have e6 : nI 6 = 6 := rfl
      have e7 : nI 7 = 7 := rfl
      have e8 : nI 8 = 8 := rfl
      have e9 : nI 9 = 9 := rfl
      simp only [e5, e4, e3, e6, e7, e8, e9] at *
      simp [sp_strength, *] <;> rfl, hZ⟩)
      · refine wt_iconst (pc := 23) (v := nI 3) hc dX3_strength_23 (by decide) ?_
        refine wt_goto (pc := 24) 61 hc dX3_strength_24 (by decide) ?_
        exact wt_iret (pc := 61) hc hok dX3_strength_61 (rfl) (fun H hZ => ⟨by
      have e5 : nI 5 = 5 := rfl
      have e4 : nI 4 = 4 := rfl
      have e3 : nI 3 = 3 := rfl
      have e6 : nI 6 = 6 := rfl
      have e7 : nI 7 = 7 := rfl
      have e8 : nI 8 = 8 := rfl
      have e9 : nI 9 = 9 := rfl
      simp only [e5, e4, e3, e6, e7, e8, e9] at *
      simp [sp_strength, *] <;> rfl, hZ⟩)
    · refine wt_iconst (pc := 14) (v := nI 2) hc dX3_strength_14 (by decide) ?_
      refine wt_goto (pc := 15) 61 hc dX3_strength_15 (by decide) ?_
      exact wt_iret (pc := 61) hc hok dX3_strength_61 (rfl) (fun H hZ => ⟨by
      have e5 : nI 5 = 5 := rfl
      have e4 : nI 4 = 4 := rfl
      have e3 : nI 3 = 3 := rfl
      have e6 : nI 6 = 6 := rfl
      have e7 : nI 7 = 7 := rfl
      have e8 : nI 8 = 8 := rfl
      have e9 : nI 9 = 9 := rfl
      simp only [e5, e4, e3, e6, e7, e8, e9] at *
      simp [sp_strength, *] <;> rfl, hZ⟩)
  · refine wt_iconst (pc := 5) (v := nI 1) hc dX3_strength_5 (by decide) ?_
    refine wt_goto (pc := 6) 61 hc dX3_strength_6 (by decide) ?_
    exact wt_iret (pc := 61) hc hok dX3_strength_61 (rfl) (fun H hZ => ⟨by
      have e5 : nI 5 = 5 := rfl
      have e4 : nI 4 = 4 := rfl
      have e3 : nI 3 = 3 := rfl
      have e6 : nI 6 = 6 := rfl
      have e7 : nI 7 = 7 := rfl
      have e8 : nI 8 = 8 := rfl
      have e9 : nI 9 = 9 := rfl
      simp only [e5, e4, e3, e6, e7, e8, e9] at *
      simp [sp_strength, *] <;> rfl, hZ⟩)
def sp_works (c a b : Int32) : Int32 := if c = 4 then sp_b (¬ a = 0 ∧ ¬ b = 0) else if c = 5 then sp_b (¬ a = 0 ∨ ¬ b = 0) else if c = 6 then sp_b (a < b) else if c = 7 then sp_b (a = b) else if c = 8 then a + b else if c = 9 then a - b else if c = 10 then a * b else if b = 0 then 0 else a / b
def sp_puts (M : wt_It) (t : Nat) (v : Int32) : wt_It := wt_up2 (wt_up2 M 44 t v) 0 33 (nI (t + 1))
theorem ct_puts (hE : tw_E G T) (t : Nat) (v : Int32) (ht : M 0 33 = nI t) (hl : t < 2800) : wt_Ct l G yX3_puts cX3_puts 2 none 1 0 0 [.ref T.1, .int v] (tw_Z G T M w) (wt_pv (tw_Z G T (sp_puts M t v) w)) := by
  refine wt_enter [some (.ref T.1), some (.int v)] (by decide +kernel) rfl (Nat.le_of_ble_eq_true rfl) (fun X hc hok => ?_)
  refine wt_aload_0 (pc := 0) hc dX3_puts_0 ?_
  refine tw_geta (pc := 1) 44 hc hE dX3_puts_1 q1648 (by decide) (by decide) (fun _ _ _ => rfl) rfl ?_
  refine wt_aload_0 (pc := 4) hc dX3_puts_4 ?_
  refine tw_get (pc := 5) 33 (nI t) hc hE dX3_puts_5 q1637 (by decide) (fun _ _ _ => rfl) rfl (ht) ?_
  refine wt_iload_1 (pc := 8) hc dX3_puts_8 ?_
  refine tw_iast (pc := 9) (k := 44) (t) hc hE dX3_puts_9 rfl (rfl) (by show _ < 2800; omega) (by decide) ?_
  refine wt_aload_0 (pc := 10) hc dX3_puts_10 ?_
  refine wt_dup (pc := 11) hc dX3_puts_11 rfl ?_
  refine tw_get (pc := 12) 33 (nI t) hc hE dX3_puts_12 q1637 (by decide) (fun _ _ _ => rfl) rfl (ht) ?_
  refine wt_iconst (pc := 15) (v := nI 1) hc dX3_puts_15 (by decide) ?_
  refine wt_iadd (pc := 16) hc dX3_puts_16 ?_
  rw [nI_add t 1]
  refine tw_put (pc := 17) 33 hc hE dX3_puts_17 q1637 (by decide) (fun _ _ _ => rfl) rfl rfl (rfl) rfl ?_
  exact wt_vret (pc := 20) hc hok dX3_puts_20 (fun H hZ => ⟨rfl, hZ⟩)
def sp_waitsFor (M : wt_It) (t : Nat) (v : Int32) : wt_It := wt_up2 (wt_up2 M 45 t v) 0 34 (nI (t + 1))
theorem ct_waitsFor (hE : tw_E G T) (t : Nat) (v : Int32) (ht : M 0 34 = nI t) (hl : t < 950) : wt_Ct l G yX3_waitsFor cX3_waitsFor 2 none 1 0 0 [.ref T.1, .int v] (tw_Z G T M w) (wt_pv (tw_Z G T (sp_waitsFor M t v) w)) := by
  refine wt_enter [some (.ref T.1), some (.int v)] (by decide +kernel) rfl (Nat.le_of_ble_eq_true rfl) (fun X hc hok => ?_)
  refine wt_aload_0 (pc := 0) hc dX3_waitsFor_0 ?_
  refine tw_geta (pc := 1) 45 hc hE dX3_waitsFor_1 q1649 (by decide) (by decide) (fun _ _ _ => rfl) rfl ?_
  refine wt_aload_0 (pc := 4) hc dX3_waitsFor_4 ?_
  refine tw_get (pc := 5) 34 (nI t) hc hE dX3_waitsFor_5 q1638 (by decide) (fun _ _ _ => rfl) rfl (ht) ?_
  refine wt_iload_1 (pc := 8) hc dX3_waitsFor_8 ?_
  refine tw_iast (pc := 9) (k := 45) (t) hc hE dX3_waitsFor_9 rfl (rfl) (by show _ < 950; omega) (by decide) ?_
  refine wt_aload_0 (pc := 10) hc dX3_waitsFor_10 ?_
  refine wt_dup (pc := 11) hc dX3_waitsFor_11 rfl ?_
  refine tw_get (pc := 12) 34 (nI t) hc hE dX3_waitsFor_12 q1638 (by decide) (fun _ _ _ => rfl) rfl (ht) ?_
  refine wt_iconst (pc := 15) (v := nI 1) hc dX3_waitsFor_15 (by decide) ?_
  refine wt_iadd (pc := 16) hc dX3_waitsFor_16 ?_
  rw [nI_add t 1]
  refine tw_put (pc := 17) 34 hc hE dX3_waitsFor_17 q1638 (by decide) (fun _ _ _ => rfl) rfl rfl (rfl) rfl ?_
  exact wt_vret (pc := 20) hc hok dX3_waitsFor_20 (fun H hZ => ⟨rfl, hZ⟩)
theorem ct_homeOf (hE : tw_E G T) (p : Nat) (hp : p < 8) : wt_Ct l G yX3_homeOf cX3_homeOf 2 (some .int) 1 0 0 [.ref T.1, .int (nI p)] (tw_Z G T M w) (wt_fn (M 11 (4 * p + 1)) (tw_Z G T M w)) := by
  refine wt_enter [some (.ref T.1), some (.int (nI p))] (by decide +kernel) rfl (Nat.le_of_ble_eq_true rfl) (fun X hc hok => ?_)
  refine wt_aload_0 (pc := 0) hc dX3_homeOf_0 ?_
  refine tw_geta (pc := 1) 11 hc hE dX3_homeOf_1 q1615 (by decide) (by decide) (fun _ _ _ => rfl) rfl ?_
  refine wt_iconst (pc := 4) (v := nI 4) hc dX3_homeOf_4 (by decide) ?_
  refine wt_iload_1 (pc := 5) hc dX3_homeOf_5 ?_
  refine wt_imul (pc := 6) hc dX3_homeOf_6 ?_
  rw [pk_mul 4 p]
  refine wt_iconst (pc := 7) (v := nI 1) hc dX3_homeOf_7 (by decide) ?_
  refine wt_iadd (pc := 8) hc dX3_homeOf_8 ?_
  rw [nI_add (4 * p) 1]
  refine tw_iald (pc := 9) (k := 11) (4 * p + 1) _ hc hE dX3_homeOf_9 rfl (rfl) (by show _ < 32; omega) (by decide) (rfl) ?_
  exact wt_iret (pc := 10) hc hok dX3_homeOf_10 (rfl) (fun H hZ => ⟨rfl, hZ⟩)
theorem ct_isThere (hE : tw_E G T) (p : Nat) (hp : p < 8) : wt_Ct l G yX3_isThere cX3_isThere 2 (some .boolean) 2 0 0 [.ref T.1, .int (nI p)] (tw_Z G T M w) (wt_fn (sp_b (M 11 (4 * p) = M 11 (4 * p + 1))) (tw_Z G T M w)) := by
  refine wt_enter [some (.ref T.1), some (.int (nI p))] (by decide +kernel) rfl (Nat.le_of_ble_eq_true rfl) (fun X hc hok => ?_)
  refine wt_aload_0 (pc := 0) hc dX3_isThere_0 ?_
  refine tw_geta (pc := 1) 11 hc hE dX3_isThere_1 q1615 (by decide) (by decide) (fun _ _ _ => rfl) rfl ?_
  refine wt_iconst (pc := 4) (v := nI 4) hc dX3_isThere_4 (by decide) ?_
  refine wt_iload_1 (pc := 5) hc dX3_isThere_5 ?_
  refine wt_imul (pc := 6) hc dX3_isThere_6 ?_
  rw [pk_mul 4 p]
  refine tw_iald (pc := 7) (k := 11) (4 * p) _ hc hE dX3_isThere_7 rfl (rfl) (by show _ < 32; omega) (by decide) (rfl) ?_
  refine wt_aload_0 (pc := 8) hc dX3_isThere_8 ?_
  refine wt_iload_1 (pc := 9) hc dX3_isThere_9 ?_
  refine wt_gofn (tw_inv (pc := 10) 1 hc hE (ct_homeOf hE _ (by first | assumption | omega)) dX3_isThere_10 rfl q2032 q2034 qs90 q116 q2035 (by decide +kernel) rfl (by decide) (by decide) (Nat.le_of_ble_eq_true rfl) rfl) ?_
  refine wt_icmp_ne (pc := 13) 20 hc dX3_isThere_13 (by decide) (fun c_13 => ?_) (fun c_13 => ?_)
  · refine wt_iconst (pc := 20) (v := nI 0) hc dX3_isThere_20 (by decide) ?_
    exact wt_iret (pc := 21) hc hok dX3_isThere_21 (rfl) (fun H hZ => by first | exact sp_fnT (by assumption) hZ | exact sp_fnF (by assumption) hZ)
  · refine wt_iconst (pc := 16) (v := nI 1) hc dX3_isThere_16 (by decide) ?_
    refine wt_goto (pc := 17) 21 hc dX3_isThere_17 (by decide) ?_
    exact wt_iret (pc := 21) hc hok dX3_isThere_21 (rfl) (fun H hZ => by first | exact sp_fnT (by assumption) hZ | exact sp_fnF (by assumption) hZ)
theorem ct_refuses (hE : tw_E G T) (k : Nat) (hk : k < 3) : wt_Ct l G yX3_refuses cX3_refuses 2 (some .int) 1 0 0 [.ref T.1, .int (nI k)] (tw_Z G T M w) (wt_fn (-1) (tw_Z G T (wt_up2 M 18 k (M 18 k + 1)) w)) := by
  refine wt_enter [some (.ref T.1), some (.int (nI k))] (by decide +kernel) rfl (Nat.le_of_ble_eq_true rfl) (fun X hc hok => ?_)
  refine wt_aload_0 (pc := 0) hc dX3_refuses_0 ?_
  refine tw_geta (pc := 1) 18 hc hE dX3_refuses_1 q1622 (by decide) (by decide) (fun _ _ _ => rfl) rfl ?_
  refine wt_iload_1 (pc := 4) hc dX3_refuses_4 ?_
  refine wt_dup2 (pc := 5) hc dX3_refuses_5 rfl rfl ?_
  refine tw_iald (pc := 6) (k := 18) (k) _ hc hE dX3_refuses_6 rfl (rfl) (by show _ < 3; omega) (by decide) (rfl) ?_
  refine wt_iconst (pc := 7) (v := nI 1) hc dX3_refuses_7 (by decide) ?_
  refine wt_iadd (pc := 8) hc dX3_refuses_8 ?_
  refine tw_iast (pc := 9) (k := 18) (k) hc hE dX3_refuses_9 rfl (rfl) (by show _ < 3; omega) (by decide) ?_
  refine wt_iconst (pc := 10) (v := (-1 : Int32)) hc dX3_refuses_10 (by decide) ?_
  exact wt_iret (pc := 11) hc hok dX3_refuses_11 (rfl) (fun H hZ => ⟨rfl, hZ⟩)
def sp_lay1 (M : wt_It) (t : Nat) (b : Int32) : wt_It := wt_up2 (wt_up2 M 14 t b) 0 15 (nI (t + 1))
def sp_lays (M : wt_It) (t : Nat) (v : Int32) : wt_It := sp_lay1 (sp_lay1 (sp_lay1 (sp_lay1 M t (v >>> (nI 24 &&& 31) &&& nI 255)) (t + 1) (v >>> (nI 16 &&& 31) &&& nI 255)) (t + 1 + 1) (v >>> (nI 8 &&& 31) &&& nI 255)) (t + 1 + 1 + 1) (v >>> (nI 0 &&& 31) &&& nI 255)
theorem ct_lays (hE : tw_E G T) (t : Nat) (v : Int32) (ht : M 0 15 = nI t) (hl : t + 4 ≤ 700) : wt_Ct l G yX3_lays cX3_lays 3 none 1 0 0 [.ref T.1, .int v] (tw_Z G T M w) (wt_pv (tw_Z G T (sp_lays M t v) w)) := by
  refine wt_enter [some (.ref T.1), some (.int v), none] (by decide +kernel) rfl (Nat.le_of_ble_eq_true rfl) (fun X hc hok => ?_)
  refine wt_bipush (pc := 0) (v := nI 24) hc dX3_lays_0 (by decide) ?_
  refine wt_istore_2 (pc := 2) hc dX3_lays_2 rfl ?_
  refine wt_iload_2 (pc := 3) hc dX3_lays_3 ?_
  refine wt_if_lt (pc := 4) 39 hc dX3_lays_4 (by decide) (fun z => absurd z (by decide)) (fun _ => ?_)
  refine wt_aload_0 (pc := 7) hc dX3_lays_7 ?_
  refine tw_geta (pc := 8) 14 hc hE dX3_lays_8 q1618 (by decide) (by decide) (fun _ _ _ => rfl) rfl ?_
  refine wt_aload_0 (pc := 11) hc dX3_lays_11 ?_
  refine tw_get (pc := 12) 15 (nI t) hc hE dX3_lays_12 q1619 (by decide) (fun _ _ _ => rfl) rfl (ht) ?_
  refine wt_iload_1 (pc := 15) hc dX3_lays_15 ?_
  refine wt_iload_2 (pc := 16) hc dX3_lays_16 ?_
  refine wt_ishr (pc := 17) hc dX3_lays_17 ?_
  refine wt_sipush (pc := 18) (v := nI 255) hc dX3_lays_18 (by decide) ?_
  refine wt_iand (pc := 21) hc dX3_lays_21 ?_
  refine tw_iast (pc := 22) (k := 14) (t) hc hE dX3_lays_22 rfl (rfl) (by show _ < 700; omega) (by decide) ?_
  refine wt_aload_0 (pc := 23) hc dX3_lays_23 ?_
  refine wt_dup (pc := 24) hc dX3_lays_24 rfl ?_
  refine tw_get (pc := 25) 15 (nI t) hc hE dX3_lays_25 q1619 (by decide) (fun _ _ _ => rfl) rfl (ht) ?_
  refine wt_iconst (pc := 28) (v := nI 1) hc dX3_lays_28 (by decide) ?_
  refine wt_iadd (pc := 29) hc dX3_lays_29 ?_
  rw [nI_add t 1]
  refine tw_put (pc := 30) 15 hc hE dX3_lays_30 q1619 (by decide) (fun _ _ _ => rfl) rfl rfl (rfl) rfl ?_
  refine wt_iinc_2 (pc := 33) (v := nI 16) hc dX3_lays_33 (by decide) rfl ?_
  refine wt_goto (pc := 36) 3 hc dX3_lays_36 (by decide) ?_
  refine wt_iload_2 (pc := 3) hc dX3_lays_3 ?_
  refine wt_if_lt (pc := 4) 39 hc dX3_lays_4 (by decide) (fun z => absurd z (by decide)) (fun _ => ?_)
  refine wt_aload_0 (pc := 7) hc dX3_lays_7 ?_
  refine tw_geta (pc := 8) 14 hc hE dX3_lays_8 q1618 (by decide) (by decide) (fun _ _ _ => rfl) rfl ?_
  refine wt_aload_0 (pc := 11) hc dX3_lays_11 ?_
  refine tw_get (pc := 12) 15 (nI (t + 1)) hc hE dX3_lays_12 q1619 (by decide) (fun _ _ _ => rfl) rfl (rfl) ?_
  refine wt_iload_1 (pc := 15) hc dX3_lays_15 ?_
  refine wt_iload_2 (pc := 16) hc dX3_lays_16 ?_
  refine wt_ishr (pc := 17) hc dX3_lays_17 ?_
  refine wt_sipush (pc := 18) (v := nI 255) hc dX3_lays_18 (by decide) ?_
  refine wt_iand (pc := 21) hc dX3_lays_21 ?_
  refine tw_iast (pc := 22) (k := 14) (t + 1) hc hE dX3_lays_22 rfl (rfl) (by show _ < 700; omega) (by decide) ?_
  refine wt_aload_0 (pc := 23) hc dX3_lays_23 ?_
  refine wt_dup (pc := 24) hc dX3_lays_24 rfl ?_
  refine tw_get (pc := 25) 15 (nI (t + 1)) hc hE dX3_lays_25 q1619 (by decide) (fun _ _ _ => rfl) rfl (rfl) ?_
  refine wt_iconst (pc := 28) (v := nI 1) hc dX3_lays_28 (by decide) ?_
  refine wt_iadd (pc := 29) hc dX3_lays_29 ?_
  rw [nI_add (t + 1) 1]
  refine tw_put (pc := 30) 15 hc hE dX3_lays_30 q1619 (by decide) (fun _ _ _ => rfl) rfl rfl (rfl) rfl ?_
  refine wt_iinc_2 (pc := 33) (v := nI 8) hc dX3_lays_33 (by decide) rfl ?_
  refine wt_goto (pc := 36) 3 hc dX3_lays_36 (by decide) ?_
  refine wt_iload_2 (pc := 3) hc dX3_lays_3 ?_
  refine wt_if_lt (pc := 4) 39 hc dX3_lays_4 (by decide) (fun z => absurd z (by decide)) (fun _ => ?_)
  refine wt_aload_0 (pc := 7) hc dX3_lays_7 ?_
  refine tw_geta (pc := 8) 14 hc hE dX3_lays_8 q1618 (by decide) (by decide) (fun _ _ _ => rfl) rfl ?_
  refine wt_aload_0 (pc := 11) hc dX3_lays_11 ?_
  refine tw_get (pc := 12) 15 (nI (t + 1 + 1)) hc hE dX3_lays_12 q1619 (by decide) (fun _ _ _ => rfl) rfl (rfl) ?_
  refine wt_iload_1 (pc := 15) hc dX3_lays_15 ?_
  refine wt_iload_2 (pc := 16) hc dX3_lays_16 ?_
  refine wt_ishr (pc := 17) hc dX3_lays_17 ?_
  refine wt_sipush (pc := 18) (v := nI 255) hc dX3_lays_18 (by decide) ?_
  refine wt_iand (pc := 21) hc dX3_lays_21 ?_
  refine tw_iast (pc := 22) (k := 14) (t + 1 + 1) hc hE dX3_lays_22 rfl (rfl) (by show _ < 700; omega) (by decide) ?_
  refine wt_aload_0 (pc := 23) hc dX3_lays_23 ?_
  refine wt_dup (pc := 24) hc dX3_lays_24 rfl ?_
  refine tw_get (pc := 25) 15 (nI (t + 1 + 1)) hc hE dX3_lays_25 q1619 (by decide) (fun _ _ _ => rfl) rfl (rfl) ?_
  refine wt_iconst (pc := 28) (v := nI 1) hc dX3_lays_28 (by decide) ?_
  refine wt_iadd (pc := 29) hc dX3_lays_29 ?_
  rw [nI_add (t + 1 + 1) 1]
  refine tw_put (pc := 30) 15 hc hE dX3_lays_30 q1619 (by decide) (fun _ _ _ => rfl) rfl rfl (rfl) rfl ?_
  refine wt_iinc_2 (pc := 33) (v := nI 0) hc dX3_lays_33 (by decide) rfl ?_
  refine wt_goto (pc := 36) 3 hc dX3_lays_36 (by decide) ?_
  refine wt_iload_2 (pc := 3) hc dX3_lays_3 ?_
  refine wt_if_lt (pc := 4) 39 hc dX3_lays_4 (by decide) (fun z => absurd z (by decide)) (fun _ => ?_)
  refine wt_aload_0 (pc := 7) hc dX3_lays_7 ?_
  refine tw_geta (pc := 8) 14 hc hE dX3_lays_8 q1618 (by decide) (by decide) (fun _ _ _ => rfl) rfl ?_
  refine wt_aload_0 (pc := 11) hc dX3_lays_11 ?_
  refine tw_get (pc := 12) 15 (nI (t + 1 + 1 + 1)) hc hE dX3_lays_12 q1619 (by decide) (fun _ _ _ => rfl) rfl (rfl) ?_
  refine wt_iload_1 (pc := 15) hc dX3_lays_15 ?_
  refine wt_iload_2 (pc := 16) hc dX3_lays_16 ?_
  refine wt_ishr (pc := 17) hc dX3_lays_17 ?_
  refine wt_sipush (pc := 18) (v := nI 255) hc dX3_lays_18 (by decide) ?_
  refine wt_iand (pc := 21) hc dX3_lays_21 ?_
  refine tw_iast (pc := 22) (k := 14) (t + 1 + 1 + 1) hc hE dX3_lays_22 rfl (rfl) (by show _ < 700; omega) (by decide) ?_
  refine wt_aload_0 (pc := 23) hc dX3_lays_23 ?_
  refine wt_dup (pc := 24) hc dX3_lays_24 rfl ?_
  refine tw_get (pc := 25) 15 (nI (t + 1 + 1 + 1)) hc hE dX3_lays_25 q1619 (by decide) (fun _ _ _ => rfl) rfl (rfl) ?_
  refine wt_iconst (pc := 28) (v := nI 1) hc dX3_lays_28 (by decide) ?_
  refine wt_iadd (pc := 29) hc dX3_lays_29 ?_
  rw [nI_add (t + 1 + 1 + 1) 1]
  refine tw_put (pc := 30) 15 hc hE dX3_lays_30 q1619 (by decide) (fun _ _ _ => rfl) rfl rfl (rfl) rfl ?_
  refine wt_iinc_2 (pc := 33) (v := (-8 : Int32)) hc dX3_lays_33 (by decide) rfl ?_
  refine wt_goto (pc := 36) 3 hc dX3_lays_36 (by decide) ?_
  refine wt_iload_2 (pc := 3) hc dX3_lays_3 ?_
  refine wt_if_lt (pc := 4) 39 hc dX3_lays_4 (by decide) (fun _ => ?_) (fun z => absurd z (by decide))
  exact wt_vret (pc := 39) hc hok dX3_lays_39 (fun H hZ => ⟨rfl, hZ⟩)
end TB
