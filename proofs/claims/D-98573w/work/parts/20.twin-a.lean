/-! THE REFERENCE, method by method: what needs no loop -/
set_option maxRecDepth 100000
theorem sp_nI1 : nI 1 = 1 := rfl
def sp_b (c : Prop) [Decidable c] : Int32 := if c then 1 else 0
theorem sp_b_t {c : Prop} [Decidable c] (h : c) : sp_b c = 1 := if_pos h
theorem sp_b_f {c : Prop} [Decidable c] (h : ¬ c) : sp_b c = 0 := if_neg h
theorem sp_b_n0 {c : Prop} [Decidable c] (h : ¬ sp_b c = 0) : c := Decidable.byContradiction (fun q => h (sp_b_f q))
theorem sp_b_nar {c : Prop} [Decidable c] : narrow .boolean (.int (sp_b c)) = .int (sp_b c) := by unfold sp_b; split <;> rfl
theorem sp_b_1 {c : Prop} [Decidable c] : sp_b c = 1 ↔ c := by unfold sp_b; split <;> simp_all
theorem sp_b_0 {c : Prop} [Decidable c] : sp_b c = 0 ↔ ¬ c := by unfold sp_b; split <;> simp_all
theorem sp_fnT {c : Prop} [Decidable c] {Z : Heap → Prop} {H : Heap} (h : c) (hZ : Z H) : wt_fn (sp_b c) Z (some (.int (nI 1))) H := ⟨by rw [sp_b_t h]; rfl, hZ⟩
theorem sp_fnF {c : Prop} [Decidable c] {Z : Heap → Prop} {H : Heap} (h : ¬ c) (hZ : Z H) : wt_fn (sp_b c) Z (some (.int (nI 0))) H := ⟨by rw [sp_b_f h]; rfl, hZ⟩
section TA
variable {l : Launch} {G : wt_G} {Z : Heap → Prop} {T : tw_T} {M : wt_It} {w : Int64}
theorem ct_within (v a b : Int32) : wt_Ct l G yX3_within cX3_within 3 (some .boolean) 1 0 0 [.int v, .int a, .int b] Z (wt_fn (sp_b (a ≤ v ∧ v ≤ b)) Z) := by
  refine wt_enter [some (.int v), some (.int a), some (.int b)] (by decide +kernel) rfl (Nat.le_of_ble_eq_true rfl) (fun X hc hok => ?_)
  refine wt_iload_0 (pc := 0) hc dX3_within_0 ?_
  refine wt_iload_1 (pc := 1) hc dX3_within_1 ?_
  refine wt_icmp_lt (pc := 2) 14 hc dX3_within_2 (by decide) (fun c_2 => ?_) (fun c_2 => ?_)
  · refine wt_iconst (pc := 14) (v := nI 0) hc dX3_within_14 (by decide) ?_
    exact wt_iret (pc := 15) hc hok dX3_within_15 (rfl) (fun H hZ => by first | exact sp_fnT ⟨Int32.not_lt.mp c_2, Int32.not_lt.mp c_7⟩ hZ | exact sp_fnF (fun z => absurd c_7 (Int32.not_lt.mpr z.2)) hZ | exact sp_fnF (fun z => absurd c_2 (Int32.not_lt.mpr z.1)) hZ)
  · refine wt_iload_0 (pc := 5) hc dX3_within_5 ?_
    refine wt_iload_2 (pc := 6) hc dX3_within_6 ?_
    refine wt_icmp_gt (pc := 7) 14 hc dX3_within_7 (by decide) (fun c_7 => ?_) (fun c_7 => ?_)
    · refine wt_iconst (pc := 14) (v := nI 0) hc dX3_within_14 (by decide) ?_
      exact wt_iret (pc := 15) hc hok dX3_within_15 (rfl) (fun H hZ => by first | exact sp_fnT ⟨Int32.not_lt.mp c_2, Int32.not_lt.mp c_7⟩ hZ | exact sp_fnF (fun z => absurd c_7 (Int32.not_lt.mpr z.2)) hZ | exact sp_fnF (fun z => absurd c_2 (Int32.not_lt.mpr z.1)) hZ)
    · refine wt_iconst (pc := 10) (v := nI 1) hc dX3_within_10 (by decide) ?_
      refine wt_goto (pc := 11) 15 hc dX3_within_11 (by decide) ?_
      exact wt_iret (pc := 15) hc hok dX3_within_15 (rfl) (fun H hZ => by first | exact sp_fnT ⟨Int32.not_lt.mp c_2, Int32.not_lt.mp c_7⟩ hZ | exact sp_fnF (fun z => absurd c_7 (Int32.not_lt.mpr z.2)) hZ | exact sp_fnF (fun z => absurd c_2 (Int32.not_lt.mpr z.1)) hZ)
theorem ct_off (a b : Int32) : wt_Ct l G yX3_off cX3_off 2 (some .int) 1 0 0 [.int a, .int b] Z (wt_fn (if b ≤ a then a - b else b - a) Z) := by
  refine wt_enter [some (.int a), some (.int b)] (by decide +kernel) rfl (Nat.le_of_ble_eq_true rfl) (fun X hc hok => ?_)
  refine wt_iload_0 (pc := 0) hc dX3_off_0 ?_
  refine wt_iload_1 (pc := 1) hc dX3_off_1 ?_
  refine wt_icmp_ge (pc := 2) 11 hc dX3_off_2 (by decide) (fun c_2 => ?_) (fun c_2 => ?_)
  · refine wt_iload_0 (pc := 11) hc dX3_off_11 ?_
    refine wt_iload_1 (pc := 12) hc dX3_off_12 ?_
    refine wt_isub (pc := 13) hc dX3_off_13 ?_
    exact wt_iret (pc := 14) hc hok dX3_off_14 (rfl) (fun H hZ => ⟨by simp [c_2], hZ⟩)
  · refine wt_iload_1 (pc := 5) hc dX3_off_5 ?_
    refine wt_iload_0 (pc := 6) hc dX3_off_6 ?_
    refine wt_isub (pc := 7) hc dX3_off_7 ?_
    refine wt_goto (pc := 8) 14 hc dX3_off_8 (by decide) ?_
    exact wt_iret (pc := 14) hc hok dX3_off_14 (rfl) (fun H hZ => ⟨by simp [c_2], hZ⟩)
theorem ct_isLetter (c : Int32) : wt_Ct l G yX3_isLetter cX3_isLetter 1 (some .boolean) 1 0 0 [.int c] Z (wt_fn (sp_b (97 ≤ c ∧ c ≤ 122)) Z) := by
  refine wt_enter [some (.int c)] (by decide +kernel) rfl (Nat.le_of_ble_eq_true rfl) (fun X hc hok => ?_)
  refine wt_iload_0 (pc := 0) hc dX3_isLetter_0 ?_
  refine wt_bipush (pc := 1) (v := nI 97) hc dX3_isLetter_1 (by decide) ?_
  refine wt_icmp_lt (pc := 3) 16 hc dX3_isLetter_3 (by decide) (fun c_3 => ?_) (fun c_3 => ?_)
  · refine wt_iconst (pc := 16) (v := nI 0) hc dX3_isLetter_16 (by decide) ?_
    exact wt_iret (pc := 17) hc hok dX3_isLetter_17 (rfl) (fun H hZ => by first | exact sp_fnT ⟨Int32.not_lt.mp c_3, Int32.not_lt.mp c_9⟩ hZ | exact sp_fnF (fun z => absurd c_9 (Int32.not_lt.mpr z.2)) hZ | exact sp_fnF (fun z => absurd c_3 (Int32.not_lt.mpr z.1)) hZ)
  · refine wt_iload_0 (pc := 6) hc dX3_isLetter_6 ?_
    refine wt_bipush (pc := 7) (v := nI 122) hc dX3_isLetter_7 (by decide) ?_
    refine wt_icmp_gt (pc := 9) 16 hc dX3_isLetter_9 (by decide) (fun c_9 => ?_) (fun c_9 => ?_)
    · refine wt_iconst (pc := 16) (v := nI 0) hc dX3_isLetter_16 (by decide) ?_
      exact wt_iret (pc := 17) hc hok dX3_isLetter_17 (rfl) (fun H hZ => by first | exact sp_fnT ⟨Int32.not_lt.mp c_3, Int32.not_lt.mp c_9⟩ hZ | exact sp_fnF (fun z => absurd c_9 (Int32.not_lt.mpr z.2)) hZ | exact sp_fnF (fun z => absurd c_3 (Int32.not_lt.mpr z.1)) hZ)
    · refine wt_iconst (pc := 12) (v := nI 1) hc dX3_isLetter_12 (by decide) ?_
      refine wt_goto (pc := 13) 17 hc dX3_isLetter_13 (by decide) ?_
      exact wt_iret (pc := 17) hc hok dX3_isLetter_17 (rfl) (fun H hZ => by first | exact sp_fnT ⟨Int32.not_lt.mp c_3, Int32.not_lt.mp c_9⟩ hZ | exact sp_fnF (fun z => absurd c_9 (Int32.not_lt.mpr z.2)) hZ | exact sp_fnF (fun z => absurd c_3 (Int32.not_lt.mpr z.1)) hZ)
theorem ct_shown (v : Int32) : wt_Ct l G yX3_shown cX3_shown 1 (some .int) 1 0 0 [.int v] Z (wt_fn (if v < 1000000 then v else -1) Z) := by
  refine wt_enter [some (.int v)] (by decide +kernel) rfl (Nat.le_of_ble_eq_true rfl) (fun X hc hok => ?_)
  refine wt_iload_0 (pc := 0) hc dX3_shown_0 ?_
  refine wt_ldcw (pc := 1) (v := nI 1000000) hc dX3_shown_1 q1973 ?_
  refine wt_icmp_lt (pc := 4) 11 hc dX3_shown_4 (by decide) (fun c_4 => ?_) (fun c_4 => ?_)
  · refine wt_iload_0 (pc := 11) hc dX3_shown_11 ?_
    exact wt_iret (pc := 12) hc hok dX3_shown_12 (rfl) (fun H hZ => ⟨by first | rw [if_pos (show v < 1000000 from c_4)] | rw [if_neg (show ¬ v < 1000000 from c_4)], hZ⟩)
  · refine wt_iconst (pc := 7) (v := (-1 : Int32)) hc dX3_shown_7 (by decide) ?_
    refine wt_goto (pc := 8) 12 hc dX3_shown_8 (by decide) ?_
    exact wt_iret (pc := 12) hc hok dX3_shown_12 (rfl) (fun H hZ => ⟨by first | rw [if_pos (show v < 1000000 from c_4)] | rw [if_neg (show ¬ v < 1000000 from c_4)], hZ⟩)
theorem ct_thrown (hE : tw_E G T) : wt_Ct l G yX3_thrown cX3_thrown 1 (some .int) 1 0 0 [.ref T.1] (tw_Z G T M w) (wt_fn (M 0 0) (tw_Z G T M w)) := by
  refine wt_enter [some (.ref T.1)] (by decide +kernel) rfl (Nat.le_of_ble_eq_true rfl) (fun X hc hok => ?_)
  refine wt_aload_0 (pc := 0) hc dX3_thrown_0 ?_
  refine tw_get (pc := 1) 0 _ hc hE dX3_thrown_1 q1604 (by decide) (fun _ _ _ => rfl) rfl (rfl) ?_
  exact wt_iret (pc := 4) hc hok dX3_thrown_4 (rfl) (fun H hZ => ⟨rfl, hZ⟩)
theorem ct_isGood (hE : tw_E G T) : wt_Ct l G yX3_isGood cX3_isGood 1 (some .boolean) 1 0 0 [.ref T.1] (tw_Z G T M w) (wt_fn (sp_b (M 0 16 = 0)) (tw_Z G T M w)) := by
  refine wt_enter [some (.ref T.1)] (by decide +kernel) rfl (Nat.le_of_ble_eq_true rfl) (fun X hc hok => ?_)
  refine wt_aload_0 (pc := 0) hc dX3_isGood_0 ?_
  refine tw_get (pc := 1) 16 _ hc hE dX3_isGood_1 q1620 (by decide) (fun _ _ _ => rfl) rfl (rfl) ?_
  refine wt_if_ne (pc := 4) 11 hc dX3_isGood_4 (by decide) (fun c_4 => ?_) (fun c_4 => ?_)
  · refine wt_iconst (pc := 11) (v := nI 0) hc dX3_isGood_11 (by decide) ?_
    exact wt_iret (pc := 12) hc hok dX3_isGood_12 (rfl) (fun H hZ => by first | exact sp_fnT (by assumption) hZ | exact sp_fnF (by assumption) hZ)
  · refine wt_iconst (pc := 7) (v := nI 1) hc dX3_isGood_7 (by decide) ?_
    refine wt_goto (pc := 8) 12 hc dX3_isGood_8 (by decide) ?_
    exact wt_iret (pc := 12) hc hok dX3_isGood_12 (rfl) (fun H hZ => by first | exact sp_fnT (by assumption) hZ | exact sp_fnF (by assumption) hZ)
theorem ct_isSign (hE : tw_E G T) (c : Int32) : wt_Ct l G yX3_isSign cX3_isSign 2 (some .boolean) 1 0 0 [.ref T.1, .int c] (tw_Z G T M w) (wt_fn (sp_b (M 0 21 = 3 ∧ M 0 25 = c)) (tw_Z G T M w)) := by
  refine wt_enter [some (.ref T.1), some (.int c)] (by decide +kernel) rfl (Nat.le_of_ble_eq_true rfl) (fun X hc hok => ?_)
  refine wt_aload_0 (pc := 0) hc dX3_isSign_0 ?_
  refine tw_get (pc := 1) 21 _ hc hE dX3_isSign_1 q1625 (by decide) (fun _ _ _ => rfl) rfl (rfl) ?_
  refine wt_iconst (pc := 4) (v := nI 3) hc dX3_isSign_4 (by decide) ?_
  refine wt_icmp_ne (pc := 5) 20 hc dX3_isSign_5 (by decide) (fun c_5 => ?_) (fun c_5 => ?_)
  · refine wt_iconst (pc := 20) (v := nI 0) hc dX3_isSign_20 (by decide) ?_
    exact wt_iret (pc := 21) hc hok dX3_isSign_21 (rfl) (fun H hZ => by first | exact sp_fnT ⟨c_5, c_13⟩ hZ | exact sp_fnF (fun z => c_13 z.2) hZ | exact sp_fnF (fun z => c_5 z.1) hZ)
  · refine wt_aload_0 (pc := 8) hc dX3_isSign_8 ?_
    refine tw_get (pc := 9) 25 _ hc hE dX3_isSign_9 q1629 (by decide) (fun _ _ _ => rfl) rfl (rfl) ?_
    refine wt_iload_1 (pc := 12) hc dX3_isSign_12 ?_
    refine wt_icmp_ne (pc := 13) 20 hc dX3_isSign_13 (by decide) (fun c_13 => ?_) (fun c_13 => ?_)
    · refine wt_iconst (pc := 20) (v := nI 0) hc dX3_isSign_20 (by decide) ?_
      exact wt_iret (pc := 21) hc hok dX3_isSign_21 (rfl) (fun H hZ => by first | exact sp_fnT ⟨c_5, c_13⟩ hZ | exact sp_fnF (fun z => c_13 z.2) hZ | exact sp_fnF (fun z => c_5 z.1) hZ)
    · refine wt_iconst (pc := 16) (v := nI 1) hc dX3_isSign_16 (by decide) ?_
      refine wt_goto (pc := 17) 21 hc dX3_isSign_17 (by decide) ?_
      exact wt_iret (pc := 21) hc hok dX3_isSign_21 (rfl) (fun H hZ => by first | exact sp_fnT ⟨c_5, c_13⟩ hZ | exact sp_fnF (fun z => c_13 z.2) hZ | exact sp_fnF (fun z => c_5 z.1) hZ)
def sp_right (M : wt_It) (is what : Int32) : wt_It := if M 0 0 = 0 ∧ is = 0 then wt_up2 M 0 0 what else M
theorem ct_right (hE : tw_E G T) (is what : Int32) : wt_Ct l G yX3_right cX3_right 3 (some .boolean) 1 0 0 [.ref T.1, .int is, .int what] (tw_Z G T M w) (wt_fn (sp_b (sp_right M is what 0 0 = 0)) (tw_Z G T (sp_right M is what) w)) := by
  refine wt_enter [some (.ref T.1), some (.int is), some (.int what)] (by decide +kernel) rfl (Nat.le_of_ble_eq_true rfl) (fun X hc hok => ?_)
  refine wt_aload_0 (pc := 0) hc dX3_right_0 ?_
  refine tw_get (pc := 1) 0 _ hc hE dX3_right_1 q1604 (by decide) (fun _ _ _ => rfl) rfl (rfl) ?_
  refine wt_if_ne (pc := 4) 16 hc dX3_right_4 (by decide) (fun c_4 => ?_) (fun c_4 => ?_)
  · refine wt_aload_0 (pc := 16) hc dX3_right_16 ?_
    refine tw_get (pc := 17) 0 _ hc hE dX3_right_17 q1604 (by decide) (fun _ _ _ => rfl) rfl (rfl) ?_
    refine wt_if_ne (pc := 20) 27 hc dX3_right_20 (by decide) (fun c_20 => ?_) (fun c_20 => ?_)
    · refine wt_iconst (pc := 27) (v := nI 0) hc dX3_right_27 (by decide) ?_
      exact wt_iret (pc := 28) hc hok dX3_right_28 (rfl) (fun H hZ => by
        first
          | (have e : sp_right M is what = wt_up2 M 0 0 what := if_pos ⟨by assumption, by assumption⟩
             rw [e]; first | exact sp_fnT c_20 hZ | exact sp_fnF c_20 hZ)
          | (have e : sp_right M is what = M := if_neg (fun z => by first | exact c_4 z.1 | exact c_8 z.2)
             rw [e]; first | exact sp_fnT c_20 hZ | exact sp_fnF c_20 hZ))
    · refine wt_iconst (pc := 23) (v := nI 1) hc dX3_right_23 (by decide) ?_
      refine wt_goto (pc := 24) 28 hc dX3_right_24 (by decide) ?_
      exact wt_iret (pc := 28) hc hok dX3_right_28 (rfl) (fun H hZ => by
        first
          | (have e : sp_right M is what = wt_up2 M 0 0 what := if_pos ⟨by assumption, by assumption⟩
             rw [e]; first | exact sp_fnT c_20 hZ | exact sp_fnF c_20 hZ)
          | (have e : sp_right M is what = M := if_neg (fun z => by first | exact c_4 z.1 | exact c_8 z.2)
             rw [e]; first | exact sp_fnT c_20 hZ | exact sp_fnF c_20 hZ))
  · refine wt_iload_1 (pc := 7) hc dX3_right_7 ?_
    refine wt_if_ne (pc := 8) 16 hc dX3_right_8 (by decide) (fun c_8 => ?_) (fun c_8 => ?_)
    · refine wt_aload_0 (pc := 16) hc dX3_right_16 ?_
      refine tw_get (pc := 17) 0 _ hc hE dX3_right_17 q1604 (by decide) (fun _ _ _ => rfl) rfl (rfl) ?_
      refine wt_if_ne (pc := 20) 27 hc dX3_right_20 (by decide) (fun c_20 => ?_) (fun c_20 => ?_)
      · refine wt_iconst (pc := 27) (v := nI 0) hc dX3_right_27 (by decide) ?_
        exact wt_iret (pc := 28) hc hok dX3_right_28 (rfl) (fun H hZ => by
        first
          | (have e : sp_right M is what = wt_up2 M 0 0 what := if_pos ⟨by assumption, by assumption⟩
             rw [e]; first | exact sp_fnT c_20 hZ | exact sp_fnF c_20 hZ)
          | (have e : sp_right M is what = M := if_neg (fun z => by first | exact c_4 z.1 | exact c_8 z.2)
             rw [e]; first | exact sp_fnT c_20 hZ | exact sp_fnF c_20 hZ))
      · refine wt_iconst (pc := 23) (v := nI 1) hc dX3_right_23 (by decide) ?_
        refine wt_goto (pc := 24) 28 hc dX3_right_24 (by decide) ?_
        exact wt_iret (pc := 28) hc hok dX3_right_28 (rfl) (fun H hZ => by
        first
          | (have e : sp_right M is what = wt_up2 M 0 0 what := if_pos ⟨by assumption, by assumption⟩
             rw [e]; first | exact sp_fnT c_20 hZ | exact sp_fnF c_20 hZ)
          | (have e : sp_right M is what = M := if_neg (fun z => by first | exact c_4 z.1 | exact c_8 z.2)
             rw [e]; first | exact sp_fnT c_20 hZ | exact sp_fnF c_20 hZ))
    · refine wt_aload_0 (pc := 11) hc dX3_right_11 ?_
      refine wt_iload_2 (pc := 12) hc dX3_right_12 ?_
      refine tw_put (pc := 13) 0 hc hE dX3_right_13 q1604 (by decide) (fun _ _ _ => rfl) rfl rfl (rfl) rfl ?_
      refine wt_aload_0 (pc := 16) hc dX3_right_16 ?_
      refine tw_get (pc := 17) 0 _ hc hE dX3_right_17 q1604 (by decide) (fun _ _ _ => rfl) rfl (rfl) ?_
      refine wt_if_ne (pc := 20) 27 hc dX3_right_20 (by decide) (fun c_20 => ?_) (fun c_20 => ?_)
      · refine wt_iconst (pc := 27) (v := nI 0) hc dX3_right_27 (by decide) ?_
        exact wt_iret (pc := 28) hc hok dX3_right_28 (rfl) (fun H hZ => by
        first
          | (have e : sp_right M is what = wt_up2 M 0 0 what := if_pos ⟨by assumption, by assumption⟩
             rw [e]; first | exact sp_fnT c_20 hZ | exact sp_fnF c_20 hZ)
          | (have e : sp_right M is what = M := if_neg (fun z => by first | exact c_4 z.1 | exact c_8 z.2)
             rw [e]; first | exact sp_fnT c_20 hZ | exact sp_fnF c_20 hZ))
      · refine wt_iconst (pc := 23) (v := nI 1) hc dX3_right_23 (by decide) ?_
        refine wt_goto (pc := 24) 28 hc dX3_right_24 (by decide) ?_
        exact wt_iret (pc := 28) hc hok dX3_right_28 (rfl) (fun H hZ => by
        first
          | (have e : sp_right M is what = wt_up2 M 0 0 what := if_pos ⟨by assumption, by assumption⟩
             rw [e]; first | exact sp_fnT c_20 hZ | exact sp_fnF c_20 hZ)
          | (have e : sp_right M is what = M := if_neg (fun z => by first | exact c_4 z.1 | exact c_8 z.2)
             rw [e]; first | exact sp_fnT c_20 hZ | exact sp_fnF c_20 hZ))
def sp_wrong (M : wt_It) (why : Int32) : wt_It := if M 0 16 = 0 then wt_up2 (wt_up2 M 0 16 why) 0 17 (M 0 22) else M
theorem ct_wrong (hE : tw_E G T) (why : Int32) : wt_Ct l G yX3_wrong cX3_wrong 2 none 1 0 0 [.ref T.1, .int why] (tw_Z G T M w) (wt_pv (tw_Z G T (sp_wrong M why) w)) := by
  refine wt_enter [some (.ref T.1), some (.int why)] (by decide +kernel) rfl (Nat.le_of_ble_eq_true rfl) (fun X hc hok => ?_)
  refine wt_aload_0 (pc := 0) hc dX3_wrong_0 ?_
  refine tw_get (pc := 1) 16 _ hc hE dX3_wrong_1 q1620 (by decide) (fun _ _ _ => rfl) rfl (rfl) ?_
  refine wt_if_eq (pc := 4) 8 hc dX3_wrong_4 (by decide) (fun c_4 => ?_) (fun c_4 => ?_)
  · refine wt_aload_0 (pc := 8) hc dX3_wrong_8 ?_
    refine wt_iload_1 (pc := 9) hc dX3_wrong_9 ?_
    refine tw_put (pc := 10) 16 hc hE dX3_wrong_10 q1620 (by decide) (fun _ _ _ => rfl) rfl rfl (rfl) rfl ?_
    refine wt_aload_0 (pc := 13) hc dX3_wrong_13 ?_
    refine wt_aload_0 (pc := 14) hc dX3_wrong_14 ?_
    refine tw_get (pc := 15) 22 _ hc hE dX3_wrong_15 q1626 (by decide) (fun _ _ _ => rfl) rfl (rfl) ?_
    refine tw_put (pc := 18) 17 hc hE dX3_wrong_18 q1621 (by decide) (fun _ _ _ => rfl) rfl rfl (rfl) rfl ?_
    exact wt_vret (pc := 21) hc hok dX3_wrong_21 (fun H hZ => ⟨rfl, by unfold sp_wrong; first | (rw [if_pos c_4]; exact hZ) | (rw [if_neg c_4]; exact hZ)⟩)
  · exact wt_vret (pc := 7) hc hok dX3_wrong_7 (fun H hZ => ⟨rfl, by unfold sp_wrong; first | (rw [if_pos c_4]; exact hZ) | (rw [if_neg c_4]; exact hZ)⟩)
theorem ct_byteAt (hE : tw_E G T) (k : Nat) (hk : k < 700 ∨ M 0 19 ≤ nI k) : wt_Ct l G yX3_byteAt cX3_byteAt 2 (some .int) 1 0 0 [.ref T.1, .int (nI k)] (tw_Z G T M w) (wt_fn (if nI k < M 0 19 then M 14 k else 0) (tw_Z G T M w)) := by
  refine wt_enter [some (.ref T.1), some (.int (nI k))] (by decide +kernel) rfl (Nat.le_of_ble_eq_true rfl) (fun X hc hok => ?_)
  refine wt_iload_1 (pc := 0) hc dX3_byteAt_0 ?_
  refine wt_aload_0 (pc := 1) hc dX3_byteAt_1 ?_
  refine tw_get (pc := 2) 19 _ hc hE dX3_byteAt_2 q1623 (by decide) (fun _ _ _ => rfl) rfl (rfl) ?_
  refine wt_icmp_ge (pc := 5) 17 hc dX3_byteAt_5 (by decide) (fun c_5 => ?_) (fun c_5 => ?_)
  · refine wt_iconst (pc := 17) (v := nI 0) hc dX3_byteAt_17 (by decide) ?_
    exact wt_iret (pc := 18) hc hok dX3_byteAt_18 (rfl) (fun H hZ => by first | exact ⟨by rw [if_pos (Int32.not_le.mp c_5)], hZ⟩ | exact ⟨by rw [if_neg (Int32.not_lt.mpr c_5)]; rfl, hZ⟩)
  · refine wt_aload_0 (pc := 8) hc dX3_byteAt_8 ?_
    refine tw_geta (pc := 9) 14 hc hE dX3_byteAt_9 q1618 (by decide) (by decide) (fun _ _ _ => rfl) rfl ?_
    refine wt_iload_1 (pc := 12) hc dX3_byteAt_12 ?_
    refine tw_iald (pc := 13) (k := 14) (k) _ hc hE dX3_byteAt_13 rfl (rfl) (by rcases hk with h | h; exact h; exact absurd h c_5) (by decide) (rfl) ?_
    refine wt_goto (pc := 14) 18 hc dX3_byteAt_14 (by decide) ?_
    exact wt_iret (pc := 18) hc hok dX3_byteAt_18 (rfl) (fun H hZ => by first | exact ⟨by rw [if_pos (Int32.not_le.mp c_5)], hZ⟩ | exact ⟨by rw [if_neg (Int32.not_lt.mpr c_5)]; rfl, hZ⟩)
theorem ct_nests (hE : tw_E G T) (o : Int32) : wt_Ct l G yX3_nests cX3_nests 2 (some .boolean) 1 0 0 [.ref T.1, .int o] (tw_Z G T M w) (wt_fn (sp_b (M 47 3 >>> (o &&& 31) &&& 1 = 1)) (tw_Z G T M w)) := by
  refine wt_enter [some (.ref T.1), some (.int o)] (by decide +kernel) rfl (Nat.le_of_ble_eq_true rfl) (fun X hc hok => ?_)
  refine wt_aload_0 (pc := 0) hc dX3_nests_0 ?_
  refine tw_geta (pc := 1) 47 hc hE dX3_nests_1 q1651 (by decide) (by decide) (fun _ _ _ => rfl) rfl ?_
  refine wt_iconst (pc := 4) (v := nI 3) hc dX3_nests_4 (by decide) ?_
  refine tw_iald (pc := 5) (k := 47) (3) _ hc hE dX3_nests_5 rfl (rfl) (by show _ < 19; omega) (by decide) (rfl) ?_
  refine wt_iload_1 (pc := 6) hc dX3_nests_6 ?_
  refine wt_ishr (pc := 7) hc dX3_nests_7 ?_
  refine wt_iconst (pc := 8) (v := nI 1) hc dX3_nests_8 (by decide) ?_
  refine wt_iand (pc := 9) hc dX3_nests_9 ?_
  refine wt_iconst (pc := 10) (v := nI 1) hc dX3_nests_10 (by decide) ?_
  refine wt_icmp_ne (pc := 11) 18 hc dX3_nests_11 (by decide) (fun c_11 => ?_) (fun c_11 => ?_)
  · refine wt_iconst (pc := 18) (v := nI 0) hc dX3_nests_18 (by decide) ?_
    exact wt_iret (pc := 19) hc hok dX3_nests_19 (rfl) (fun H hZ => by first | exact sp_fnT (by assumption) hZ | exact sp_fnF (by assumption) hZ)
  · refine wt_iconst (pc := 14) (v := nI 1) hc dX3_nests_14 (by decide) ?_
    refine wt_goto (pc := 15) 19 hc dX3_nests_15 (by decide) ?_
    exact wt_iret (pc := 19) hc hok dX3_nests_19 (rfl) (fun H hZ => by first | exact sp_fnT (by assumption) hZ | exact sp_fnF (by assumption) hZ)
def sp_cp (M : wt_It) (a b n : Nat) : wt_It := fun k j => if k = b ∧ j < n then M a j else M k j
theorem sp_cp_up (M : wt_It) (a b n : Nat) (h : a ≠ b) : wt_up2 (sp_cp M a b n) b n (sp_cp M a b n a n) = sp_cp M a b (n + 1) := by
  funext k j
  simp only [wt_up2, sp_cp]
  by_cases hk : k = b
  · by_cases hj : j = n
    · subst hk; subst hj; simp [h]
    · by_cases hl : j < n
      · simp [hk, hj, hl, Nat.lt_succ_of_lt hl]
      · have : ¬ j < n + 1 := by omega
        simp [hk, hj, hl, this]
  · simp [hk]
theorem sp_cp_0 (M : wt_It) (a b : Nat) : sp_cp M a b 0 = M := by
  funext k j
  simp [sp_cp]
theorem ct_copies (hE : tw_E G T) (a b : Nat) (hab : a ≠ b) (ha : 0 < tw_len a) (hl : tw_len a ≤ tw_len b) (hs : tw_len b < 2 ^ 31) (hta : tw_ty a = 0) (htb : tw_ty b = 0) : wt_Ct l G yX3_copies cX3_copies 4 none 1 0 0 [.ref T.1, .ref (T.2.1 a), .ref (T.2.1 b)] (tw_Z G T M w) (wt_pv (tw_Z G T (sp_cp M a b (tw_len a)) w)) := by
  refine wt_enter [some (.ref T.1), some (.ref (T.2.1 a)), some (.ref (T.2.1 b)), none] (by decide +kernel) rfl (Nat.le_of_ble_eq_true rfl) (fun X hc hok => ?_)
  refine wt_iconst (pc := 0) (v := nI 0) hc dX3_copies_0 (by decide) ?_
  refine wt_istore_3 (pc := 1) hc dX3_copies_1 rfl ?_
  have loop : ∀ n i : Nat, i ≤ tw_len a → tw_len a - i < n → wt_V G X 2 [some (.ref T.1), some (.ref (T.2.1 a)), some (.ref (T.2.1 b)), some (.int (nI i))] [] (tw_Z G T (sp_cp M a b i) w) 0 0 := by
    intro n
    induction n with
    | zero => intro i _ h; omega
    | succ n ih =>
      intro i hi hn
      refine wt_iload_3 (pc := 2) hc dX3_copies_2 ?_
      refine wt_aload_1 (pc := 3) hc dX3_copies_3 ?_
      refine tw_alen (pc := 4) (k := a) hc hE dX3_copies_4 (ha) ?_
      refine wt_nicmp_ge (pc := 5) 20 (i) (tw_len a) hc dX3_copies_5 (by decide) (by omega) (by omega) (fun c_5 => ?_) (fun c_5 => ?_)
      · exact wt_vret (pc := 20) hc hok dX3_copies_20 (fun H hZ => ⟨rfl, by rw [show tw_len a = i by omega]; exact hZ⟩)
      · refine wt_aload_2 (pc := 8) hc dX3_copies_8 ?_
        refine wt_iload_3 (pc := 9) hc dX3_copies_9 ?_
        refine wt_aload_1 (pc := 10) hc dX3_copies_10 ?_
        refine wt_iload_3 (pc := 11) hc dX3_copies_11 ?_
        refine tw_iald (pc := 12) (k := a) (i) _ hc hE dX3_copies_12 hta (rfl) (c_5) (by omega) (rfl) ?_
        refine tw_iast (pc := 13) (k := b) (i) hc hE dX3_copies_13 htb (rfl) (by omega) hs ?_
        rw [sp_cp_up M a b i hab]
        refine wt_iinc_3 (pc := 14) (v := nI (i + 1)) hc dX3_copies_14 (nI_add i 1) rfl ?_
        refine wt_goto (pc := 17) 2 hc dX3_copies_17 (by decide) ?_
        exact ih (i + 1) (by omega) (by omega)
  rw [← sp_cp_0 M a b]
  exact loop (tw_len a + 1) 0 (by omega) (by omega)
end TA
