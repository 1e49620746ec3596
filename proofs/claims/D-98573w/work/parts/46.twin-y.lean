/-! THE REFERENCE: a line, a city: walked -/
set_option maxRecDepth 100000
section TY
variable {l : Launch} {G : wt_G} {Z : Heap → Prop} {T : tw_T} {M N : wt_It} {w : Int64}
theorem ct_readsRider (hE : tw_E G T) (n a r f o i u t : Nat) (hI : rd_I M n a r f o i u t) : wt_Ct l G yX3_readsRider cX3_readsRider 2 none 4 0 0 [.ref T.1] (tw_Z G T M w) (wt_pv (tw_Z G T (rd_rider M w).1 (rd_rider M w).2)) := by
  unfold rd_rider
  refine wt_enter [some (.ref T.1), none] (by decide +kernel) rfl (Nat.le_of_ble_eq_true rfl) (fun X hc hok => ?_)
  obtain ⟨⟨p, q, ha, hY⟩, hN⟩ := id hI
  have hi8 := hN.2.2.2.2.2.2.2.2.2.1
  have e30 := hN.2.2.2.1
  refine wt_aload_0 (pc := 0) hc dX3_readsRider_0 ?_
  refine tw_get (pc := 1) 30 (nI i) hc hE dX3_readsRider_1 q1634 (by decide) (fun _ _ _ => rfl) rfl (e30) ?_
  refine wt_bipush (pc := 4) (v := nI 8) hc dX3_readsRider_4 (by decide) ?_
  refine wt_nicmp_ne (pc := 6) 14 (i) (8) hc dX3_readsRider_6 (by decide) (by omega) (by omega) (fun c_6 => ?_) (fun c_6 => ?_)
  · rw [if_neg (by rw [e30]; exact fun z => c_6 ((nI_eq (by omega) (by decide)).mp z))] at hok
    by_cases hg : M 0 16 = 0
    · rw [if_pos hg] at hok
      unfold rd_inc at hok
      have hi7 : i < 8 := by omega
      have e30' : nn (M 0 30) = i := by rw [e30, nn_nI (by omega)]
      have i0 := hI.go
      have i1 : rd_I (rd_rd1 M w).1 n a r f o i u t := i0.rn.up (by decide)
      have i2 : rd_I (rd_rd2 M w).1 n a r f o i u t := i1.rn.up (by decide)
      have i3 : rd_I (rd_rd3 M w).1 n a r f o i u t := i2.num.up (by decide)
      obtain ⟨⟨p0, q0, -, hY0⟩, hN0⟩ := i0
      obtain ⟨⟨p1, q1, -, hY1⟩, -⟩ := i1
      obtain ⟨⟨p2, q2, -, hY2⟩, -⟩ := i2
      obtain ⟨⟨p3, q3, -, hY3⟩, -⟩ := i3
      have f1 : rd_rd1 M w = (wt_up2 (rd_rn (rd_go M).1 (rd_go M).2).2.1 42 (4 * i) (rd_rn (rd_go M).1 (rd_go M).2).1, (rd_rn (rd_go M).1 (rd_go M).2).2.2) := by unfold rd_rd1; rw [e30']
      have f2 : rd_rd2 M w = (wt_up2 (rd_rn (rd_rd1 M w).1 (rd_rd1 M w).2).2.1 42 (4 * i + 1) (rd_rn (rd_rd1 M w).1 (rd_rd1 M w).2).1, (rd_rn (rd_rd1 M w).1 (rd_rd1 M w).2).2.2) := by unfold rd_rd2; rw [e30']
      have f3 : rd_rd3 M w = (wt_up2 (rd_num (rd_rd2 M w).1 (rd_rd2 M w).2 (nI 0) (nI 400)).2.1 42 (4 * i + 2) (rd_num (rd_rd2 M w).1 (rd_rd2 M w).2 (nI 0) (nI 400)).1, (rd_num (rd_rd2 M w).1 (rd_rd2 M w).2 (nI 0) (nI 400)).2.2) := by unfold rd_rd3; rw [e30']
      have f4 : rd_rd4 M w = (wt_up2 (rd_num (rd_rd3 M w).1 (rd_rd3 M w).2 (nI 0) (nI 9)).2.1 42 (4 * i + 3) (rd_num (rd_rd3 M w).1 (rd_rd3 M w).2 (nI 0) (nI 9)).1, (rd_num (rd_rd3 M w).1 (rd_rd3 M w).2 (nI 0) (nI 9)).2.2) := by unfold rd_rd4; rw [e30']
      generalize rd_rd4 M w = R4 at *
      generalize rd_rd3 M w = R3 at *
      generalize rd_rd2 M w = R2 at *
      generalize rd_rd1 M w = R1 at *
      have s4 : wt_V G X 86 [some (.ref T.1), some (.int (nI (4 * i)))] [] (tw_Z G T R4.1 R4.2) 0 0 := by
        refine wt_aload_0 (pc := 86) hc dX3_readsRider_86 ?_
        refine wt_gofn (tw_inv (pc := 87) 0 hc hE (ct_isGood hE) dX3_readsRider_87 rfl q1868 q1870 qs57 q116 q1871 (by decide +kernel) rfl (by decide) (by decide) (Nat.le_of_ble_eq_true rfl) rfl) ?_
        refine wt_if_eq (pc := 90) 103 hc dX3_readsRider_90 (by decide) (fun c_90 => ?_) (fun c_90 => ?_)
        · exact wt_vret (pc := 103) hc hok dX3_readsRider_103 (fun H hZ => ⟨rfl, by first | (rw [if_pos (sp_b_n0 c_90)]; exact hZ) | (rw [if_neg (sp_b_0.mp c_90)]; exact hZ)⟩)
        · refine wt_aload_0 (pc := 93) hc dX3_readsRider_93 ?_
          refine wt_dup (pc := 94) hc dX3_readsRider_94 rfl ?_
          refine tw_get (pc := 95) 30 _ hc hE dX3_readsRider_95 q1634 (by decide) (fun _ _ _ => rfl) rfl (rfl) ?_
          refine wt_iconst (pc := 98) (v := nI 1) hc dX3_readsRider_98 (by decide) ?_
          refine wt_iadd (pc := 99) hc dX3_readsRider_99 ?_
          refine tw_put (pc := 100) 30 hc hE dX3_readsRider_100 q1634 (by decide) (fun _ _ _ => rfl) rfl rfl (rfl) rfl ?_
          exact wt_vret (pc := 103) hc hok dX3_readsRider_103 (fun H hZ => ⟨rfl, by first | (rw [if_pos (sp_b_n0 c_90)]; exact hZ) | (rw [if_neg (sp_b_0.mp c_90)]; exact hZ)⟩)
      have s3 : wt_V G X 71 [some (.ref T.1), some (.int (nI (4 * i)))] [] (tw_Z G T R3.1 R3.2) 0 0 := by
        rw [f4] at s4
        refine wt_aload_0 (pc := 71) hc dX3_readsRider_71 ?_
        refine tw_geta (pc := 72) 42 hc hE dX3_readsRider_72 q1646 (by decide) (by decide) (fun _ _ _ => rfl) rfl ?_
        refine wt_iload_1 (pc := 75) hc dX3_readsRider_75 ?_
        refine wt_iconst (pc := 76) (v := nI 3) hc dX3_readsRider_76 (by decide) ?_
        refine wt_iadd (pc := 77) hc dX3_readsRider_77 ?_
        rw [nI_add (4 * i) 3]
        refine wt_aload_0 (pc := 78) hc dX3_readsRider_78 ?_
        refine wt_iconst (pc := 79) (v := nI 0) hc dX3_readsRider_79 (by decide) ?_
        refine wt_bipush (pc := 80) (v := nI 9) hc dX3_readsRider_80 (by decide) ?_
        refine wt_gofn (tw_inv (pc := 82) 2 hc hE (ct_number hE n p3 hY3.inn _ _) dX3_readsRider_82 rfl q1891 q1893 qs61 q116 q1894 (by decide +kernel) rfl (by decide) (by decide) (Nat.le_of_ble_eq_true rfl) rfl) ?_
        refine tw_iast (pc := 85) (k := 42) (4 * i + 3) hc hE dX3_readsRider_85 rfl (rfl) (by show _ < 32; omega) (by decide) ?_
        exact s4
      have s2 : wt_V G X 55 [some (.ref T.1), some (.int (nI (4 * i)))] [] (tw_Z G T R2.1 R2.2) 0 0 := by
        rw [f3] at s3
        refine wt_aload_0 (pc := 55) hc dX3_readsRider_55 ?_
        refine tw_geta (pc := 56) 42 hc hE dX3_readsRider_56 q1646 (by decide) (by decide) (fun _ _ _ => rfl) rfl ?_
        refine wt_iload_1 (pc := 59) hc dX3_readsRider_59 ?_
        refine wt_iconst (pc := 60) (v := nI 2) hc dX3_readsRider_60 (by decide) ?_
        refine wt_iadd (pc := 61) hc dX3_readsRider_61 ?_
        rw [nI_add (4 * i) 2]
        refine wt_aload_0 (pc := 62) hc dX3_readsRider_62 ?_
        refine wt_iconst (pc := 63) (v := nI 0) hc dX3_readsRider_63 (by decide) ?_
        refine wt_sipush (pc := 64) (v := nI 400) hc dX3_readsRider_64 (by decide) ?_
        refine wt_gofn (tw_inv (pc := 67) 2 hc hE (ct_number hE n p2 hY2.inn _ _) dX3_readsRider_67 rfl q1891 q1893 qs61 q116 q1894 (by decide +kernel) rfl (by decide) (by decide) (Nat.le_of_ble_eq_true rfl) rfl) ?_
        refine tw_iast (pc := 70) (k := 42) (4 * i + 2) hc hE dX3_readsRider_70 rfl (rfl) (by show _ < 32; omega) (by decide) ?_
        exact s3
      have s1 : wt_V G X 43 [some (.ref T.1), some (.int (nI (4 * i)))] [] (tw_Z G T R1.1 R1.2) 0 0 := by
        rw [f2] at s2
        refine wt_aload_0 (pc := 43) hc dX3_readsRider_43 ?_
        refine tw_geta (pc := 44) 42 hc hE dX3_readsRider_44 q1646 (by decide) (by decide) (fun _ _ _ => rfl) rfl ?_
        refine wt_iload_1 (pc := 47) hc dX3_readsRider_47 ?_
        refine wt_iconst (pc := 48) (v := nI 1) hc dX3_readsRider_48 (by decide) ?_
        refine wt_iadd (pc := 49) hc dX3_readsRider_49 ?_
        rw [nI_add (4 * i) 1]
        refine wt_aload_0 (pc := 50) hc dX3_readsRider_50 ?_
        refine wt_gofn (tw_inv (pc := 51) 0 hc hE (ct_roofNext hE n p1 hY1.inn) dX3_readsRider_51 rfl q1899 q1901 qs63 q116 q1902 (by decide +kernel) rfl (by decide) (by decide) (Nat.le_of_ble_eq_true rfl) rfl) ?_
        refine tw_iast (pc := 54) (k := 42) (4 * i + 1) hc hE dX3_readsRider_54 rfl (rfl) (by show _ < 32; omega) (by decide) ?_
        exact s2
      rw [f1] at s1
      refine wt_aload_0 (pc := 14) hc dX3_readsRider_14 ?_
      refine wt_gofn (tw_inv (pc := 15) 0 hc hE (ct_isGood hE) dX3_readsRider_15 rfl q1868 q1870 qs57 q116 q1871 (by decide +kernel) rfl (by decide) (by decide) (Nat.le_of_ble_eq_true rfl) rfl) ?_
      refine wt_if_ne (pc := 18) 22 hc dX3_readsRider_18 (by decide) (fun c_18 => ?_) (fun c_18 => ?_)
      · refine wt_aload_0 (pc := 22) hc dX3_readsRider_22 ?_
        refine wt_gov (tw_inv (pc := 23) 0 hc hE (ct_goes hE n p hY.inn) dX3_readsRider_23 rfl q1854 q1856 qs55 q116 q1857 (by decide +kernel) rfl (by decide) (by decide) (Nat.le_of_ble_eq_true rfl) rfl) (Nat.zero_le _) (Nat.zero_le _) ?_
        refine wt_iconst (pc := 26) (v := nI 4) hc dX3_readsRider_26 (by decide) ?_
        refine wt_aload_0 (pc := 27) hc dX3_readsRider_27 ?_
        refine tw_get (pc := 28) 30 (nI i) hc hE dX3_readsRider_28 q1634 (by decide) (fun _ _ _ => rfl) rfl (hN0.2.2.2.1) ?_
        refine wt_imul (pc := 31) hc dX3_readsRider_31 ?_
        rw [pk_mul 4 i]
        refine wt_istore_1 (pc := 32) hc dX3_readsRider_32 rfl ?_
        refine wt_aload_0 (pc := 33) hc dX3_readsRider_33 ?_
        refine tw_geta (pc := 34) 42 hc hE dX3_readsRider_34 q1646 (by decide) (by decide) (fun _ _ _ => rfl) rfl ?_
        refine wt_iload_1 (pc := 37) hc dX3_readsRider_37 ?_
        refine wt_aload_0 (pc := 38) hc dX3_readsRider_38 ?_
        refine wt_gofn (tw_inv (pc := 39) 0 hc hE (ct_roofNext hE n p0 hY0.inn) dX3_readsRider_39 rfl q1899 q1901 qs63 q116 q1902 (by decide +kernel) rfl (by decide) (by decide) (Nat.le_of_ble_eq_true rfl) rfl) ?_
        refine tw_iast (pc := 42) (k := 42) (4 * i) hc hE dX3_readsRider_42 rfl (rfl) (by show _ < 32; omega) (by decide) ?_
        exact s1
      · exact absurd hg (sp_b_0.mp c_18)
    · rw [if_neg hg] at hok
      refine wt_aload_0 (pc := 14) hc dX3_readsRider_14 ?_
      refine wt_gofn (tw_inv (pc := 15) 0 hc hE (ct_isGood hE) dX3_readsRider_15 rfl q1868 q1870 qs57 q116 q1871 (by decide +kernel) rfl (by decide) (by decide) (Nat.le_of_ble_eq_true rfl) rfl) ?_
      refine wt_if_ne (pc := 18) 22 hc dX3_readsRider_18 (by decide) (fun c_18 => ?_) (fun c_18 => ?_)
      · exact absurd (sp_b_n0 c_18) hg
      · exact wt_vret (pc := 21) hc hok dX3_readsRider_21 (fun H hZ => ⟨rfl, hZ⟩)
  · rw [if_pos (by rw [e30, c_6])] at hok
    refine wt_aload_0 (pc := 9) hc dX3_readsRider_9 ?_
    refine wt_iconst (pc := 10) (v := nI 2) hc dX3_readsRider_10 (by decide) ?_
    refine wt_gov (tw_inv (pc := 11) 1 hc hE (ct_wrong hE _) dX3_readsRider_11 rfl q1887 q1889 qs60 q116 q1890 (by decide +kernel) rfl (by decide) (by decide) (Nat.le_of_ble_eq_true rfl) rfl) (Nat.zero_le _) (Nat.zero_le _) ?_
    refine wt_aload_0 (pc := 14) hc dX3_readsRider_14 ?_
    refine wt_gofn (tw_inv (pc := 15) 0 hc hE (ct_isGood hE) dX3_readsRider_15 rfl q1868 q1870 qs57 q116 q1871 (by decide +kernel) rfl (by decide) (by decide) (Nat.le_of_ble_eq_true rfl) rfl) ?_
    refine wt_if_ne (pc := 18) 22 hc dX3_readsRider_18 (by decide) (fun c_18 => ?_) (fun c_18 => ?_)
    · exact absurd (sp_b_n0 c_18) (sp_wrong_bad (by decide))
    · exact wt_vret (pc := 21) hc hok dX3_readsRider_21 (fun H hZ => ⟨rfl, hZ⟩)
theorem ct_need_bad (hE : tw_E G T) (hb : ¬ M 0 16 = 0) (is : Int32) : wt_Ct l G yX3_need cX3_need 2 none 3 0 0 [.ref T.1, .int is] (tw_Z G T M w) (wt_pv (tw_Z G T M w)) := by
  refine wt_enter [some (.ref T.1), some (.int is)] (by decide +kernel) rfl (Nat.le_of_ble_eq_true rfl) (fun X hc hok => ?_)
  refine wt_aload_0 (pc := 0) hc dX3_need_0 ?_
  refine wt_gofn (tw_inv (pc := 1) 0 hc hE (ct_isGood hE) dX3_need_1 rfl q1868 q1870 qs57 q116 q1871 (by decide +kernel) rfl (by decide) (by decide) (Nat.le_of_ble_eq_true rfl) rfl) ?_
  refine wt_if_ne (pc := 4) 8 hc dX3_need_4 (by decide) (fun c_4 => ?_) (fun c_4 => ?_)
  · exact absurd (sp_b_n0 c_4) hb
  · exact wt_vret (pc := 7) hc hok dX3_need_7 (fun H hZ => ⟨rfl, hZ⟩)
theorem sp_kw_or (M : wt_It) (w : Int64) : sp_kw M w = -1 ∨ ∃ k, k < 18 ∧ sp_kw M w = nI k := by
  have h : ∀ n k, k + n = 18 → sp_kwL w n k = -1 ∨ ∃ j, j < 18 ∧ sp_kwL w n k = nI j := by
    intro n
    induction n with
    | zero => intro k _; exact Or.inl rfl
    | succ n ih =>
      intro k hk
      rw [sp_kwL]
      split
      · exact Or.inr ⟨k, by omega, rfl⟩
      · exact ih (k + 1) (by omega)
  unfold sp_kw
  split
  · split
    · exact h 18 0 (by omega)
    · exact Or.inl rfl
  · exact Or.inl rfl
theorem ct_line (hE : tw_E G T) (n a r f o i u t : Nat) (hI : rd_I M n a r f o i u t) (hg : M 0 16 = 0) (ht : t ≤ 2 * a) : wt_Ct l G yX3_line cX3_line 2 none 7 0 0 [.ref T.1] (tw_Z G T M w) (wt_pv (tw_Z G T (rd_line M w).1 (rd_line M w).2)) := by
  refine wt_enter [some (.ref T.1), none] (by decide +kernel) rfl (Nat.le_of_ble_eq_true rfl) (fun X hc hok => ?_)
  have fin : ∀ s : wt_It × Int64, rd_lin1 M w = s → wt_V G X 235 [some (.ref T.1), none] [] (tw_Z G T s.1 s.2) 0 0 := by
    intro s hs
    unfold rd_line at hok
    rw [hs] at hok
    by_cases hgs : s.1 0 16 = 0
    · obtain ⟨b, r', f', o', i', u', t', hab, hI', ht'⟩ := rd_lin1_ok (w := w) hg hI ht (by rw [hs]; exact hgs)
      rw [hs] at hI'
      obtain ⟨⟨p, q, -, hY⟩, -⟩ := hI'
      refine wt_aload_0 (pc := 235) hc dX3_line_235 ?_
      refine wt_aload_0 (pc := 236) hc dX3_line_236 ?_
      refine wt_bipush (pc := 237) (v := nI 59) hc dX3_line_237 (by decide) ?_
      refine wt_gofn (tw_inv (pc := 239) 1 hc hE (ct_isSign hE _) dX3_line_239 rfl q1923 q1925 qs69 q116 q1926 (by decide +kernel) rfl (by decide) (by decide) (Nat.le_of_ble_eq_true rfl) rfl) ?_
      refine wt_gov (tw_inv (pc := 242) 1 hc hE (ct_need hE n p hY.inn _) dX3_line_242 rfl q1961 q1963 qs77 q116 q1964 (by decide +kernel) rfl (by decide) (by decide) (Nat.le_of_ble_eq_true rfl) rfl) (Nat.zero_le _) (Nat.zero_le _) ?_
      exact wt_vret (pc := 245) hc hok dX3_line_245 (fun H hZ => ⟨rfl, hZ⟩)
    · have e : ∀ is, rd_need s.1 s.2 is = s := fun is => by unfold rd_need; rw [if_neg hgs]
      rw [e] at hok
      have hneed : ∀ is : Int32, wt_Ct l G yX3_need cX3_need 2 none 3 0 0 [.ref T.1, .int is] (tw_Z G T s.1 s.2) (wt_pv (tw_Z G T s.1 s.2)) := by
        intro is
        exact ct_need_bad hE hgs is
      refine wt_aload_0 (pc := 235) hc dX3_line_235 ?_
      refine wt_aload_0 (pc := 236) hc dX3_line_236 ?_
      refine wt_bipush (pc := 237) (v := nI 59) hc dX3_line_237 (by decide) ?_
      refine wt_gofn (tw_inv (pc := 239) 1 hc hE (ct_isSign hE _) dX3_line_239 rfl q1923 q1925 qs69 q116 q1926 (by decide +kernel) rfl (by decide) (by decide) (Nat.le_of_ble_eq_true rfl) rfl) ?_
      refine wt_gov (tw_inv (pc := 242) 1 hc hE (hneed _) dX3_line_242 rfl q1961 q1963 qs77 q116 q1964 (by decide +kernel) rfl (by decide) (by decide) (Nat.le_of_ble_eq_true rfl) rfl) (Nat.zero_le _) (Nat.zero_le _) ?_
      exact wt_vret (pc := 245) hc hok dX3_line_245 (fun H hZ => ⟨rfl, hZ⟩)
  have bad : ∀ s : wt_It × Int64, rd_lin1 M w = s → ¬ s.1 0 16 = 0 → ∀ H, tw_Z G T s.1 s.2 H → tw_Z G T (rd_line M w).1 (rd_line M w).2 H := by
    intro s hs hb H hZ
    unfold rd_line rd_need
    rw [hs, if_neg hb]
    exact hZ
  obtain ⟨⟨p, q, ha, hY⟩, hN⟩ := id hI
  have i0 := hI.go
  obtain ⟨⟨p0, q0, -, hY0⟩, hN0⟩ := id i0
  have b27 := hN.2.2.2.2.2.2.1
  have b31 := hN.2.2.2.2.2.2.2.2.2.2
  rcases sp_kw_or M w with hk | ⟨k, hk18, hk⟩
  · have hl : rd_lin1 M w = (sp_wrong M (nI 1), w) := by
      unfold rd_lin1
      rw [hk, if_neg (by decide), if_neg (by decide), if_neg (by decide), if_neg (by decide), if_neg (by decide), if_neg (by decide), if_neg (by decide), if_neg (by decide)]
    have f0 := fin _ hl
    refine wt_aload_0 (pc := 0) hc dX3_line_0 ?_
    refine wt_gofn (tw_inv (pc := 1) 0 hc hE (ct_knownWord hE) dX3_line_1 rfl q1876 q1878 qs59 q116 q1879 (by decide +kernel) rfl (by decide) (by decide) (Nat.le_of_ble_eq_true rfl) rfl) ?_
    rw [hk]
    refine wt_istore_1 (pc := 4) hc dX3_line_4 rfl ?_
    refine wt_iload_1 (pc := 5) hc dX3_line_5 ?_
    refine wt_bipush (pc := 6) (v := nI 10) hc dX3_line_6 (by decide) ?_
    refine wt_icmp_ne (pc := 8) 73 hc dX3_line_8 (by decide) (fun c_8 => ?_) (fun c_8 => ?_)
    · refine wt_iload_1 (pc := 73) hc dX3_line_73 ?_
      refine wt_bipush (pc := 74) (v := nI 11) hc dX3_line_74 (by decide) ?_
      refine wt_icmp_ne (pc := 76) 86 hc dX3_line_76 (by decide) (fun c_76 => ?_) (fun c_76 => ?_)
      · refine wt_iload_1 (pc := 86) hc dX3_line_86 ?_
        refine wt_bipush (pc := 87) (v := nI 7) hc dX3_line_87 (by decide) ?_
        refine wt_icmp_lt (pc := 89) 109 hc dX3_line_89 (by decide) (fun c_89 => ?_) (fun c_89 => ?_)
        · refine wt_iload_1 (pc := 109) hc dX3_line_109 ?_
          refine wt_bipush (pc := 110) (v := nI 12) hc dX3_line_110 (by decide) ?_
          refine wt_icmp_ne (pc := 112) 122 hc dX3_line_112 (by decide) (fun c_112 => ?_) (fun c_112 => ?_)
          · refine wt_iload_1 (pc := 122) hc dX3_line_122 ?_
            refine wt_bipush (pc := 123) (v := nI 13) hc dX3_line_123 (by decide) ?_
            refine wt_icmp_ne (pc := 125) 169 hc dX3_line_125 (by decide) (fun c_125 => ?_) (fun c_125 => ?_)
            · refine wt_iload_1 (pc := 169) hc dX3_line_169 ?_
              refine wt_bipush (pc := 170) (v := nI 14) hc dX3_line_170 (by decide) ?_
              refine wt_icmp_ne (pc := 172) 230 hc dX3_line_172 (by decide) (fun c_172 => ?_) (fun c_172 => ?_)
              · refine wt_aload_0 (pc := 230) hc dX3_line_230 ?_
                refine wt_iconst (pc := 231) (v := nI 1) hc dX3_line_231 (by decide) ?_
                refine wt_gov (tw_inv (pc := 232) 1 hc hE (ct_wrong hE _) dX3_line_232 rfl q1887 q1889 qs60 q116 q1890 (by decide +kernel) rfl (by decide) (by decide) (Nat.le_of_ble_eq_true rfl) rfl) (Nat.zero_le _) (Nat.zero_le _) ?_
                exact wt_drop f0 ⟨rfl, trivial⟩
              · exact absurd c_172 (by decide)
            · exact absurd c_125 (by decide)
          · exact absurd c_112 (by decide)
        · exact absurd (by decide) c_89
      · exact absurd c_76 (by decide)
    · exact absurd c_8 (by decide)
  · have ek : ∀ j, j < 18 → (sp_kw M w = nI j ↔ k = j) := fun j hj => by rw [hk]; exact nI_eq (by omega) (by omega)
    have hl : rd_lin1 M w = if k = 10 then rd_roof M w else if k = 11 then rd_flight M w else if k = 7 then rd_owl M w (nI 0) else if k = 8 then rd_owl M w (nI 1) else if k = 9 then rd_owl M w (nI 2) else if k = 12 then rd_rider M w else if k = 13 then rd_dawn M w else if k = 14 then rd_hunt M w else (sp_wrong M (nI 1), w) := by
      unfold rd_lin1
      simp only [ek 10 (by decide), ek 11 (by decide), ek 7 (by decide), ek 8 (by decide), ek 9 (by decide), ek 12 (by decide), ek 13 (by decide), ek 14 (by decide)]
    refine wt_aload_0 (pc := 0) hc dX3_line_0 ?_
    refine wt_gofn (tw_inv (pc := 1) 0 hc hE (ct_knownWord hE) dX3_line_1 rfl q1876 q1878 qs59 q116 q1879 (by decide +kernel) rfl (by decide) (by decide) (Nat.le_of_ble_eq_true rfl) rfl) ?_
    rw [hk]
    refine wt_istore_1 (pc := 4) hc dX3_line_4 rfl ?_
    refine wt_iload_1 (pc := 5) hc dX3_line_5 ?_
    refine wt_bipush (pc := 6) (v := nI 10) hc dX3_line_6 (by decide) ?_
    refine wt_nicmp_ne (pc := 8) 73 (k) (10) hc dX3_line_8 (by decide) (by omega) (by omega) (fun c_8 => ?_) (fun c_8 => ?_)
    · -- not a roof
      rw [if_neg c_8] at hl
      refine wt_iload_1 (pc := 73) hc dX3_line_73 ?_
      refine wt_bipush (pc := 74) (v := nI 11) hc dX3_line_74 (by decide) ?_
      refine wt_nicmp_ne (pc := 76) 86 (k) (11) hc dX3_line_76 (by decide) (by omega) (by omega) (fun c_76 => ?_) (fun c_76 => ?_)
      · rw [if_neg c_76] at hl
        have b109 : ¬ (7 ≤ k ∧ k ≤ 9) → wt_V G X 109 [some (.ref T.1), some (.int (nI k))] [] (tw_Z G T M w) 0 0 := by
          intro h79
          rw [if_neg (by omega), if_neg (by omega), if_neg (by omega)] at hl
          refine wt_iload_1 (pc := 109) hc dX3_line_109 ?_
          refine wt_bipush (pc := 110) (v := nI 12) hc dX3_line_110 (by decide) ?_
          refine wt_nicmp_ne (pc := 112) 122 (k) (12) hc dX3_line_112 (by decide) (by omega) (by omega) (fun c_112 => ?_) (fun c_112 => ?_)
          · rw [if_neg c_112] at hl
            refine wt_iload_1 (pc := 122) hc dX3_line_122 ?_
            refine wt_bipush (pc := 123) (v := nI 13) hc dX3_line_123 (by decide) ?_
            refine wt_nicmp_ne (pc := 125) 169 (k) (13) hc dX3_line_125 (by decide) (by omega) (by omega) (fun c_125 => ?_) (fun c_125 => ?_)
            · rw [if_neg c_125] at hl
              refine wt_iload_1 (pc := 169) hc dX3_line_169 ?_
              refine wt_bipush (pc := 170) (v := nI 14) hc dX3_line_170 (by decide) ?_
              refine wt_nicmp_ne (pc := 172) 230 (k) (14) hc dX3_line_172 (by decide) (by omega) (by omega) (fun c_172 => ?_) (fun c_172 => ?_)
              · rw [if_neg c_172] at hl
                refine wt_aload_0 (pc := 230) hc dX3_line_230 ?_
                refine wt_iconst (pc := 231) (v := nI 1) hc dX3_line_231 (by decide) ?_
                refine wt_gov (tw_inv (pc := 232) 1 hc hE (ct_wrong hE _) dX3_line_232 rfl q1887 q1889 qs60 q116 q1890 (by decide +kernel) rfl (by decide) (by decide) (Nat.le_of_ble_eq_true rfl) rfl) (Nat.zero_le _) (Nat.zero_le _) ?_
                exact wt_drop (fin _ hl) ⟨rfl, trivial⟩
              · -- hunts
                rw [if_pos c_172] at hl
                unfold rd_hunt at hl
                refine wt_aload_0 (pc := 175) hc dX3_line_175 ?_
                refine tw_get (pc := 176) 31 (nI u) hc hE dX3_line_176 q1635 (by decide) (fun _ _ _ => rfl) rfl (hN.2.2.2.2.1) ?_
                refine wt_iconst (pc := 179) (v := nI 4) hc dX3_line_179 (by decide) ?_
                refine wt_nicmp_ne (pc := 180) 188 (u) (4) hc dX3_line_180 (by decide) (by omega) (by omega) (fun c_180 => ?_) (fun c_180 => ?_)
                · rw [if_neg (by rw [hN.2.2.2.2.1]; exact fun z => c_180 ((nI_eq (by omega) (by decide)).mp z))] at hl
                  have hI5 := rd_hu0_I hI (show u < 4 by omega)
                  obtain ⟨⟨p5, q5, ha5, a1, a2, a3, e1, e2, e3, g4, v, hv, ev⟩, f1, f2, f3, f4, f5, f6, h1, h2, h3, h4, h5⟩ := hI5
                  have e31 := hN.2.2.2.2.1
                  have e5 : rd_hu0 M = wt_up2 (wt_up2 (rd_go M).1 43 u (nI t)) 0 31 (nI (u + 1)) := by
                    unfold rd_hu0
                    rw [e31, nn_nI (by omega), nI_add, hN.2.2.2.2.2.1]
                  have hX : rd_X (wt_up2 (wt_up2 (rd_hu0 M) 0 34 (nI 0)) 0 35 (nI 0)) n p5 q5 0 t 0 := ⟨a1, a2, a3, e1, e2, e3, rfl, f6, rfl, by omega, g4⟩
                  have cx := ct_expression (l := l) (G := G) (M := rd_hu0 M) (w := (rd_go M).2) hE n p5 q5 t hX (by omega)
                  rw [e5] at cx hl
                  refine wt_aload_0 (pc := 188) hc dX3_line_188 ?_
                  refine wt_gofn (tw_inv (pc := 189) 0 hc hE (ct_isGood hE) dX3_line_189 rfl q1868 q1870 qs57 q116 q1871 (by decide +kernel) rfl (by decide) (by decide) (Nat.le_of_ble_eq_true rfl) rfl) ?_
                  refine wt_if_ne (pc := 192) 196 hc dX3_line_192 (by decide) (fun c_192 => ?_) (fun c_192 => ?_)
                  · refine wt_aload_0 (pc := 196) hc dX3_line_196 ?_
                    refine wt_gov (tw_inv (pc := 197) 0 hc hE (ct_goes hE n p hY.inn) dX3_line_197 rfl q1854 q1856 qs55 q116 q1857 (by decide +kernel) rfl (by decide) (by decide) (Nat.le_of_ble_eq_true rfl) rfl) (Nat.zero_le _) (Nat.zero_le _) ?_
                    refine wt_aload_0 (pc := 200) hc dX3_line_200 ?_
                    refine tw_geta (pc := 201) 43 hc hE dX3_line_201 q1647 (by decide) (by decide) (fun _ _ _ => rfl) rfl ?_
                    refine wt_aload_0 (pc := 204) hc dX3_line_204 ?_
                    refine tw_get (pc := 205) 31 (nI u) hc hE dX3_line_205 q1635 (by decide) (fun _ _ _ => rfl) rfl (hN0.2.2.2.2.1) ?_
                    refine wt_aload_0 (pc := 208) hc dX3_line_208 ?_
                    refine tw_get (pc := 209) 33 (nI t) hc hE dX3_line_209 q1637 (by decide) (fun _ _ _ => rfl) rfl (hN0.2.2.2.2.2.1) ?_
                    refine tw_iast (pc := 212) (k := 43) (u) hc hE dX3_line_212 rfl (rfl) (by show _ < 4; omega) (by decide) ?_
                    refine wt_aload_0 (pc := 213) hc dX3_line_213 ?_
                    refine wt_dup (pc := 214) hc dX3_line_214 rfl ?_
                    refine tw_get (pc := 215) 31 (nI u) hc hE dX3_line_215 q1635 (by decide) (fun _ _ _ => rfl) rfl (hN0.2.2.2.2.1) ?_
                    refine wt_iconst (pc := 218) (v := nI 1) hc dX3_line_218 (by decide) ?_
                    refine wt_iadd (pc := 219) hc dX3_line_219 ?_
                    rw [nI_add u 1]
                    refine tw_put (pc := 220) 31 hc hE dX3_line_220 q1635 (by decide) (fun _ _ _ => rfl) rfl rfl (rfl) rfl ?_
                    refine wt_aload_0 (pc := 223) hc dX3_line_223 ?_
                    refine wt_gov (tw_inv (pc := 224) 0 hc hE (cx) dX3_line_224 rfl q1915 q1917 qs67 q116 q1918 (by decide +kernel) rfl (by decide) (by decide) (Nat.le_of_ble_eq_true rfl) rfl) (Nat.zero_le _) (Nat.zero_le _) ?_
                    refine wt_goto (pc := 227) 235 hc dX3_line_227 (by decide) ?_
                    exact wt_drop (fin _ hl) ⟨rfl, trivial⟩
                  · exact absurd hg (sp_b_0.mp c_192)
                · rw [if_pos (by rw [hN.2.2.2.2.1, c_180])] at hl
                  refine wt_aload_0 (pc := 183) hc dX3_line_183 ?_
                  refine wt_iconst (pc := 184) (v := nI 2) hc dX3_line_184 (by decide) ?_
                  refine wt_gov (tw_inv (pc := 185) 1 hc hE (ct_wrong hE _) dX3_line_185 rfl q1887 q1889 qs60 q116 q1890 (by decide +kernel) rfl (by decide) (by decide) (Nat.le_of_ble_eq_true rfl) rfl) (Nat.zero_le _) (Nat.zero_le _) ?_
                  refine wt_aload_0 (pc := 188) hc dX3_line_188 ?_
                  refine wt_gofn (tw_inv (pc := 189) 0 hc hE (ct_isGood hE) dX3_line_189 rfl q1868 q1870 qs57 q116 q1871 (by decide +kernel) rfl (by decide) (by decide) (Nat.le_of_ble_eq_true rfl) rfl) ?_
                  refine wt_if_ne (pc := 192) 196 hc dX3_line_192 (by decide) (fun c_192 => ?_) (fun c_192 => ?_)
                  · exact absurd (sp_b_n0 c_192) (sp_wrong_bad (by decide))
                  · exact wt_vret (pc := 195) hc hok dX3_line_195 (fun H hZ => ⟨rfl, bad _ hl (sp_wrong_bad (by decide)) H hZ⟩)
            · -- dawn
              rw [if_pos c_125] at hl
              unfold rd_dawn at hl
              by_cases c : M 0 32 = -1
              · rw [if_pos c] at hl
                refine wt_aload_0 (pc := 128) hc dX3_line_128 ?_
                refine tw_get (pc := 129) 32 _ hc hE dX3_line_129 q1636 (by decide) (fun _ _ _ => rfl) rfl (rfl) ?_
                refine wt_iconst (pc := 132) (v := (-1 : Int32)) hc dX3_line_132 (by decide) ?_
                refine wt_icmp_eq (pc := 133) 141 hc dX3_line_133 (by decide) (fun c_133 => ?_) (fun c_133 => ?_)
                · refine wt_aload_0 (pc := 141) hc dX3_line_141 ?_
                  refine wt_gofn (tw_inv (pc := 142) 0 hc hE (ct_isGood hE) dX3_line_142 rfl q1868 q1870 qs57 q116 q1871 (by decide +kernel) rfl (by decide) (by decide) (Nat.le_of_ble_eq_true rfl) rfl) ?_
                  refine wt_if_ne (pc := 145) 149 hc dX3_line_145 (by decide) (fun c_145 => ?_) (fun c_145 => ?_)
                  · refine wt_aload_0 (pc := 149) hc dX3_line_149 ?_
                    refine wt_gov (tw_inv (pc := 150) 0 hc hE (ct_goes hE n p hY.inn) dX3_line_150 rfl q1854 q1856 qs55 q116 q1857 (by decide +kernel) rfl (by decide) (by decide) (Nat.le_of_ble_eq_true rfl) rfl) (Nat.zero_le _) (Nat.zero_le _) ?_
                    refine wt_aload_0 (pc := 153) hc dX3_line_153 ?_
                    refine wt_aload_0 (pc := 154) hc dX3_line_154 ?_
                    refine wt_bipush (pc := 155) (v := nI 60) hc dX3_line_155 (by decide) ?_
                    refine wt_sipush (pc := 157) (v := nI 600) hc dX3_line_157 (by decide) ?_
                    refine wt_gofn (tw_inv (pc := 160) 2 hc hE (ct_number hE n p0 hY0.inn _ _) dX3_line_160 rfl q1891 q1893 qs61 q116 q1894 (by decide +kernel) rfl (by decide) (by decide) (Nat.le_of_ble_eq_true rfl) rfl) ?_
                    refine tw_put (pc := 163) 32 hc hE dX3_line_163 q1636 (by decide) (fun _ _ _ => rfl) rfl rfl (rfl) rfl ?_
                    refine wt_goto (pc := 166) 235 hc dX3_line_166 (by decide) ?_
                    exact wt_drop (fin _ hl) ⟨rfl, trivial⟩
                  · exact absurd hg (sp_b_0.mp c_145)
                · exact absurd c c_133
              · rw [if_neg c] at hl
                refine wt_aload_0 (pc := 128) hc dX3_line_128 ?_
                refine tw_get (pc := 129) 32 _ hc hE dX3_line_129 q1636 (by decide) (fun _ _ _ => rfl) rfl (rfl) ?_
                refine wt_iconst (pc := 132) (v := (-1 : Int32)) hc dX3_line_132 (by decide) ?_
                refine wt_icmp_eq (pc := 133) 141 hc dX3_line_133 (by decide) (fun c_133 => ?_) (fun c_133 => ?_)
                · exact absurd c_133 c
                · refine wt_aload_0 (pc := 136) hc dX3_line_136 ?_
                  refine wt_iconst (pc := 137) (v := nI 5) hc dX3_line_137 (by decide) ?_
                  refine wt_gov (tw_inv (pc := 138) 1 hc hE (ct_wrong hE _) dX3_line_138 rfl q1887 q1889 qs60 q116 q1890 (by decide +kernel) rfl (by decide) (by decide) (Nat.le_of_ble_eq_true rfl) rfl) (Nat.zero_le _) (Nat.zero_le _) ?_
                  refine wt_aload_0 (pc := 141) hc dX3_line_141 ?_
                  refine wt_gofn (tw_inv (pc := 142) 0 hc hE (ct_isGood hE) dX3_line_142 rfl q1868 q1870 qs57 q116 q1871 (by decide +kernel) rfl (by decide) (by decide) (Nat.le_of_ble_eq_true rfl) rfl) ?_
                  refine wt_if_ne (pc := 145) 149 hc dX3_line_145 (by decide) (fun c_145 => ?_) (fun c_145 => ?_)
                  · exact absurd (sp_b_n0 c_145) (sp_wrong_bad (by decide))
                  · exact wt_vret (pc := 148) hc hok dX3_line_148 (fun H hZ => ⟨rfl, bad _ hl (sp_wrong_bad (by decide)) H hZ⟩)
          · -- rider
            rw [if_pos c_112] at hl
            refine wt_aload_0 (pc := 115) hc dX3_line_115 ?_
            refine wt_gov (tw_inv (pc := 116) 0 hc hE (ct_readsRider hE n a r f o i u t hI) dX3_line_116 rfl q1911 q1913 qs66 q116 q1914 (by decide +kernel) rfl (by decide) (by decide) (Nat.le_of_ble_eq_true rfl) rfl) (Nat.zero_le _) (Nat.zero_le _) ?_
            refine wt_goto (pc := 119) 235 hc dX3_line_119 (by decide) ?_
            exact wt_drop (fin _ hl) ⟨rfl, trivial⟩
        refine wt_iload_1 (pc := 86) hc dX3_line_86 ?_
        refine wt_bipush (pc := 87) (v := nI 7) hc dX3_line_87 (by decide) ?_
        refine wt_nicmp_lt (pc := 89) 109 (k) (7) hc dX3_line_89 (by decide) (by omega) (by omega) (fun c_89 => ?_) (fun c_89 => ?_)
        · exact b109 (by omega)
        · refine wt_iload_1 (pc := 92) hc dX3_line_92 ?_
          refine wt_bipush (pc := 93) (v := nI 9) hc dX3_line_93 (by decide) ?_
          refine wt_nicmp_gt (pc := 95) 109 (k) (9) hc dX3_line_95 (by decide) (by omega) (by omega) (fun c_95 => ?_) (fun c_95 => ?_)
          · exact b109 (by omega)
          · rcases (by omega : k = 7 ∨ k = 8 ∨ k = 9) with rfl | rfl | rfl
            · refine wt_aload_0 (pc := 98) hc dX3_line_98 ?_
              refine wt_iload_1 (pc := 99) hc dX3_line_99 ?_
              refine wt_bipush (pc := 100) (v := nI 7) hc dX3_line_100 (by decide) ?_
              refine wt_isub (pc := 102) hc dX3_line_102 ?_
              rw [show nI 7 - nI 7 = nI 0 from rfl]
              refine wt_gov (tw_inv (pc := 103) 1 hc hE (ct_readsOwl hE n a r f o i u t hI _) dX3_line_103 rfl q1907 q1909 qs65 q116 q1910 (by decide +kernel) rfl (by decide) (by decide) (Nat.le_of_ble_eq_true rfl) rfl) (Nat.zero_le _) (Nat.zero_le _) ?_
              refine wt_goto (pc := 106) 235 hc dX3_line_106 (by decide) ?_
              exact wt_drop (fin _ hl) ⟨rfl, trivial⟩
            · refine wt_aload_0 (pc := 98) hc dX3_line_98 ?_
              refine wt_iload_1 (pc := 99) hc dX3_line_99 ?_
              refine wt_bipush (pc := 100) (v := nI 7) hc dX3_line_100 (by decide) ?_
              refine wt_isub (pc := 102) hc dX3_line_102 ?_
              rw [show nI 8 - nI 7 = nI 1 from rfl]
              refine wt_gov (tw_inv (pc := 103) 1 hc hE (ct_readsOwl hE n a r f o i u t hI _) dX3_line_103 rfl q1907 q1909 qs65 q116 q1910 (by decide +kernel) rfl (by decide) (by decide) (Nat.le_of_ble_eq_true rfl) rfl) (Nat.zero_le _) (Nat.zero_le _) ?_
              refine wt_goto (pc := 106) 235 hc dX3_line_106 (by decide) ?_
              exact wt_drop (fin _ hl) ⟨rfl, trivial⟩
            · refine wt_aload_0 (pc := 98) hc dX3_line_98 ?_
              refine wt_iload_1 (pc := 99) hc dX3_line_99 ?_
              refine wt_bipush (pc := 100) (v := nI 7) hc dX3_line_100 (by decide) ?_
              refine wt_isub (pc := 102) hc dX3_line_102 ?_
              rw [show nI 9 - nI 7 = nI 2 from rfl]
              refine wt_gov (tw_inv (pc := 103) 1 hc hE (ct_readsOwl hE n a r f o i u t hI _) dX3_line_103 rfl q1907 q1909 qs65 q116 q1910 (by decide +kernel) rfl (by decide) (by decide) (Nat.le_of_ble_eq_true rfl) rfl) (Nat.zero_le _) (Nat.zero_le _) ?_
              refine wt_goto (pc := 106) 235 hc dX3_line_106 (by decide) ?_
              exact wt_drop (fin _ hl) ⟨rfl, trivial⟩
      · rw [if_pos c_76] at hl
        refine wt_aload_0 (pc := 79) hc dX3_line_79 ?_
        refine wt_gov (tw_inv (pc := 80) 0 hc hE (ct_readsFlight hE n a r f o i u t hI) dX3_line_80 rfl q1895 q1897 qs62 q116 q1898 (by decide +kernel) rfl (by decide) (by decide) (Nat.le_of_ble_eq_true rfl) rfl) (Nat.zero_le _) (Nat.zero_le _) ?_
        refine wt_goto (pc := 83) 235 hc dX3_line_83 (by decide) ?_
        exact wt_drop (fin _ hl) ⟨rfl, trivial⟩
    · -- a roof
      rw [if_pos c_8] at hl
      unfold rd_roof at hl
      refine wt_aload_0 (pc := 11) hc dX3_line_11 ?_
      refine tw_get (pc := 12) 27 (nI r) hc hE dX3_line_12 q1631 (by decide) (fun _ _ _ => rfl) rfl (hN.1) ?_
      refine wt_bipush (pc := 15) (v := nI 10) hc dX3_line_15 (by decide) ?_
      refine wt_nicmp_ne (pc := 17) 25 (r) (10) hc dX3_line_17 (by decide) (by omega) (by omega) (fun c_17 => ?_) (fun c_17 => ?_)
      · rw [if_neg (by rw [hN.1]; exact fun z => c_17 ((nI_eq (by omega) (by decide)).mp z))] at hl
        unfold rd_inc at hl
        have e27 : nn (M 0 27) = r := by rw [hN.1, nn_nI (by omega)]
        rw [e27] at hl
        have en : (rd_num (rd_go M).1 (rd_go M).2 (nI 0) (nI 9)).2.1 0 27 = nI r := (i0.num (w := (rd_go M).2) (lo := nI 0) (hi := nI 9)).2.1
        refine wt_aload_0 (pc := 25) hc dX3_line_25 ?_
        refine wt_gofn (tw_inv (pc := 26) 0 hc hE (ct_isGood hE) dX3_line_26 rfl q1868 q1870 qs57 q116 q1871 (by decide +kernel) rfl (by decide) (by decide) (Nat.le_of_ble_eq_true rfl) rfl) ?_
        refine wt_if_ne (pc := 29) 33 hc dX3_line_29 (by decide) (fun c_29 => ?_) (fun c_29 => ?_)
        · refine wt_aload_0 (pc := 33) hc dX3_line_33 ?_
          refine wt_gov (tw_inv (pc := 34) 0 hc hE (ct_goes hE n p hY.inn) dX3_line_34 rfl q1854 q1856 qs55 q116 q1857 (by decide +kernel) rfl (by decide) (by decide) (Nat.le_of_ble_eq_true rfl) rfl) (Nat.zero_le _) (Nat.zero_le _) ?_
          refine wt_aload_0 (pc := 37) hc dX3_line_37 ?_
          refine tw_geta (pc := 38) 36 hc hE dX3_line_38 q1640 (by decide) (by decide) (fun _ _ _ => rfl) rfl ?_
          refine wt_aload_0 (pc := 41) hc dX3_line_41 ?_
          refine tw_get (pc := 42) 27 (nI r) hc hE dX3_line_42 q1631 (by decide) (fun _ _ _ => rfl) rfl (hN0.1) ?_
          refine wt_aload_0 (pc := 45) hc dX3_line_45 ?_
          refine wt_iconst (pc := 46) (v := nI 0) hc dX3_line_46 (by decide) ?_
          refine wt_bipush (pc := 47) (v := nI 9) hc dX3_line_47 (by decide) ?_
          refine wt_gofn (tw_inv (pc := 49) 2 hc hE (ct_number hE n p0 hY0.inn _ _) dX3_line_49 rfl q1891 q1893 qs61 q116 q1894 (by decide +kernel) rfl (by decide) (by decide) (Nat.le_of_ble_eq_true rfl) rfl) ?_
          refine tw_iast (pc := 52) (k := 36) (r) hc hE dX3_line_52 rfl (rfl) (by show _ < 10; omega) (by decide) ?_
          refine wt_aload_0 (pc := 53) hc dX3_line_53 ?_
          refine wt_gofn (tw_inv (pc := 54) 0 hc hE (ct_isGood hE) dX3_line_54 rfl q1868 q1870 qs57 q116 q1871 (by decide +kernel) rfl (by decide) (by decide) (Nat.le_of_ble_eq_true rfl) rfl) ?_
          refine wt_if_eq (pc := 57) 235 hc dX3_line_57 (by decide) (fun c_57 => ?_) (fun c_57 => ?_)
          · first | (rw [if_neg (sp_b_0.mp c_57)] at hl; exact wt_drop (fin _ hl) ⟨rfl, trivial⟩) | (rw [if_pos (sp_b_n0 c_57), show wt_up2 (rd_num (rd_go M).1 (rd_go M).2 (nI 0) (nI 9)).2.1 36 r (rd_num (rd_go M).1 (rd_go M).2 (nI 0) (nI 9)).1 0 27 = nI r from en] at hl; exact wt_drop (fin _ hl) ⟨rfl, trivial⟩)
          · refine wt_aload_0 (pc := 60) hc dX3_line_60 ?_
            refine wt_dup (pc := 61) hc dX3_line_61 rfl ?_
            refine tw_get (pc := 62) 27 (nI r) hc hE dX3_line_62 q1631 (by decide) (fun _ _ _ => rfl) rfl (en) ?_
            refine wt_iconst (pc := 65) (v := nI 1) hc dX3_line_65 (by decide) ?_
            refine wt_iadd (pc := 66) hc dX3_line_66 ?_
            refine tw_put (pc := 67) 27 hc hE dX3_line_67 q1631 (by decide) (fun _ _ _ => rfl) rfl rfl (rfl) rfl ?_
            refine wt_goto (pc := 70) 235 hc dX3_line_70 (by decide) ?_
            first | (rw [if_neg (sp_b_0.mp c_57)] at hl; exact wt_drop (fin _ hl) ⟨rfl, trivial⟩) | (rw [if_pos (sp_b_n0 c_57), show wt_up2 (rd_num (rd_go M).1 (rd_go M).2 (nI 0) (nI 9)).2.1 36 r (rd_num (rd_go M).1 (rd_go M).2 (nI 0) (nI 9)).1 0 27 = nI r from en] at hl; exact wt_drop (fin _ hl) ⟨rfl, trivial⟩)
        · exact absurd hg (sp_b_0.mp c_29)
      · rw [if_pos (by rw [hN.1, c_17])] at hl
        refine wt_aload_0 (pc := 20) hc dX3_line_20 ?_
        refine wt_iconst (pc := 21) (v := nI 2) hc dX3_line_21 (by decide) ?_
        refine wt_gov (tw_inv (pc := 22) 1 hc hE (ct_wrong hE _) dX3_line_22 rfl q1887 q1889 qs60 q116 q1890 (by decide +kernel) rfl (by decide) (by decide) (Nat.le_of_ble_eq_true rfl) rfl) (Nat.zero_le _) (Nat.zero_le _) ?_
        refine wt_aload_0 (pc := 25) hc dX3_line_25 ?_
        refine wt_gofn (tw_inv (pc := 26) 0 hc hE (ct_isGood hE) dX3_line_26 rfl q1868 q1870 qs57 q116 q1871 (by decide +kernel) rfl (by decide) (by decide) (Nat.le_of_ble_eq_true rfl) rfl) ?_
        refine wt_if_ne (pc := 29) 33 hc dX3_line_29 (by decide) (fun c_29 => ?_) (fun c_29 => ?_)
        · exact absurd (sp_b_n0 c_29) (sp_wrong_bad (by decide))
        · exact wt_vret (pc := 32) hc hok dX3_line_32 (fun H hZ => ⟨rfl, bad _ hl (sp_wrong_bad (by decide)) H hZ⟩)
end TY
