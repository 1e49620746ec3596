/-! THE REFERENCE: lines of a text -/
set_option maxRecDepth 100000
def rd_Y (M : wt_It) (n p q : Nat) : Prop := n ≤ 700 ∧ q ≤ p ∧ p ≤ n ∧ M 0 19 = nI n ∧ M 0 20 = nI p ∧ M 0 22 = nI q ∧ (¬ M 0 21 = 0 → q < p) ∧ ∃ v, v < 10000 ∧ M 0 24 = nI v
def rd_N (M : wt_It) (r f o i u t : Nat) : Prop := M 0 27 = nI r ∧ M 0 28 = nI f ∧ M 0 29 = nI o ∧ M 0 30 = nI i ∧ M 0 31 = nI u ∧ M 0 33 = nI t ∧ r ≤ 10 ∧ f ≤ 18 ∧ o ≤ 5 ∧ i ≤ 8 ∧ u ≤ 4
theorem rd_Y.inn {M : wt_It} {n p q : Nat} (h : rd_Y M n p q) : rd_in M n p := ⟨h.1, h.2.2.1, h.2.2.2.1, h.2.2.2.2.1⟩
theorem rd_Y.of {M M' : wt_It} {n p q : Nat} (h : rd_Y M n p q) (e : ∀ j, j ≠ 16 → j ≠ 17 → M' 0 j = M 0 j) : rd_Y M' n p q := by
  obtain ⟨a, b, c, e1, e2, e3, g, v, hv, ev⟩ := h
  exact ⟨a, b, c, (e _ (by decide) (by decide)).trans e1, (e _ (by decide) (by decide)).trans e2, (e _ (by decide) (by decide)).trans e3, fun z => g (fun y => z ((e _ (by decide) (by decide)).trans y)), v, hv, (e _ (by decide) (by decide)).trans ev⟩
theorem rd_N.of {M M' : wt_It} {r f o i u t : Nat} (h : rd_N M r f o i u t) (e : ∀ j, j ≠ 16 → j ≠ 17 → M' 0 j = M 0 j) : rd_N M' r f o i u t := by
  obtain ⟨e1, e2, e3, e4, e5, e6, g⟩ := h
  exact ⟨(e _ (by decide) (by decide)).trans e1, (e _ (by decide) (by decide)).trans e2, (e _ (by decide) (by decide)).trans e3, (e _ (by decide) (by decide)).trans e4, (e _ (by decide) (by decide)).trans e5, (e _ (by decide) (by decide)).trans e6, g⟩
theorem rd_Y.go {M : wt_It} {n p q : Nat} (h : rd_Y M n p q) : ∃ q' p', p ≤ q' ∧ rd_Y (rd_go M).1 n p' q' := by
  obtain ⟨a, b, q', p', h1, h2, h3, h4, h5, h6⟩ := rd_go_f h.inn
  have hv := rd_go_v h.inn
  exact ⟨q', p', h1, h.1, h2, h3, (b _ (by decide) (by decide) (by decide) (by decide) (by decide) (by decide)).trans h.2.2.2.1, h5, h4, h6, hv⟩
theorem rd_N.go {M : wt_It} {r f o i u t n p : Nat} (h : rd_N M r f o i u t) (hi : rd_in M n p) : rd_N (rd_go M).1 r f o i u t := by
  obtain ⟨a, b, -⟩ := rd_go_f hi
  obtain ⟨e1, e2, e3, e4, e5, e6, g⟩ := h
  exact ⟨(b _ (by decide) (by decide) (by decide) (by decide) (by decide) (by decide)).trans e1, (b _ (by decide) (by decide) (by decide) (by decide) (by decide) (by decide)).trans e2, (b _ (by decide) (by decide) (by decide) (by decide) (by decide) (by decide)).trans e3, (b _ (by decide) (by decide) (by decide) (by decide) (by decide) (by decide)).trans e4, (b _ (by decide) (by decide) (by decide) (by decide) (by decide) (by decide)).trans e5, (b _ (by decide) (by decide) (by decide) (by decide) (by decide) (by decide)).trans e6, g⟩
/-- both, at some place not before a -/
def rd_I (M : wt_It) (n a r f o i u t : Nat) : Prop := (∃ p q, a ≤ q ∧ rd_Y M n p q) ∧ rd_N M r f o i u t
theorem rd_I.of {M M' : wt_It} {n a r f o i u t : Nat} (h : rd_I M n a r f o i u t) (e : ∀ j, j ≠ 16 → j ≠ 17 → M' 0 j = M 0 j) : rd_I M' n a r f o i u t := by
  obtain ⟨⟨p, q, g, h1⟩, h2⟩ := h
  exact ⟨⟨p, q, g, h1.of e⟩, h2.of e⟩
theorem rd_I.wrong {M : wt_It} {n a r f o i u t : Nat} (h : rd_I M n a r f o i u t) (k : Int32) : rd_I (sp_wrong M k) n a r f o i u t := h.of fun _ h1 h2 => sp_wrong_at h1 h2
theorem rd_I.go {M : wt_It} {n a r f o i u t : Nat} (h : rd_I M n a r f o i u t) : rd_I (rd_go M).1 n a r f o i u t := by
  obtain ⟨⟨p, q, g, h1⟩, h2⟩ := h
  obtain ⟨q', p', g1, g2⟩ := h1.go
  exact ⟨⟨p', q', by have := h1.2.1; omega, g2⟩, h2.go h1.inn⟩
theorem rd_I.ifgo {M : wt_It} {w : Int64} {n a r f o i u t : Nat} (h : rd_I M n a r f o i u t) : rd_I (rd_ifgo M w).1 n a r f o i u t := by
  unfold rd_ifgo
  split
  · exact h.go
  · exact h
theorem rd_I.num {M : wt_It} {w : Int64} {lo hi : Int32} {n a r f o i u t : Nat} (h : rd_I M n a r f o i u t) : rd_I (rd_num M w lo hi).2.1 n a r f o i u t := by
  unfold rd_num
  split
  · exact (h.of (M' := rd_nchk M lo hi) fun _ h1 h2 => rd_nchk_at h1 h2).ifgo
  · exact h
theorem rd_I.rh {M : wt_It} {n a r f o i u t : Nat} (h : rd_I M n a r f o i u t) : rd_I (rd_rh M).2 n a r f o i u t := h.of fun _ h1 h2 => rd_rh_at h1 h2
theorem rd_I.rn {M : wt_It} {w : Int64} {n a r f o i u t : Nat} (h : rd_I M n a r f o i u t) : rd_I (rd_rn M w).2.1 n a r f o i u t := h.rh.ifgo
/-- a roof that was read -/
theorem rd_rh_v {M : wt_It} {n a r f o i u t : Nat} (h : rd_I M n a r f o i u t) : ∃ v, (rd_rh M).1 = nI v ∧ v < 10 := by
  obtain ⟨⟨p, q, g, h1⟩, h2⟩ := h
  obtain ⟨v, hv, ev⟩ := h1.2.2.2.2.2.2.2
  have hr := h2.2.2.2.2.2.2.1
  unfold rd_rh
  by_cases c : M 0 16 = 0
  · rw [if_pos c]
    by_cases c2 : rd_rchk M 0 16 = 0
    · rw [if_pos c2]
      refine ⟨v, ev, ?_⟩
      unfold rd_rchk at c2
      split at c2
      · split at c2
        · split at c2
          · rename_i c3
            rw [ev, h2.1] at c3
            have := (nI_ltI (by omega) (by omega)).mp c3
            omega
          · exact absurd c2 (sp_wrong_bad (by decide))
        · exact absurd c2 (sp_wrong_bad (by decide))
      · exact absurd c2 (sp_wrong_bad (by decide))
    · rw [if_neg c2]
      exact ⟨0, rfl, by decide⟩
  · rw [if_neg c]
    exact ⟨0, rfl, by decide⟩
def rd_if (c : Prop) [Decidable c] (M : wt_It) (k : Nat) : wt_It := if c then sp_wrong M (nI k) else M
def rd_fl3 (M : wt_It) (w : Int64) (a b : Int32) : wt_It × Int64 :=
  let x := rd_num (rd_go M).1 (rd_go M).2 (nI 1) (nI 60)
  (wt_up2 (wt_up2 (wt_up2 x.2.1 37 (10 * nn a + nn b) x.1) 37 (10 * nn b + nn a) x.1) 0 28 (x.2.1 0 28 + nI 1), x.2.2)
def rd_fl2 (M : wt_It) (w : Int64) (a b : Int32) : wt_It × Int64 :=
  if M 0 16 = 0 then (if a = b then (sp_wrong M (nI 4), w) else if M 37 (10 * nn a + nn b) = 0 then rd_fl3 M w a b else (sp_wrong M (nI 4), w)) else (M, w)
def rd_flight (M : wt_It) (w : Int64) : wt_It × Int64 :=
  if M 0 28 = nI 18 then (sp_wrong M (nI 2), w)
  else if M 0 16 = 0 then rd_fl2 (rd_rh (rd_rn (rd_go M).1 (rd_go M).2).2.1).2 (rd_rn (rd_go M).1 (rd_go M).2).2.2 (rd_rn (rd_go M).1 (rd_go M).2).1 (rd_rh (rd_rn (rd_go M).1 (rd_go M).2).2.1).1 else (M, w)
section TV
variable {l : Launch} {G : wt_G} {Z : Heap → Prop} {T : tw_T} {M N : wt_It} {w : Int64}
theorem ct_readsFlight (hE : tw_E G T) (n a r f o i u t : Nat) (hI : rd_I M n a r f o i u t) : wt_Ct l G yX3_readsFlight cX3_readsFlight 4 none 4 0 0 [.ref T.1] (tw_Z G T M w) (wt_pv (tw_Z G T (rd_flight M w).1 (rd_flight M w).2)) := by
  unfold rd_flight
  refine wt_enter [some (.ref T.1), none, none, none] (by decide +kernel) rfl (Nat.le_of_ble_eq_true rfl) (fun X hc hok => ?_)
  have hI0 := hI
  obtain ⟨⟨p, q, ha, hY⟩, hN⟩ := hI
  have hf18 := hN.2.2.2.2.2.2.2.1
  refine wt_aload_0 (pc := 0) hc dX3_readsFlight_0 ?_
  refine tw_get (pc := 1) 28 (nI f) hc hE dX3_readsFlight_1 q1632 (by decide) (fun _ _ _ => rfl) rfl (hN.2.1) ?_
  refine wt_bipush (pc := 4) (v := nI 18) hc dX3_readsFlight_4 (by decide) ?_
  refine wt_nicmp_ne (pc := 6) 14 (f) (18) hc dX3_readsFlight_6 (by decide) (by omega) (by omega) (fun c_6 => ?_) (fun c_6 => ?_)
  · rw [if_neg (by rw [hN.2.1]; exact fun z => c_6 ((nI_eq (by have := hN.2.2.2.2.2.2.2.1; omega) (by decide)).mp z))] at hok
    by_cases hg : M 0 16 = 0
    · rw [if_pos hg] at hok
      have hI1 := hI0.go
      have hI2 := hI1.rn (w := (rd_go M).2)
      have hI3 := hI2.rh
      obtain ⟨v1, e1, b1⟩ := rd_rh_v hI1
      obtain ⟨v2, e2, b2⟩ := rd_rh_v hI2
      have e1' : (rd_rn (rd_go M).1 (rd_go M).2).1 = nI v1 := e1
      rw [e1', e2] at hok
      generalize hA : (rd_rh (rd_rn (rd_go M).1 (rd_go M).2).2.1).2 = A at hok hI3
      generalize hw : (rd_rn (rd_go M).1 (rd_go M).2).2.2 = u2 at hok
      unfold rd_fl2 at hok
      rw [nn_nI (by omega), nn_nI (by omega)] at hok
      have good : A 0 16 = 0 → ¬ nI v1 = nI v2 → A 37 (10 * v1 + v2) = 0 → wt_V G X 67 [some (.ref T.1), some (.int (nI v1)), some (.int (nI v2)), none] [] (tw_Z G T A u2) 0 0 := by
        intro g1 g2 g3
        rw [if_pos g1, if_neg g2, if_pos g3] at hok
        unfold rd_fl3 at hok
        rw [nn_nI (by omega), nn_nI (by omega)] at hok
        obtain ⟨⟨p3, q3, -, hY3⟩, -⟩ := id hI3
        obtain ⟨⟨p4, q4, -, hY4⟩, -⟩ := hI3.go
        refine wt_aload_0 (pc := 67) hc dX3_readsFlight_67 ?_
        refine wt_gofn (tw_inv (pc := 68) 0 hc hE (ct_isGood hE) dX3_readsFlight_68 rfl q1868 q1870 qs57 q116 q1871 (by decide +kernel) rfl (by decide) (by decide) (Nat.le_of_ble_eq_true rfl) rfl) ?_
        refine wt_if_ne (pc := 71) 75 hc dX3_readsFlight_71 (by decide) (fun c_71 => ?_) (fun c_71 => ?_)
        · refine wt_aload_0 (pc := 75) hc dX3_readsFlight_75 ?_
          refine wt_gov (tw_inv (pc := 76) 0 hc hE (ct_goes hE n p3 hY3.inn) dX3_readsFlight_76 rfl q1854 q1856 qs55 q116 q1857 (by decide +kernel) rfl (by decide) (by decide) (Nat.le_of_ble_eq_true rfl) rfl) (Nat.zero_le _) (Nat.zero_le _) ?_
          refine wt_aload_0 (pc := 79) hc dX3_readsFlight_79 ?_
          refine wt_iconst (pc := 80) (v := nI 1) hc dX3_readsFlight_80 (by decide) ?_
          refine wt_bipush (pc := 81) (v := nI 60) hc dX3_readsFlight_81 (by decide) ?_
          refine wt_gofn (tw_inv (pc := 83) 2 hc hE (ct_number hE n p4 hY4.inn _ _) dX3_readsFlight_83 rfl q1891 q1893 qs61 q116 q1894 (by decide +kernel) rfl (by decide) (by decide) (Nat.le_of_ble_eq_true rfl) rfl) ?_
          refine wt_istore_3 (pc := 86) hc dX3_readsFlight_86 rfl ?_
          refine wt_aload_0 (pc := 87) hc dX3_readsFlight_87 ?_
          refine tw_geta (pc := 88) 37 hc hE dX3_readsFlight_88 q1641 (by decide) (by decide) (fun _ _ _ => rfl) rfl ?_
          refine wt_bipush (pc := 91) (v := nI 10) hc dX3_readsFlight_91 (by decide) ?_
          refine wt_iload_1 (pc := 93) hc dX3_readsFlight_93 ?_
          refine wt_imul (pc := 94) hc dX3_readsFlight_94 ?_
          rw [pk_mul 10 v1]
          refine wt_iload_2 (pc := 95) hc dX3_readsFlight_95 ?_
          refine wt_iadd (pc := 96) hc dX3_readsFlight_96 ?_
          rw [nI_add (10 * v1) v2]
          refine wt_iload_3 (pc := 97) hc dX3_readsFlight_97 ?_
          refine tw_iast (pc := 98) (k := 37) (10 * v1 + v2) hc hE dX3_readsFlight_98 rfl (rfl) (by show _ < 100; omega) (by decide) ?_
          refine wt_aload_0 (pc := 99) hc dX3_readsFlight_99 ?_
          refine tw_geta (pc := 100) 37 hc hE dX3_readsFlight_100 q1641 (by decide) (by decide) (fun _ _ _ => rfl) rfl ?_
          refine wt_bipush (pc := 103) (v := nI 10) hc dX3_readsFlight_103 (by decide) ?_
          refine wt_iload_2 (pc := 105) hc dX3_readsFlight_105 ?_
          refine wt_imul (pc := 106) hc dX3_readsFlight_106 ?_
          rw [pk_mul 10 v2]
          refine wt_iload_1 (pc := 107) hc dX3_readsFlight_107 ?_
          refine wt_iadd (pc := 108) hc dX3_readsFlight_108 ?_
          rw [nI_add (10 * v2) v1]
          refine wt_iload_3 (pc := 109) hc dX3_readsFlight_109 ?_
          refine tw_iast (pc := 110) (k := 37) (10 * v2 + v1) hc hE dX3_readsFlight_110 rfl (rfl) (by show _ < 100; omega) (by decide) ?_
          refine wt_aload_0 (pc := 111) hc dX3_readsFlight_111 ?_
          refine wt_dup (pc := 112) hc dX3_readsFlight_112 rfl ?_
          refine tw_get (pc := 113) 28 _ hc hE dX3_readsFlight_113 q1632 (by decide) (fun _ _ _ => rfl) rfl (rfl) ?_
          refine wt_iconst (pc := 116) (v := nI 1) hc dX3_readsFlight_116 (by decide) ?_
          refine wt_iadd (pc := 117) hc dX3_readsFlight_117 ?_
          refine tw_put (pc := 118) 28 hc hE dX3_readsFlight_118 q1632 (by decide) (fun _ _ _ => rfl) rfl rfl (rfl) rfl ?_
          exact wt_vret (pc := 121) hc hok dX3_readsFlight_121 (fun H hZ => ⟨rfl, hZ⟩)
        · exact absurd g1 (sp_b_0.mp c_71)
      have bad : ∀ B : wt_It, ¬ B 0 16 = 0 → (∀ H, tw_Z G T B u2 H → tw_Z G T (if A 0 16 = 0 then if nI v1 = nI v2 then (sp_wrong A (nI 4), u2) else if A 37 (10 * v1 + v2) = 0 then rd_fl3 A u2 (nI v1) (nI v2) else (sp_wrong A (nI 4), u2) else (A, u2)).1 (if A 0 16 = 0 then if nI v1 = nI v2 then (sp_wrong A (nI 4), u2) else if A 37 (10 * v1 + v2) = 0 then rd_fl3 A u2 (nI v1) (nI v2) else (sp_wrong A (nI 4), u2) else (A, u2)).2 H) → wt_V G X 67 [some (.ref T.1), some (.int (nI v1)), some (.int (nI v2)), none] [] (tw_Z G T B u2) 0 0 := by
        intro B hB hv
        refine wt_aload_0 (pc := 67) hc dX3_readsFlight_67 ?_
        refine wt_gofn (tw_inv (pc := 68) 0 hc hE (ct_isGood hE) dX3_readsFlight_68 rfl q1868 q1870 qs57 q116 q1871 (by decide +kernel) rfl (by decide) (by decide) (Nat.le_of_ble_eq_true rfl) rfl) ?_
        refine wt_if_ne (pc := 71) 75 hc dX3_readsFlight_71 (by decide) (fun c_71 => ?_) (fun c_71 => ?_)
        · exact absurd (sp_b_n0 c_71) hB
        · exact wt_vret (pc := 74) hc hok dX3_readsFlight_74 (fun H hZ => ⟨rfl, hv H hZ⟩)
      obtain ⟨⟨p1, q1, -, hY1⟩, -⟩ := hI1
      refine wt_aload_0 (pc := 14) hc dX3_readsFlight_14 ?_
      refine wt_gofn (tw_inv (pc := 15) 0 hc hE (ct_isGood hE) dX3_readsFlight_15 rfl q1868 q1870 qs57 q116 q1871 (by decide +kernel) rfl (by decide) (by decide) (Nat.le_of_ble_eq_true rfl) rfl) ?_
      refine wt_if_ne (pc := 18) 22 hc dX3_readsFlight_18 (by decide) (fun c_18 => ?_) (fun c_18 => ?_)
      · refine wt_aload_0 (pc := 22) hc dX3_readsFlight_22 ?_
        refine wt_gov (tw_inv (pc := 23) 0 hc hE (ct_goes hE n p hY.inn) dX3_readsFlight_23 rfl q1854 q1856 qs55 q116 q1857 (by decide +kernel) rfl (by decide) (by decide) (Nat.le_of_ble_eq_true rfl) rfl) (Nat.zero_le _) (Nat.zero_le _) ?_
        refine wt_aload_0 (pc := 26) hc dX3_readsFlight_26 ?_
        refine wt_gofn (tw_inv (pc := 27) 0 hc hE (ct_roofNext hE n p1 hY1.inn) dX3_readsFlight_27 rfl q1899 q1901 qs63 q116 q1902 (by decide +kernel) rfl (by decide) (by decide) (Nat.le_of_ble_eq_true rfl) rfl) ?_
        rw [e1']
        refine wt_istore_1 (pc := 30) hc dX3_readsFlight_30 rfl ?_
        refine wt_aload_0 (pc := 31) hc dX3_readsFlight_31 ?_
        refine wt_gofn (tw_inv (pc := 32) 0 hc hE (ct_roofHere hE) dX3_readsFlight_32 rfl q1903 q1905 qs64 q116 q1906 (by decide +kernel) rfl (by decide) (by decide) (Nat.le_of_ble_eq_true rfl) rfl) ?_
        rw [e2, hA, hw]
        refine wt_istore_2 (pc := 35) hc dX3_readsFlight_35 rfl ?_
        refine wt_aload_0 (pc := 36) hc dX3_readsFlight_36 ?_
        refine wt_gofn (tw_inv (pc := 37) 0 hc hE (ct_isGood hE) dX3_readsFlight_37 rfl q1868 q1870 qs57 q116 q1871 (by decide +kernel) rfl (by decide) (by decide) (Nat.le_of_ble_eq_true rfl) rfl) ?_
        refine wt_if_eq (pc := 40) 67 hc dX3_readsFlight_40 (by decide) (fun c_40 => ?_) (fun c_40 => ?_)
        · first | exact bad _ (sp_b_0.mp c_40) (fun H hZ => by rw [if_neg (sp_b_0.mp c_40)]; exact hZ) | exact bad _ (sp_wrong_bad (by decide)) (fun H hZ => by rw [if_pos (sp_b_n0 c_40), if_pos (by rw [c_45])]; exact hZ) | exact good (sp_b_n0 c_40) (fun z => c_45 ((nI_eq (by omega) (by omega)).mp z)) c_59 | exact bad _ (sp_wrong_bad (by decide)) (fun H hZ => by rw [if_pos (sp_b_n0 c_40), if_neg (fun z => c_45 ((nI_eq (by omega) (by omega)).mp z)), if_neg c_59]; exact hZ)
        · refine wt_iload_1 (pc := 43) hc dX3_readsFlight_43 ?_
          refine wt_iload_2 (pc := 44) hc dX3_readsFlight_44 ?_
          refine wt_nicmp_eq (pc := 45) 62 (v1) (v2) hc dX3_readsFlight_45 (by decide) (by omega) (by omega) (fun c_45 => ?_) (fun c_45 => ?_)
          · refine wt_aload_0 (pc := 62) hc dX3_readsFlight_62 ?_
            refine wt_iconst (pc := 63) (v := nI 4) hc dX3_readsFlight_63 (by decide) ?_
            refine wt_gov (tw_inv (pc := 64) 1 hc hE (ct_wrong hE _) dX3_readsFlight_64 rfl q1887 q1889 qs60 q116 q1890 (by decide +kernel) rfl (by decide) (by decide) (Nat.le_of_ble_eq_true rfl) rfl) (Nat.zero_le _) (Nat.zero_le _) ?_
            first | exact bad _ (sp_b_0.mp c_40) (fun H hZ => by rw [if_neg (sp_b_0.mp c_40)]; exact hZ) | exact bad _ (sp_wrong_bad (by decide)) (fun H hZ => by rw [if_pos (sp_b_n0 c_40), if_pos (by rw [c_45])]; exact hZ) | exact good (sp_b_n0 c_40) (fun z => c_45 ((nI_eq (by omega) (by omega)).mp z)) c_59 | exact bad _ (sp_wrong_bad (by decide)) (fun H hZ => by rw [if_pos (sp_b_n0 c_40), if_neg (fun z => c_45 ((nI_eq (by omega) (by omega)).mp z)), if_neg c_59]; exact hZ)
          · refine wt_aload_0 (pc := 48) hc dX3_readsFlight_48 ?_
            refine tw_geta (pc := 49) 37 hc hE dX3_readsFlight_49 q1641 (by decide) (by decide) (fun _ _ _ => rfl) rfl ?_
            refine wt_bipush (pc := 52) (v := nI 10) hc dX3_readsFlight_52 (by decide) ?_
            refine wt_iload_1 (pc := 54) hc dX3_readsFlight_54 ?_
            refine wt_imul (pc := 55) hc dX3_readsFlight_55 ?_
            rw [pk_mul 10 v1]
            refine wt_iload_2 (pc := 56) hc dX3_readsFlight_56 ?_
            refine wt_iadd (pc := 57) hc dX3_readsFlight_57 ?_
            rw [nI_add (10 * v1) v2]
            refine tw_iald (pc := 58) (k := 37) (10 * v1 + v2) _ hc hE dX3_readsFlight_58 rfl (rfl) (by show _ < 100; omega) (by decide) (rfl) ?_
            refine wt_if_eq (pc := 59) 67 hc dX3_readsFlight_59 (by decide) (fun c_59 => ?_) (fun c_59 => ?_)
            · first | exact bad _ (sp_b_0.mp c_40) (fun H hZ => by rw [if_neg (sp_b_0.mp c_40)]; exact hZ) | exact bad _ (sp_wrong_bad (by decide)) (fun H hZ => by rw [if_pos (sp_b_n0 c_40), if_pos (by rw [c_45])]; exact hZ) | exact good (sp_b_n0 c_40) (fun z => c_45 ((nI_eq (by omega) (by omega)).mp z)) c_59 | exact bad _ (sp_wrong_bad (by decide)) (fun H hZ => by rw [if_pos (sp_b_n0 c_40), if_neg (fun z => c_45 ((nI_eq (by omega) (by omega)).mp z)), if_neg c_59]; exact hZ)
            · refine wt_aload_0 (pc := 62) hc dX3_readsFlight_62 ?_
              refine wt_iconst (pc := 63) (v := nI 4) hc dX3_readsFlight_63 (by decide) ?_
              refine wt_gov (tw_inv (pc := 64) 1 hc hE (ct_wrong hE _) dX3_readsFlight_64 rfl q1887 q1889 qs60 q116 q1890 (by decide +kernel) rfl (by decide) (by decide) (Nat.le_of_ble_eq_true rfl) rfl) (Nat.zero_le _) (Nat.zero_le _) ?_
              first | exact bad _ (sp_b_0.mp c_40) (fun H hZ => by rw [if_neg (sp_b_0.mp c_40)]; exact hZ) | exact bad _ (sp_wrong_bad (by decide)) (fun H hZ => by rw [if_pos (sp_b_n0 c_40), if_pos (by rw [c_45])]; exact hZ) | exact good (sp_b_n0 c_40) (fun z => c_45 ((nI_eq (by omega) (by omega)).mp z)) c_59 | exact bad _ (sp_wrong_bad (by decide)) (fun H hZ => by rw [if_pos (sp_b_n0 c_40), if_neg (fun z => c_45 ((nI_eq (by omega) (by omega)).mp z)), if_neg c_59]; exact hZ)
      · exact absurd hg (sp_b_0.mp c_18)
    · rw [if_neg hg] at hok
      refine wt_aload_0 (pc := 14) hc dX3_readsFlight_14 ?_
      refine wt_gofn (tw_inv (pc := 15) 0 hc hE (ct_isGood hE) dX3_readsFlight_15 rfl q1868 q1870 qs57 q116 q1871 (by decide +kernel) rfl (by decide) (by decide) (Nat.le_of_ble_eq_true rfl) rfl) ?_
      refine wt_if_ne (pc := 18) 22 hc dX3_readsFlight_18 (by decide) (fun c_18 => ?_) (fun c_18 => ?_)
      · exact absurd (sp_b_n0 c_18) hg
      · exact wt_vret (pc := 21) hc hok dX3_readsFlight_21 (fun H hZ => ⟨rfl, hZ⟩)
  · rw [if_pos (by rw [hN.2.1, c_6])] at hok
    refine wt_aload_0 (pc := 9) hc dX3_readsFlight_9 ?_
    refine wt_iconst (pc := 10) (v := nI 2) hc dX3_readsFlight_10 (by decide) ?_
    refine wt_gov (tw_inv (pc := 11) 1 hc hE (ct_wrong hE _) dX3_readsFlight_11 rfl q1887 q1889 qs60 q116 q1890 (by decide +kernel) rfl (by decide) (by decide) (Nat.le_of_ble_eq_true rfl) rfl) (Nat.zero_le _) (Nat.zero_le _) ?_
    refine wt_aload_0 (pc := 14) hc dX3_readsFlight_14 ?_
    refine wt_gofn (tw_inv (pc := 15) 0 hc hE (ct_isGood hE) dX3_readsFlight_15 rfl q1868 q1870 qs57 q116 q1871 (by decide +kernel) rfl (by decide) (by decide) (Nat.le_of_ble_eq_true rfl) rfl) ?_
    refine wt_if_ne (pc := 18) 22 hc dX3_readsFlight_18 (by decide) (fun c_18 => ?_) (fun c_18 => ?_)
    · exact absurd (sp_b_n0 c_18) (sp_wrong_bad (by decide))
    · exact wt_vret (pc := 21) hc hok dX3_readsFlight_21 (fun H hZ => ⟨rfl, hZ⟩)
end TV
