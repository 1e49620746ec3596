/-! THE REFERENCE: hunts, nights -/
set_option maxRecDepth 100000
def sp_h0 (M : wt_It) (r : Nat) : Int32 := if M 56 r ≤ 0 then nI 2 else nI 3
def sp_told (M : wt_It) (o r : Nat) : wt_It := wt_up2 (wt_up2 (wt_up2 (wt_up2 (wt_up2 (wt_up2 (wt_up2 M 52 0 (M 56 r)) 52 1 (M 47 (4 + r))) 52 2 (M 8 o)) 52 3 (M 58 o)) 52 4 (M 47 1)) 52 5 (M 47 2)) 52 6 (M 59 o / nI 60)
def sp_clamp (v : Int32) : Int32 := if 0 ≤ v then (if v ≤ nI 30 then v else nI 30) else nI 0
/-- the memory behind huntsFor, what it answers -/
def sp_huM (M : wt_It) (o r : Nat) : wt_It := if M 47 0 = -1 then M else sp_rk 2800 (sp_told M o r) (nn (M 12 (nn (M 47 0)))) 0
def sp_hu (M : wt_It) (o r : Nat) : Int32 := if M 47 0 = -1 then sp_clamp (sp_h0 M r) else sp_clamp (sp_huM M o r 53 0)
/-- the rule in force can be run -/
def sp_fok (M : wt_It) : Prop := M 47 0 = -1 ∨ ∃ f k, f < 4 ∧ k < 2 ^ 31 ∧ M 47 0 = nI f ∧ M 12 f = nI k ∧ sp_cok (M 13) 2800 k 0
theorem sp_told_row {M : wt_It} {o r k : Nat} (h : k ≠ 52) : sp_told M o r k = M k := by
  simp only [sp_told, wt_up2_row h]
theorem sp_huM_row {M : wt_It} {o r k : Nat} (h : k ≠ 52) (h2 : k ≠ 53) : sp_huM M o r k = M k := by
  unfold sp_huM
  split
  · rfl
  · rw [sp_rk_row _ _ _ _ _ h2, sp_told_row h]
section TD
variable {l : Launch} {G : wt_G} {Z : Heap → Prop} {T : tw_T} {M : wt_It} {w : Int64}
theorem ct_huntsFor (hE : tw_E G T) (o r : Nat) (ho : o < 5) (hr : r < 10) (hf : sp_fok M) : wt_Ct l G yX3_huntsFor cX3_huntsFor 4 (some .int) 3 0 0 [.ref T.1, .int (nI o), .int (nI r)] (tw_Z G T M w) (wt_fn (sp_hu M o r) (tw_Z G T (sp_huM M o r) w)) := by
  refine wt_enter [some (.ref T.1), some (.int (nI o)), some (.int (nI r)), none] (by decide +kernel) rfl (Nat.le_of_ble_eq_true rfl) (fun X hc hok => ?_)
  have fin : ∀ (v : Int32) (M' : wt_It), sp_hu M o r = sp_clamp v → M' = sp_huM M o r → wt_V G X 131 [some (.ref T.1), some (.int (nI o)), some (.int (nI r)), some (.int v)] [] (tw_Z G T M' w) 0 0 := by
    intro v M' e1 e2
    subst e2
    refine wt_iload_3 (pc := 131) hc dX3_huntsFor_131 ?_
    refine wt_if_ge (pc := 132) 139 hc dX3_huntsFor_132 (by decide) (fun c_132 => ?_) (fun c_132 => ?_)
    · refine wt_iload_3 (pc := 139) hc dX3_huntsFor_139 ?_
      refine wt_bipush (pc := 140) (v := nI 30) hc dX3_huntsFor_140 (by decide) ?_
      refine wt_icmp_le (pc := 142) 150 hc dX3_huntsFor_142 (by decide) (fun c_142 => ?_) (fun c_142 => ?_)
      · refine wt_iload_3 (pc := 150) hc dX3_huntsFor_150 ?_
        exact wt_iret (pc := 151) hc hok dX3_huntsFor_151 (rfl) (fun H hZ => ⟨by rw [e1]; simp [sp_clamp, c_132, c_142], hZ⟩)
      · refine wt_bipush (pc := 145) (v := nI 30) hc dX3_huntsFor_145 (by decide) ?_
        refine wt_goto (pc := 147) 151 hc dX3_huntsFor_147 (by decide) ?_
        exact wt_iret (pc := 151) hc hok dX3_huntsFor_151 (rfl) (fun H hZ => ⟨by rw [e1]; simp [sp_clamp, c_132, c_142], hZ⟩)
    · refine wt_iconst (pc := 135) (v := nI 0) hc dX3_huntsFor_135 (by decide) ?_
      refine wt_goto (pc := 136) 151 hc dX3_huntsFor_136 (by decide) ?_
      exact wt_iret (pc := 151) hc hok dX3_huntsFor_151 (rfl) (fun H hZ => ⟨by rw [e1]; simp [sp_clamp, c_132], hZ⟩)
  have key : ∀ v : Int32, v = sp_h0 M r → wt_V G X 15 [some (.ref T.1), some (.int (nI o)), some (.int (nI r)), some (.int v)] [] (tw_Z G T M w) 0 0 := by
    intro v ev
    rcases hf with hf | ⟨f, k, hf, hk, e1, e2, h3⟩
    · refine wt_aload_0 (pc := 15) hc dX3_huntsFor_15 ?_
      refine tw_geta (pc := 16) 47 hc hE dX3_huntsFor_16 q1651 (by decide) (by decide) (fun _ _ _ => rfl) rfl ?_
      refine wt_iconst (pc := 19) (v := nI 0) hc dX3_huntsFor_19 (by decide) ?_
      refine tw_iald (pc := 20) (k := 47) (0) ((-1 : Int32)) hc hE dX3_huntsFor_20 rfl (rfl) (by show _ < 19; omega) (by decide) (hf) ?_
      refine wt_iconst (pc := 21) (v := (-1 : Int32)) hc dX3_huntsFor_21 (by decide) ?_
      refine wt_icmp_eq (pc := 22) 131 hc dX3_huntsFor_22 (by decide) (fun c_22 => ?_) (fun c_22 => ?_)
      · exact fin v M (by rw [sp_hu, if_pos hf, ev]) (by rw [sp_huM, if_pos hf])
      · exact absurd rfl c_22
    · have hne : ¬ M 47 0 = -1 := by
        intro z
        have := congrArg Int32.toInt (e1.symm.trans z)
        rw [nI_toInt (by omega)] at this
        have h1 : (-1 : Int32).toInt = -1 := by decide
        omega
      refine wt_aload_0 (pc := 15) hc dX3_huntsFor_15 ?_
      refine tw_geta (pc := 16) 47 hc hE dX3_huntsFor_16 q1651 (by decide) (by decide) (fun _ _ _ => rfl) rfl ?_
      refine wt_iconst (pc := 19) (v := nI 0) hc dX3_huntsFor_19 (by decide) ?_
      refine tw_iald (pc := 20) (k := 47) (0) _ hc hE dX3_huntsFor_20 rfl (rfl) (by show _ < 19; omega) (by decide) (rfl) ?_
      refine wt_iconst (pc := 21) (v := (-1 : Int32)) hc dX3_huntsFor_21 (by decide) ?_
      refine wt_icmp_eq (pc := 22) 131 hc dX3_huntsFor_22 (by decide) (fun c_22 => ?_) (fun c_22 => ?_)
      · exact absurd c_22 hne
      · refine wt_aload_0 (pc := 25) hc dX3_huntsFor_25 ?_
        refine tw_geta (pc := 26) 52 hc hE dX3_huntsFor_26 q1656 (by decide) (by decide) (fun _ _ _ => rfl) rfl ?_
        refine wt_iconst (pc := 29) (v := nI 0) hc dX3_huntsFor_29 (by decide) ?_
        refine wt_aload_0 (pc := 30) hc dX3_huntsFor_30 ?_
        refine tw_geta (pc := 31) 56 hc hE dX3_huntsFor_31 q1660 (by decide) (by decide) (fun _ _ _ => rfl) rfl ?_
        refine wt_iload_2 (pc := 34) hc dX3_huntsFor_34 ?_
        refine tw_iald (pc := 35) (k := 56) (r) _ hc hE dX3_huntsFor_35 rfl (rfl) (by show _ < 10; omega) (by decide) (rfl) ?_
        refine tw_iast (pc := 36) (k := 52) (0) hc hE dX3_huntsFor_36 rfl (rfl) (by show _ < 7; omega) (by decide) ?_
        refine wt_aload_0 (pc := 37) hc dX3_huntsFor_37 ?_
        refine tw_geta (pc := 38) 52 hc hE dX3_huntsFor_38 q1656 (by decide) (by decide) (fun _ _ _ => rfl) rfl ?_
        refine wt_iconst (pc := 41) (v := nI 1) hc dX3_huntsFor_41 (by decide) ?_
        refine wt_aload_0 (pc := 42) hc dX3_huntsFor_42 ?_
        refine tw_geta (pc := 43) 47 hc hE dX3_huntsFor_43 q1651 (by decide) (by decide) (fun _ _ _ => rfl) rfl ?_
        refine wt_iconst (pc := 46) (v := nI 4) hc dX3_huntsFor_46 (by decide) ?_
        refine wt_iload_2 (pc := 47) hc dX3_huntsFor_47 ?_
        refine wt_iadd (pc := 48) hc dX3_huntsFor_48 ?_
        rw [nI_add 4 r]
        refine tw_iald (pc := 49) (k := 47) (4 + r) _ hc hE dX3_huntsFor_49 rfl (rfl) (by show _ < 19; omega) (by decide) (rfl) ?_
        refine tw_iast (pc := 50) (k := 52) (1) hc hE dX3_huntsFor_50 rfl (rfl) (by show _ < 7; omega) (by decide) ?_
        refine wt_aload_0 (pc := 51) hc dX3_huntsFor_51 ?_
        refine tw_geta (pc := 52) 52 hc hE dX3_huntsFor_52 q1656 (by decide) (by decide) (fun _ _ _ => rfl) rfl ?_
        refine wt_iconst (pc := 55) (v := nI 2) hc dX3_huntsFor_55 (by decide) ?_
        refine wt_aload_0 (pc := 56) hc dX3_huntsFor_56 ?_
        refine tw_geta (pc := 57) 8 hc hE dX3_huntsFor_57 q1612 (by decide) (by decide) (fun _ _ _ => rfl) rfl ?_
        refine wt_iload_1 (pc := 60) hc dX3_huntsFor_60 ?_
        refine tw_iald (pc := 61) (k := 8) (o) _ hc hE dX3_huntsFor_61 rfl (rfl) (by show _ < 5; omega) (by decide) (rfl) ?_
        refine tw_iast (pc := 62) (k := 52) (2) hc hE dX3_huntsFor_62 rfl (rfl) (by show _ < 7; omega) (by decide) ?_
        refine wt_aload_0 (pc := 63) hc dX3_huntsFor_63 ?_
        refine tw_geta (pc := 64) 52 hc hE dX3_huntsFor_64 q1656 (by decide) (by decide) (fun _ _ _ => rfl) rfl ?_
        refine wt_iconst (pc := 67) (v := nI 3) hc dX3_huntsFor_67 (by decide) ?_
        refine wt_aload_0 (pc := 68) hc dX3_huntsFor_68 ?_
        refine tw_geta (pc := 69) 58 hc hE dX3_huntsFor_69 q1662 (by decide) (by decide) (fun _ _ _ => rfl) rfl ?_
        refine wt_iload_1 (pc := 72) hc dX3_huntsFor_72 ?_
        refine tw_iald (pc := 73) (k := 58) (o) _ hc hE dX3_huntsFor_73 rfl (rfl) (by show _ < 5; omega) (by decide) (rfl) ?_
        refine tw_iast (pc := 74) (k := 52) (3) hc hE dX3_huntsFor_74 rfl (rfl) (by show _ < 7; omega) (by decide) ?_
        refine wt_aload_0 (pc := 75) hc dX3_huntsFor_75 ?_
        refine tw_geta (pc := 76) 52 hc hE dX3_huntsFor_76 q1656 (by decide) (by decide) (fun _ _ _ => rfl) rfl ?_
        refine wt_iconst (pc := 79) (v := nI 4) hc dX3_huntsFor_79 (by decide) ?_
        refine wt_aload_0 (pc := 80) hc dX3_huntsFor_80 ?_
        refine tw_geta (pc := 81) 47 hc hE dX3_huntsFor_81 q1651 (by decide) (by decide) (fun _ _ _ => rfl) rfl ?_
        refine wt_iconst (pc := 84) (v := nI 1) hc dX3_huntsFor_84 (by decide) ?_
        refine tw_iald (pc := 85) (k := 47) (1) _ hc hE dX3_huntsFor_85 rfl (rfl) (by show _ < 19; omega) (by decide) (rfl) ?_
        refine tw_iast (pc := 86) (k := 52) (4) hc hE dX3_huntsFor_86 rfl (rfl) (by show _ < 7; omega) (by decide) ?_
        refine wt_aload_0 (pc := 87) hc dX3_huntsFor_87 ?_
        refine tw_geta (pc := 88) 52 hc hE dX3_huntsFor_88 q1656 (by decide) (by decide) (fun _ _ _ => rfl) rfl ?_
        refine wt_iconst (pc := 91) (v := nI 5) hc dX3_huntsFor_91 (by decide) ?_
        refine wt_aload_0 (pc := 92) hc dX3_huntsFor_92 ?_
        refine tw_geta (pc := 93) 47 hc hE dX3_huntsFor_93 q1651 (by decide) (by decide) (fun _ _ _ => rfl) rfl ?_
        refine wt_iconst (pc := 96) (v := nI 2) hc dX3_huntsFor_96 (by decide) ?_
        refine tw_iald (pc := 97) (k := 47) (2) _ hc hE dX3_huntsFor_97 rfl (rfl) (by show _ < 19; omega) (by decide) (rfl) ?_
        refine tw_iast (pc := 98) (k := 52) (5) hc hE dX3_huntsFor_98 rfl (rfl) (by show _ < 7; omega) (by decide) ?_
        refine wt_aload_0 (pc := 99) hc dX3_huntsFor_99 ?_
        refine tw_geta (pc := 100) 52 hc hE dX3_huntsFor_100 q1656 (by decide) (by decide) (fun _ _ _ => rfl) rfl ?_
        refine wt_bipush (pc := 103) (v := nI 6) hc dX3_huntsFor_103 (by decide) ?_
        refine wt_aload_0 (pc := 105) hc dX3_huntsFor_105 ?_
        refine tw_geta (pc := 106) 59 hc hE dX3_huntsFor_106 q1663 (by decide) (by decide) (fun _ _ _ => rfl) rfl ?_
        refine wt_iload_1 (pc := 109) hc dX3_huntsFor_109 ?_
        refine tw_iald (pc := 110) (k := 59) (o) _ hc hE dX3_huntsFor_110 rfl (rfl) (by show _ < 5; omega) (by decide) (rfl) ?_
        refine wt_bipush (pc := 111) (v := nI 60) hc dX3_huntsFor_111 (by decide) ?_
        refine wt_idiv (pc := 113) hc dX3_huntsFor_113 (by decide) ?_
        refine tw_iast (pc := 114) (k := 52) (6) hc hE dX3_huntsFor_114 rfl (rfl) (by show _ < 7; omega) (by decide) ?_
        refine wt_aload_0 (pc := 115) hc dX3_huntsFor_115 ?_
        refine wt_aload_0 (pc := 116) hc dX3_huntsFor_116 ?_
        refine tw_geta (pc := 117) 12 hc hE dX3_huntsFor_117 q1616 (by decide) (by decide) (fun _ _ _ => rfl) rfl ?_
        refine wt_aload_0 (pc := 120) hc dX3_huntsFor_120 ?_
        refine tw_geta (pc := 121) 47 hc hE dX3_huntsFor_121 q1651 (by decide) (by decide) (fun _ _ _ => rfl) rfl ?_
        refine wt_iconst (pc := 124) (v := nI 0) hc dX3_huntsFor_124 (by decide) ?_
        refine tw_iald (pc := 125) (k := 47) (0) (nI f) hc hE dX3_huntsFor_125 rfl (rfl) (by show _ < 19; omega) (by decide) (e1) ?_
        refine tw_iald (pc := 126) (k := 12) (f) (nI k) hc hE dX3_huntsFor_126 rfl (rfl) (by show _ < 4; omega) (by decide) (e2) ?_
        refine wt_gofn (tw_inv (pc := 127) 1 hc hE (ct_reckons hE 2800 k h3) dX3_huntsFor_127 rfl q2005 q2007 qs84 q116 q2008 (by decide +kernel) rfl (by decide) (by decide) (Nat.le_of_ble_eq_true rfl) rfl) ?_
        refine wt_istore_3 (pc := 130) hc dX3_huntsFor_130 rfl ?_
        have em : sp_huM M o r = sp_rk 2800 (sp_told M o r) k 0 := by
          rw [sp_huM, if_neg hne, e1, nn_nI (by omega), e2, nn_nI hk]
        exact fin _ _ (by rw [sp_hu, if_neg hne, em]; rfl) em.symm
  refine wt_aload_0 (pc := 0) hc dX3_huntsFor_0 ?_
  refine tw_geta (pc := 1) 56 hc hE dX3_huntsFor_1 q1660 (by decide) (by decide) (fun _ _ _ => rfl) rfl ?_
  refine wt_iload_2 (pc := 4) hc dX3_huntsFor_4 ?_
  refine tw_iald (pc := 5) (k := 56) (r) _ hc hE dX3_huntsFor_5 rfl (rfl) (by show _ < 10; omega) (by decide) (rfl) ?_
  refine wt_if_le (pc := 6) 13 hc dX3_huntsFor_6 (by decide) (fun c_6 => ?_) (fun c_6 => ?_)
  · refine wt_iconst (pc := 13) (v := nI 2) hc dX3_huntsFor_13 (by decide) ?_
    refine wt_istore_3 (pc := 14) hc dX3_huntsFor_14 rfl ?_
    exact key _ (by simp [sp_h0, c_6])
  · refine wt_iconst (pc := 9) (v := nI 3) hc dX3_huntsFor_9 (by decide) ?_
    refine wt_goto (pc := 10) 14 hc dX3_huntsFor_10 (by decide) ?_
    refine wt_istore_3 (pc := 14) hc dX3_huntsFor_14 rfl ?_
    exact key _ (by simp [sp_h0, c_6])
/-- which owl comes next of the first n -/
def sp_bs (M : wt_It) : Nat → Int32
  | 0 => -1
  | o + 1 => if ¬ M 9 o ≤ M 58 o ∧ (sp_bs M o = -1 ∨ ¬ M 59 (nn (sp_bs M o)) ≤ M 59 o) then nI o else sp_bs M o
theorem sp_bs_or (M : wt_It) : ∀ n, sp_bs M n = -1 ∨ ∃ b, b < n ∧ sp_bs M n = nI b ∧ ¬ M 9 b ≤ M 58 b := by
  intro n
  induction n with
  | zero => exact Or.inl rfl
  | succ n ih =>
    rw [sp_bs]
    split
    · rename_i h
      exact Or.inr ⟨n, by omega, rfl, h.1⟩
    · rcases ih with h | ⟨b, h1, h2, h3⟩
      · exact Or.inl h
      · exact Or.inr ⟨b, by omega, h2, h3⟩
theorem sp_nI_m1 {b : Nat} (h : b < 2 ^ 31) : ¬ nI b = -1 := by
  intro z
  have := congrArg Int32.toInt z
  rw [nI_toInt h] at this
  have h1 : (-1 : Int32).toInt = -1 := by decide
  omega
/-- one stop of a night: the owl b comes -/
def sp_ns (M : wt_It) (b a r : Nat) : wt_It :=
  let v := sp_hu M b r
  let M3 := wt_up2 (wt_up2 (sp_huM M b r) 54 (8 * b + a) (M 59 b)) 55 (8 * b + a) (M 59 b + v)
  let M4 := if v ≤ 0 then M3 else if M 56 r ≤ 0 then M3 else wt_up2 (wt_up2 M3 56 r (M 56 r - nI 1)) 57 b (M 57 b + nI 1)
  let M5 := wt_up2 M4 58 b (nI (a + 1))
  if M 9 b ≤ nI (a + 1) then M5 else wt_up2 M5 59 b (M 59 b + v + sp_flies M b r (nn (M 10 (8 * b + a + 1))))
def sp_nl : Nat → wt_It → wt_It
  | 0, M => M
  | n + 1, M => if sp_bs M (nn (M 0 3)) = -1 then M else sp_nl n (sp_ns M (nn (sp_bs M (nn (M 0 3)))) (nn (M 58 (nn (sp_bs M (nn (M 0 3)))))) (nn (M 10 (8 * nn (sp_bs M (nn (M 0 3))) + nn (M 58 (nn (sp_bs M (nn (M 0 3)))))))))
def sp_n0 (M : wt_It) (o : Nat) : wt_It := sp_fill (sp_fill (sp_fill M 57 o (fun _ => nI 0)) 58 o (fun o => if M 47 3 >>> (nI o &&& 31) &&& 1 = 1 then M 9 o else nI 0)) 59 o (fun o => M 47 (14 + o))
def sp_ni (M : wt_It) : wt_It := sp_n0 (sp_fill M 56 (nn (M 0 1)) (fun r => nI 2 * M 47 (4 + r))) (nn (M 0 3))
def sp_night (M : wt_It) : wt_It := sp_nl 41 (sp_ni M)
/-- the city as read is in order -/
def sp_city (M : wt_It) : Prop := (∃ ro, ro ≤ 10 ∧ M 0 1 = nI ro ∧ (∃ ow, ow ≤ 5 ∧ M 0 3 = nI ow ∧ ∀ o, o < ow → ∃ wl, wl ≤ 8 ∧ M 9 o = nI wl ∧ ∀ i, i < wl → ∃ r, r < ro ∧ M 10 (8 * o + i) = nI r) ∧ ∃ ri, ri ≤ 8 ∧ M 0 4 = nI ri ∧ ∀ p, p < ri → (∃ a, a < ro ∧ M 11 (4 * p) = nI a) ∧ ∃ b, b < ro ∧ M 11 (4 * p + 1) = nI b)
theorem sp_n0_up (M : wt_It) (o : Nat) : wt_up2 (wt_up2 (wt_up2 (sp_n0 M o) 57 o (nI 0)) 58 o (if M 47 3 >>> (nI o &&& 31) &&& 1 = 1 then M 9 o else nI 0)) 59 o (M 47 (14 + o)) = sp_n0 M (o + 1) := by
  unfold sp_n0
  rw [sp_fill_com (r := 59) (b := 57) (by decide), sp_fill_com (r := 58) (b := 57) (by decide), sp_fill_up _ 57 o (fun _ => nI 0), sp_fill_com (r := 59) (b := 58) (by decide), sp_fill_up _ 58 o (fun o => if M 47 3 >>> (nI o &&& 31) &&& 1 = 1 then M 9 o else nI 0), sp_fill_up _ 59 o (fun o => M 47 (14 + o))]
theorem sp_n0_0 (M : wt_It) : sp_n0 M 0 = M := by
  unfold sp_n0
  rw [sp_fill_0, sp_fill_0, sp_fill_0]
/-- the memory of a night, at any of its stops -/
def sp_nok (M : wt_It) (ow : Nat) : Prop := ∀ o, o < ow → ∃ a wl, a ≤ wl ∧ wl ≤ 8 ∧ M 58 o = nI a ∧ M 9 o = nI wl
def sp_left (M : wt_It) : Nat → Nat
  | 0 => 0
  | o + 1 => sp_left M o + (nn (M 9 o) - nn (M 58 o))
theorem sp_left_le (M : wt_It) : ∀ ow, sp_nok M ow → sp_left M ow ≤ 8 * ow := by
  intro ow
  induction ow with
  | zero => intro _; exact Nat.le_refl _
  | succ n ih =>
    intro h
    have h1 := ih (fun o ho => h o (by omega))
    obtain ⟨a, wl, h2, h3, h4, h5⟩ := h n (by omega)
    rw [sp_left, h4, h5, nn_nI (by omega), nn_nI (by omega)]
    omega
theorem sp_left_ne {M M' : wt_It} : ∀ ow, (∀ o, o < ow → M' 9 o = M 9 o ∧ M' 58 o = M 58 o) → sp_left M' ow = sp_left M ow := by
  intro ow
  induction ow with
  | zero => intro _; rfl
  | succ n ih =>
    intro h
    rw [sp_left, sp_left, ih (fun o ho => h o (by omega)), (h n (by omega)).1, (h n (by omega)).2]
theorem sp_left_lt {M M' : wt_It} {b a wl : Nat} (ha : a < wl) (hwl : wl ≤ 8) (e1 : M 58 b = nI a) (e2 : M 9 b = nI wl) (e3 : M' 58 b = nI (a + 1)) (e4 : M' 9 b = nI wl) : ∀ ow, b < ow → (∀ o, o < ow → o ≠ b → M' 9 o = M 9 o ∧ M' 58 o = M 58 o) → sp_left M' ow < sp_left M ow := by
  intro ow
  induction ow with
  | zero => intro h; omega
  | succ n ih =>
    intro hb h
    rw [sp_left, sp_left]
    by_cases e : b = n
    · subst e
      rw [sp_left_ne (M := M) (M' := M') b (fun o ho => h o (by omega) (by omega)), e1, e2, e3, e4, nn_nI (by omega), nn_nI (by omega), nn_nI (by omega)]
      omega
    · have := ih (by omega) (fun o ho => h o (by omega))
      rw [(h n (by omega) (Ne.symm e)).1, (h n (by omega) (Ne.symm e)).2]
      omega
end TD
