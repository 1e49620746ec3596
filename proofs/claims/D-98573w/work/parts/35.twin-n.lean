/-! THE REFERENCE: measures, beams, bats -/
set_option maxRecDepth 100000
def sp_f0 (f : Nat → Int32) (k : Nat) : Int32 := if nI k - nI k / nI 11 * nI 11 = 0 then nI 0 else if f k ≤ 0 then nI 1000000 else f k
def sp_mB (k a : Nat) : Nat → Nat → wt_It → wt_It
  | 0, _, M => M
  | n + 1, b, M => sp_mB k a n (b + 1) (if M 51 (10 * a + b) ≤ M 51 (10 * a + k) + M 51 (10 * k + b) then M else wt_up2 M 51 (10 * a + b) (M 51 (10 * a + k) + M 51 (10 * k + b)))
def sp_mA (ro k : Nat) : Nat → Nat → wt_It → wt_It
  | 0, _, M => M
  | n + 1, a, M => sp_mA ro k n (a + 1) (sp_mB k a ro 0 M)
def sp_mK (ro : Nat) : Nat → Nat → wt_It → wt_It
  | 0, _, M => M
  | n + 1, k, M => sp_mK ro n (k + 1) (sp_mA ro k ro 0 M)
def sp_meas (M : wt_It) (ro : Nat) : wt_It := sp_mK ro ro 0 (sp_fill M 51 100 (sp_f0 (M 7)))
theorem sp_mB_row (k a : Nat) : ∀ (n b : Nat) (M : wt_It) (r : Nat), r ≠ 51 → sp_mB k a n b M r = M r := by
  intro n
  induction n with
  | zero => intro b M r _; rfl
  | succ n ih =>
    intro b M r hr
    rw [sp_mB, ih _ _ _ hr]
    split
    · rfl
    · rw [wt_up2_row hr]
theorem sp_mA_row (ro k : Nat) : ∀ (n a : Nat) (M : wt_It) (r : Nat), r ≠ 51 → sp_mA ro k n a M r = M r := by
  intro n
  induction n with
  | zero => intro a M r _; rfl
  | succ n ih => intro a M r hr; rw [sp_mA, ih _ _ _ hr, sp_mB_row _ _ _ _ _ _ hr]
theorem sp_mK_row (ro : Nat) : ∀ (n k : Nat) (M : wt_It) (r : Nat), r ≠ 51 → sp_mK ro n k M r = M r := by
  intro n
  induction n with
  | zero => intro k M r _; rfl
  | succ n ih => intro k M r hr; rw [sp_mK, ih _ _ _ hr, sp_mA_row _ _ _ _ _ _ hr]
theorem sp_meas_row {M : wt_It} {ro r : Nat} (h : r ≠ 51) : sp_meas M ro r = M r := by
  rw [sp_meas, sp_mK_row _ _ _ _ _ h, sp_fill_row h]
def sp_bits (v : Int32) : Nat → Int32
  | 0 => nI 0
  | k + 1 => sp_bits v k + (v >>> (nI k &&& 31) &&& nI 1)
def sp_nrR (f : Nat → Int32) (set mi : Int32) (h : Nat) : Nat → Bool
  | 0 => false
  | r + 1 => sp_nrR f set mi h r || (decide (set >>> (nI r &&& 31) &&& nI 1 = nI 1) && decide (f (10 * r + h) ≤ mi))
def sp_nrP (M : wt_It) (set mi : Int32) (ro : Nat) : Nat → Int32
  | 0 => nI 0
  | p + 1 => sp_nrP M set mi ro p + sp_i (sp_nrR (M 51) set mi (nn (M 11 (4 * p + 1))) ro)
/-- of the first sets the best, how many are near it -/
def sp_be (M : wt_It) (many mi : Int32) (ro ri : Nat) : Nat → Int32 × Int32
  | 0 => (-1, -1)
  | s + 1 => if sp_bits (nI s) 10 = many then (if sp_nrP M (nI s) mi ro ri ≤ (sp_be M many mi ro ri s).2 then sp_be M many mi ro ri s else (nI s, sp_nrP M (nI s) mi ro ri)) else sp_be M many mi ro ri s
def sp_bev (N : wt_It) (many mi k : Int32) : Int32 := if k = 0 then (sp_be N many mi (nn (N 0 1)) (nn (N 0 4)) (2 ^ nn (N 0 1))).2 else (sp_be N many mi (nn (N 0 1)) (nn (N 0 4)) (2 ^ nn (N 0 1))).1
theorem sp_shl : ∀ r, r ≤ 10 → nI 1 <<< (nI r &&& 31) = nI (2 ^ r) := by decide +kernel
theorem sp_pow10 : ∀ r, r ≤ 10 → 2 ^ r ≤ 1024 := by decide
def sp_tkr (M : wt_It) (price : Int32) : Nat → Int32
  | 0 => nI 0
  | p + 1 => sp_tkr M price p + (if M 11 (4 * p + 3) < price then nI 0 else nI 1)
def sp_ga (M : wt_It) (ri : Nat) (a b : Int32) (first : Bool) : Int32 := if (decide (a ≤ b)) = first then sp_tkr M (if first = true then a else b) ri * ((if first = true then a else b) - nI 1) else nI 0
def sp_bk (M : wt_It) (ri : Nat) (a b : Int32) : Nat → Bool
  | 0 => true
  | k + 1 => sp_bk M ri a b k && (decide (sp_ga M ri (nI (k + 1)) b true ≤ sp_ga M ri a b true) && decide (sp_ga M ri a (nI (k + 1)) false ≤ sp_ga M ri a b false))
def sp_bb (M : wt_It) (ri : Nat) (a : Nat) : Nat → Nat → Int32 × Int32 → Int32 × Int32
  | 0, _, s => s
  | n + 1, b, s => sp_bb M ri a n (b + 1) (if sp_bk M ri (nI a) (nI b) 9 = true then (s.1 + nI 1, if s.2 = -1 then nI (10 * a + b) else s.2) else s)
def sp_ba (M : wt_It) (ri : Nat) : Nat → Nat → Int32 × Int32 → Int32 × Int32
  | 0, _, s => s
  | n + 1, a, s => sp_ba M ri n (a + 1) (sp_bb M ri a 9 1 s)
def sp_bav (N : wt_It) (k : Int32) : Int32 := if k = 0 then (sp_ba N (nn (N 0 4)) 9 1 (nI 0, -1)).1 else (sp_ba N (nn (N 0 4)) 9 1 (nI 0, -1)).2
section TN
variable {l : Launch} {G : wt_G} {Z : Heap → Prop} {T : tw_T} {M N : wt_It} {w : Int64}
theorem ct_measures (hE : tw_E G T) (ro : Nat) (hro : ro ≤ 10) (e1 : M 0 1 = nI ro) : wt_Ct l G yX3_measures cX3_measures 4 none 1 0 0 [.ref T.1] (tw_Z G T M w) (wt_pv (tw_Z G T (sp_meas M ro) w)) := by
  refine wt_enter [some (.ref T.1), none, none, none] (by decide +kernel) rfl (Nat.le_of_ble_eq_true rfl) (fun X hc hok => ?_)
  have lB : ∀ (n b k a : Nat) (M' : wt_It), b + n = ro → k < ro → a < ro → M' 0 1 = nI ro → wt_V G X 159 [some (.ref T.1), some (.int (nI k)), some (.int (nI a)), none] [] (tw_Z G T (sp_mB k a n b M') w) 0 0 → wt_V G X 74 [some (.ref T.1), some (.int (nI k)), some (.int (nI a)), some (.int (nI b))] [] (tw_Z G T M' w) 0 0 := by
    intro n
    induction n with
    | zero =>
      intro b k a M' hb hk ha e1 hend
      have e : b = ro := by omega
      subst e
      refine wt_iload_3 (pc := 74) hc dX3_measures_74 ?_
      refine wt_aload_0 (pc := 75) hc dX3_measures_75 ?_
      refine tw_get (pc := 76) 1 (nI b) hc hE dX3_measures_76 q1605 (by decide) (fun _ _ _ => rfl) rfl (e1) ?_
      refine wt_nicmp_ge (pc := 79) 159 (b) (b) hc dX3_measures_79 (by decide) (by omega) (by omega) (fun c_79 => ?_) (fun c_79 => ?_)
      · exact wt_drop hend ⟨rfl, rfl, rfl, trivial⟩
      · omega
    | succ n ih =>
      intro b k a M' hb hk ha e1 hend
      rw [sp_mB] at hend
      refine wt_iload_3 (pc := 74) hc dX3_measures_74 ?_
      refine wt_aload_0 (pc := 75) hc dX3_measures_75 ?_
      refine tw_get (pc := 76) 1 (nI ro) hc hE dX3_measures_76 q1605 (by decide) (fun _ _ _ => rfl) rfl (e1) ?_
      refine wt_nicmp_ge (pc := 79) 159 (b) (ro) hc dX3_measures_79 (by decide) (by omega) (by omega) (fun c_79 => ?_) (fun c_79 => ?_)
      · omega
      · refine wt_aload_0 (pc := 82) hc dX3_measures_82 ?_
        refine tw_geta (pc := 83) 51 hc hE dX3_measures_83 q1655 (by decide) (by decide) (fun _ _ _ => rfl) rfl ?_
        refine wt_bipush (pc := 86) (v := nI 10) hc dX3_measures_86 (by decide) ?_
        refine wt_iload_2 (pc := 88) hc dX3_measures_88 ?_
        refine wt_imul (pc := 89) hc dX3_measures_89 ?_
        rw [pk_mul 10 a]
        refine wt_iload_1 (pc := 90) hc dX3_measures_90 ?_
        refine wt_iadd (pc := 91) hc dX3_measures_91 ?_
        rw [nI_add (10 * a) k]
        refine tw_iald (pc := 92) (k := 51) (10 * a + k) _ hc hE dX3_measures_92 rfl (rfl) (by show _ < 100; omega) (by decide) (rfl) ?_
        refine wt_aload_0 (pc := 93) hc dX3_measures_93 ?_
        refine tw_geta (pc := 94) 51 hc hE dX3_measures_94 q1655 (by decide) (by decide) (fun _ _ _ => rfl) rfl ?_
        refine wt_bipush (pc := 97) (v := nI 10) hc dX3_measures_97 (by decide) ?_
        refine wt_iload_1 (pc := 99) hc dX3_measures_99 ?_
        refine wt_imul (pc := 100) hc dX3_measures_100 ?_
        rw [pk_mul 10 k]
        refine wt_iload_3 (pc := 101) hc dX3_measures_101 ?_
        refine wt_iadd (pc := 102) hc dX3_measures_102 ?_
        rw [nI_add (10 * k) b]
        refine tw_iald (pc := 103) (k := 51) (10 * k + b) _ hc hE dX3_measures_103 rfl (rfl) (by show _ < 100; omega) (by decide) (rfl) ?_
        refine wt_iadd (pc := 104) hc dX3_measures_104 ?_
        refine wt_aload_0 (pc := 105) hc dX3_measures_105 ?_
        refine tw_geta (pc := 106) 51 hc hE dX3_measures_106 q1655 (by decide) (by decide) (fun _ _ _ => rfl) rfl ?_
        refine wt_bipush (pc := 109) (v := nI 10) hc dX3_measures_109 (by decide) ?_
        refine wt_iload_2 (pc := 111) hc dX3_measures_111 ?_
        refine wt_imul (pc := 112) hc dX3_measures_112 ?_
        rw [pk_mul 10 a]
        refine wt_iload_3 (pc := 113) hc dX3_measures_113 ?_
        refine wt_iadd (pc := 114) hc dX3_measures_114 ?_
        rw [nI_add (10 * a) b]
        refine tw_iald (pc := 115) (k := 51) (10 * a + b) _ hc hE dX3_measures_115 rfl (rfl) (by show _ < 100; omega) (by decide) (rfl) ?_
        refine wt_icmp_ge (pc := 116) 153 hc dX3_measures_116 (by decide) (fun c_116 => ?_) (fun c_116 => ?_)
        · rw [if_pos c_116] at hend
          refine wt_iinc_3 (pc := 153) (v := nI (b + 1)) hc dX3_measures_153 (nI_add b 1) rfl ?_
          refine wt_goto (pc := 156) 74 hc dX3_measures_156 (by decide) ?_
          exact ih (b + 1) k a M' (by omega) hk ha e1 hend
        · rw [if_neg c_116] at hend
          refine wt_aload_0 (pc := 119) hc dX3_measures_119 ?_
          refine tw_geta (pc := 120) 51 hc hE dX3_measures_120 q1655 (by decide) (by decide) (fun _ _ _ => rfl) rfl ?_
          refine wt_bipush (pc := 123) (v := nI 10) hc dX3_measures_123 (by decide) ?_
          refine wt_iload_2 (pc := 125) hc dX3_measures_125 ?_
          refine wt_imul (pc := 126) hc dX3_measures_126 ?_
          rw [pk_mul 10 a]
          refine wt_iload_3 (pc := 127) hc dX3_measures_127 ?_
          refine wt_iadd (pc := 128) hc dX3_measures_128 ?_
          rw [nI_add (10 * a) b]
          refine wt_aload_0 (pc := 129) hc dX3_measures_129 ?_
          refine tw_geta (pc := 130) 51 hc hE dX3_measures_130 q1655 (by decide) (by decide) (fun _ _ _ => rfl) rfl ?_
          refine wt_bipush (pc := 133) (v := nI 10) hc dX3_measures_133 (by decide) ?_
          refine wt_iload_2 (pc := 135) hc dX3_measures_135 ?_
          refine wt_imul (pc := 136) hc dX3_measures_136 ?_
          rw [pk_mul 10 a]
          refine wt_iload_1 (pc := 137) hc dX3_measures_137 ?_
          refine wt_iadd (pc := 138) hc dX3_measures_138 ?_
          rw [nI_add (10 * a) k]
          refine tw_iald (pc := 139) (k := 51) (10 * a + k) _ hc hE dX3_measures_139 rfl (rfl) (by show _ < 100; omega) (by decide) (rfl) ?_
          refine wt_aload_0 (pc := 140) hc dX3_measures_140 ?_
          refine tw_geta (pc := 141) 51 hc hE dX3_measures_141 q1655 (by decide) (by decide) (fun _ _ _ => rfl) rfl ?_
          refine wt_bipush (pc := 144) (v := nI 10) hc dX3_measures_144 (by decide) ?_
          refine wt_iload_1 (pc := 146) hc dX3_measures_146 ?_
          refine wt_imul (pc := 147) hc dX3_measures_147 ?_
          rw [pk_mul 10 k]
          refine wt_iload_3 (pc := 148) hc dX3_measures_148 ?_
          refine wt_iadd (pc := 149) hc dX3_measures_149 ?_
          rw [nI_add (10 * k) b]
          refine tw_iald (pc := 150) (k := 51) (10 * k + b) _ hc hE dX3_measures_150 rfl (rfl) (by show _ < 100; omega) (by decide) (rfl) ?_
          refine wt_iadd (pc := 151) hc dX3_measures_151 ?_
          refine tw_iast (pc := 152) (k := 51) (10 * a + b) hc hE dX3_measures_152 rfl (rfl) (by show _ < 100; omega) (by decide) ?_
          refine wt_iinc_3 (pc := 153) (v := nI (b + 1)) hc dX3_measures_153 (nI_add b 1) rfl ?_
          refine wt_goto (pc := 156) 74 hc dX3_measures_156 (by decide) ?_
          exact ih (b + 1) k a _ (by omega) hk ha e1 hend
  have lA : ∀ (n a k : Nat) (M' : wt_It), a + n = ro → k < ro → M' 0 1 = nI ro → wt_V G X 165 [some (.ref T.1), some (.int (nI k)), none, none] [] (tw_Z G T (sp_mA ro k n a M') w) 0 0 → wt_V G X 64 [some (.ref T.1), some (.int (nI k)), some (.int (nI a)), none] [] (tw_Z G T M' w) 0 0 := by
    intro n
    induction n with
    | zero =>
      intro a k M' ha hk e1 hend
      have e : a = ro := by omega
      subst e
      refine wt_iload_2 (pc := 64) hc dX3_measures_64 ?_
      refine wt_aload_0 (pc := 65) hc dX3_measures_65 ?_
      refine tw_get (pc := 66) 1 (nI a) hc hE dX3_measures_66 q1605 (by decide) (fun _ _ _ => rfl) rfl (e1) ?_
      refine wt_nicmp_ge (pc := 69) 165 (a) (a) hc dX3_measures_69 (by decide) (by omega) (by omega) (fun c_69 => ?_) (fun c_69 => ?_)
      · exact wt_drop hend ⟨rfl, rfl, trivial⟩
      · omega
    | succ n ih =>
      intro a k M' ha hk e1 hend
      rw [sp_mA] at hend
      refine wt_iload_2 (pc := 64) hc dX3_measures_64 ?_
      refine wt_aload_0 (pc := 65) hc dX3_measures_65 ?_
      refine tw_get (pc := 66) 1 (nI ro) hc hE dX3_measures_66 q1605 (by decide) (fun _ _ _ => rfl) rfl (e1) ?_
      refine wt_nicmp_ge (pc := 69) 165 (a) (ro) hc dX3_measures_69 (by decide) (by omega) (by omega) (fun c_69 => ?_) (fun c_69 => ?_)
      · omega
      · refine wt_iconst (pc := 72) (v := nI 0) hc dX3_measures_72 (by decide) ?_
        refine wt_istore_3 (pc := 73) hc dX3_measures_73 rfl ?_
        refine lB ro 0 k a M' (by omega) hk (by omega) e1 ?_
        refine wt_iinc_2 (pc := 159) (v := nI (a + 1)) hc dX3_measures_159 (nI_add a 1) rfl ?_
        refine wt_goto (pc := 162) 64 hc dX3_measures_162 (by decide) ?_
        exact ih (a + 1) k _ (by omega) hk ((congrFun (sp_mB_row _ _ _ _ _ _ (by decide)) 1).trans e1) hend
  have lK : ∀ (n k : Nat) (M' : wt_It), k + n = ro → M' 0 1 = nI ro → wt_V G X 171 [some (.ref T.1), none, none, none] [] (tw_Z G T (sp_mK ro n k M') w) 0 0 → wt_V G X 54 [some (.ref T.1), some (.int (nI k)), none, none] [] (tw_Z G T M' w) 0 0 := by
    intro n
    induction n with
    | zero =>
      intro k M' hk e1 hend
      have e : k = ro := by omega
      subst e
      refine wt_iload_1 (pc := 54) hc dX3_measures_54 ?_
      refine wt_aload_0 (pc := 55) hc dX3_measures_55 ?_
      refine tw_get (pc := 56) 1 (nI k) hc hE dX3_measures_56 q1605 (by decide) (fun _ _ _ => rfl) rfl (e1) ?_
      refine wt_nicmp_ge (pc := 59) 171 (k) (k) hc dX3_measures_59 (by decide) (by omega) (by omega) (fun c_59 => ?_) (fun c_59 => ?_)
      · exact wt_drop hend ⟨rfl, trivial⟩
      · omega
    | succ n ih =>
      intro k M' hk e1 hend
      rw [sp_mK] at hend
      refine wt_iload_1 (pc := 54) hc dX3_measures_54 ?_
      refine wt_aload_0 (pc := 55) hc dX3_measures_55 ?_
      refine tw_get (pc := 56) 1 (nI ro) hc hE dX3_measures_56 q1605 (by decide) (fun _ _ _ => rfl) rfl (e1) ?_
      refine wt_nicmp_ge (pc := 59) 171 (k) (ro) hc dX3_measures_59 (by decide) (by omega) (by omega) (fun c_59 => ?_) (fun c_59 => ?_)
      · omega
      · refine wt_iconst (pc := 62) (v := nI 0) hc dX3_measures_62 (by decide) ?_
        refine wt_istore_2 (pc := 63) hc dX3_measures_63 rfl ?_
        refine lA ro 0 k M' (by omega) (by omega) e1 ?_
        refine wt_iinc_1 (pc := 165) (v := nI (k + 1)) hc dX3_measures_165 (nI_add k 1) rfl ?_
        refine wt_goto (pc := 168) 54 hc dX3_measures_168 (by decide) ?_
        exact ih (k + 1) _ (by omega) ((congrFun (sp_mA_row _ _ _ _ _ _ (by decide)) 1).trans e1) hend
  have l0 : ∀ (n k : Nat), k + n = 100 → wt_V G X 52 [some (.ref T.1), none, none, none] [] (tw_Z G T (sp_fill M 51 100 (sp_f0 (M 7))) w) 0 0 → wt_V G X 2 [some (.ref T.1), some (.int (nI k)), none, none] [] (tw_Z G T (sp_fill M 51 k (sp_f0 (M 7))) w) 0 0 := by
    intro n
    induction n with
    | zero =>
      intro k hk hend
      have e : k = 100 := by omega
      subst e
      refine wt_iload_1 (pc := 2) hc dX3_measures_2 ?_
      refine wt_bipush (pc := 3) (v := nI 100) hc dX3_measures_3 (by decide) ?_
      refine wt_nicmp_ge (pc := 5) 52 (100) (100) hc dX3_measures_5 (by decide) (by omega) (by omega) (fun c_5 => ?_) (fun c_5 => ?_)
      · exact wt_drop hend ⟨rfl, trivial⟩
      · omega
    | succ n ih =>
      intro k hk hend
      have nxt := ih (k + 1) (by omega) hend
      have e7 : sp_fill M 51 k (sp_f0 (M 7)) 7 k = M 7 k := congrFun (sp_fill_row (by decide)) k
      refine wt_iload_1 (pc := 2) hc dX3_measures_2 ?_
      refine wt_bipush (pc := 3) (v := nI 100) hc dX3_measures_3 (by decide) ?_
      refine wt_nicmp_ge (pc := 5) 52 (k) (100) hc dX3_measures_5 (by decide) (by omega) (by omega) (fun c_5 => ?_) (fun c_5 => ?_)
      · omega
      · refine wt_aload_0 (pc := 8) hc dX3_measures_8 ?_
        refine tw_geta (pc := 9) 51 hc hE dX3_measures_9 q1655 (by decide) (by decide) (fun _ _ _ => rfl) rfl ?_
        refine wt_iload_1 (pc := 12) hc dX3_measures_12 ?_
        refine wt_iload_1 (pc := 13) hc dX3_measures_13 ?_
        refine wt_bipush (pc := 14) (v := nI 11) hc dX3_measures_14 (by decide) ?_
        refine wt_irem (pc := 16) hc dX3_measures_16 (by decide) ?_
        refine wt_if_ne (pc := 17) 24 hc dX3_measures_17 (by decide) (fun c_17 => ?_) (fun c_17 => ?_)
        · refine wt_aload_0 (pc := 24) hc dX3_measures_24 ?_
          refine tw_geta (pc := 25) 7 hc hE dX3_measures_25 q1611 (by decide) (by decide) (fun _ _ _ => rfl) rfl ?_
          refine wt_iload_1 (pc := 28) hc dX3_measures_28 ?_
          refine tw_iald (pc := 29) (k := 7) (k) (M 7 k) hc hE dX3_measures_29 rfl (rfl) (by show _ < 100; omega) (by decide) (e7) ?_
          refine wt_if_le (pc := 30) 42 hc dX3_measures_30 (by decide) (fun c_30 => ?_) (fun c_30 => ?_)
          · refine wt_ldcw (pc := 42) (v := nI 1000000) hc dX3_measures_42 q1973 ?_
            refine wt_topi (z := sp_f0 (M 7) k) (by unfold sp_f0; first | rw [if_pos c_17] | rw [if_neg c_17, if_pos c_30] | rw [if_neg c_17, if_neg c_30]) ?_
            refine tw_iast (pc := 45) (k := 51) (k) hc hE dX3_measures_45 rfl (rfl) (by show _ < 100; omega) (by decide) ?_
            refine tw_eq (sp_fill_up M 51 k (sp_f0 (M 7))) ?_
            refine wt_iinc_1 (pc := 46) (v := nI (k + 1)) hc dX3_measures_46 (nI_add k 1) rfl ?_
            refine wt_goto (pc := 49) 2 hc dX3_measures_49 (by decide) ?_
            exact nxt
          · refine wt_aload_0 (pc := 33) hc dX3_measures_33 ?_
            refine tw_geta (pc := 34) 7 hc hE dX3_measures_34 q1611 (by decide) (by decide) (fun _ _ _ => rfl) rfl ?_
            refine wt_iload_1 (pc := 37) hc dX3_measures_37 ?_
            refine tw_iald (pc := 38) (k := 7) (k) (M 7 k) hc hE dX3_measures_38 rfl (rfl) (by show _ < 100; omega) (by decide) (e7) ?_
            refine wt_goto (pc := 39) 45 hc dX3_measures_39 (by decide) ?_
            refine wt_topi (z := sp_f0 (M 7) k) (by unfold sp_f0; first | rw [if_pos c_17] | rw [if_neg c_17, if_pos c_30] | rw [if_neg c_17, if_neg c_30]) ?_
            refine tw_iast (pc := 45) (k := 51) (k) hc hE dX3_measures_45 rfl (rfl) (by show _ < 100; omega) (by decide) ?_
            refine tw_eq (sp_fill_up M 51 k (sp_f0 (M 7))) ?_
            refine wt_iinc_1 (pc := 46) (v := nI (k + 1)) hc dX3_measures_46 (nI_add k 1) rfl ?_
            refine wt_goto (pc := 49) 2 hc dX3_measures_49 (by decide) ?_
            exact nxt
        · refine wt_iconst (pc := 20) (v := nI 0) hc dX3_measures_20 (by decide) ?_
          refine wt_goto (pc := 21) 45 hc dX3_measures_21 (by decide) ?_
          refine wt_topi (z := sp_f0 (M 7) k) (by unfold sp_f0; first | rw [if_pos c_17] | rw [if_neg c_17, if_pos c_30] | rw [if_neg c_17, if_neg c_30]) ?_
          refine tw_iast (pc := 45) (k := 51) (k) hc hE dX3_measures_45 rfl (rfl) (by show _ < 100; omega) (by decide) ?_
          refine tw_eq (sp_fill_up M 51 k (sp_f0 (M 7))) ?_
          refine wt_iinc_1 (pc := 46) (v := nI (k + 1)) hc dX3_measures_46 (nI_add k 1) rfl ?_
          refine wt_goto (pc := 49) 2 hc dX3_measures_49 (by decide) ?_
          exact nxt
  refine wt_iconst (pc := 0) (v := nI 0) hc dX3_measures_0 (by decide) ?_
  refine wt_istore_1 (pc := 1) hc dX3_measures_1 rfl ?_
  rw [← sp_fill_0 M 51 (sp_f0 (M 7))]
  refine l0 100 0 (by omega) ?_
  refine wt_iconst (pc := 52) (v := nI 0) hc dX3_measures_52 (by decide) ?_
  refine wt_istore_1 (pc := 53) hc dX3_measures_53 rfl ?_
  refine lK ro 0 _ (by omega) e1 ?_
  exact wt_vret (pc := 171) hc hok dX3_measures_171 (fun H hZ => ⟨rfl, hZ⟩)
theorem ct_bits (v : Int32) : wt_Ct l G yX3_bits cX3_bits 3 (some .int) 1 0 0 [.int v] Z (wt_fn (sp_bits v 10) Z) := by
  refine wt_enter [some (.int v), none, none] (by decide +kernel) rfl (Nat.le_of_ble_eq_true rfl) (fun X hc hok => ?_)
  have loop : ∀ n k : Nat, k + n = 10 → wt_V G X 4 [some (.int v), some (.int (sp_bits v k)), some (.int (nI k))] [] Z 0 0 := by
    intro n
    induction n with
    | zero =>
      intro k hk
      have e : k = 10 := by omega
      subst e
      refine wt_iload_2 (pc := 4) hc dX3_bits_4 ?_
      refine wt_bipush (pc := 5) (v := nI 10) hc dX3_bits_5 (by decide) ?_
      refine wt_nicmp_ge (pc := 7) 24 (10) (10) hc dX3_bits_7 (by decide) (by omega) (by omega) (fun c_7 => ?_) (fun c_7 => ?_)
      · refine wt_iload_1 (pc := 24) hc dX3_bits_24 ?_
        exact wt_iret (pc := 25) hc hok dX3_bits_25 (rfl) (fun H hZ => ⟨rfl, hZ⟩)
      · omega
    | succ n ih =>
      intro k hk
      have nxt := ih (k + 1) (by omega)
      refine wt_iload_2 (pc := 4) hc dX3_bits_4 ?_
      refine wt_bipush (pc := 5) (v := nI 10) hc dX3_bits_5 (by decide) ?_
      refine wt_nicmp_ge (pc := 7) 24 (k) (10) hc dX3_bits_7 (by decide) (by omega) (by omega) (fun c_7 => ?_) (fun c_7 => ?_)
      · omega
      · refine wt_iload_1 (pc := 10) hc dX3_bits_10 ?_
        refine wt_iload_0 (pc := 11) hc dX3_bits_11 ?_
        refine wt_iload_2 (pc := 12) hc dX3_bits_12 ?_
        refine wt_ishr (pc := 13) hc dX3_bits_13 ?_
        refine wt_iconst (pc := 14) (v := nI 1) hc dX3_bits_14 (by decide) ?_
        refine wt_iand (pc := 15) hc dX3_bits_15 ?_
        refine wt_iadd (pc := 16) hc dX3_bits_16 ?_
        refine wt_istore_1 (pc := 17) hc dX3_bits_17 rfl ?_
        refine wt_iinc_2 (pc := 18) (v := nI (k + 1)) hc dX3_bits_18 (nI_add k 1) rfl ?_
        refine wt_goto (pc := 21) 4 hc dX3_bits_21 (by decide) ?_
        exact nxt
  refine wt_iconst (pc := 0) (v := nI 0) hc dX3_bits_0 (by decide) ?_
  refine wt_istore_1 (pc := 1) hc dX3_bits_1 rfl ?_
  refine wt_iconst (pc := 2) (v := nI 0) hc dX3_bits_2 (by decide) ?_
  refine wt_istore_2 (pc := 3) hc dX3_bits_3 rfl ?_
  exact loop 10 0 (by omega)
theorem ct_beams (hE : tw_E G T) (hN : sp_t0 M = N) (ro ow ri : Nat) (hC : sp_cty N ro ow ri) (a b k : Int32) : wt_Ct l G yX3_beams cX3_beams 11 (some .int) 3 0 0 [.ref T.1, .int a, .int b, .int k] (tw_Z G T M w) (sp_ans G T N w (if 0 ≤ k ∧ k ≤ nI 1 then (if (nI 0 ≤ a ∧ a ≤ nI 10) ∧ (nI 0 ≤ b ∧ b ≤ nI 200) then 0 else 2) else 1) (sp_bev N a b k)) := by
  have h0 : N 0 0 = 0 := by rw [← hN]; rfl
  have hro := hC.1
  have hri := hC.2.2.1
  refine wt_enter [some (.ref T.1), some (.int a), some (.int b), some (.int k), none, none, none, none, none, none, none] (by decide +kernel) rfl (Nat.le_of_ble_eq_true rfl) (fun X hc hok => ?_)
  by_cases hp : 0 ≤ k ∧ k ≤ nI 1
  · by_cases hp2 : (nI 0 ≤ a ∧ a ≤ nI 10) ∧ (nI 0 ≤ b ∧ b ≤ nI 200)
    · rw [if_pos hp, if_pos hp2] at hok
      have roofsL : ∀ (n r s p : Nat) (best most cnt : Int32), r + n = ro → p < ri → wt_V G X 162 [some (.ref T.1), some (.int a), some (.int b), some (.int k), some (.int best), some (.int most), some (.int (nI s)), some (.int cnt), some (.int (nI p)), some (.int (sp_i (sp_nrR (N 51) (nI s) b (nn (N 11 (4 * p + 1))) ro))), none] [] (tw_Z G T N w) 0 0 → wt_V G X 103 [some (.ref T.1), some (.int a), some (.int b), some (.int k), some (.int best), some (.int most), some (.int (nI s)), some (.int cnt), some (.int (nI p)), some (.int (sp_i (sp_nrR (N 51) (nI s) b (nn (N 11 (4 * p + 1))) r))), some (.int (nI r))] [] (tw_Z G T N w) 0 0 := by
        intro n
        induction n with
        | zero =>
          intro r s p best most cnt hr hp hend
          have e : r = ro := by omega
          subst e
          refine wt_iload_10 (pc := 103) hc dX3_beams_103 ?_
          refine wt_aload_0 (pc := 105) hc dX3_beams_105 ?_
          refine tw_get (pc := 106) 1 (nI r) hc hE dX3_beams_106 q1605 (by decide) (fun _ _ _ => rfl) rfl (hC.2.2.2.1) ?_
          refine wt_nicmp_ge (pc := 109) 162 (r) (r) hc dX3_beams_109 (by decide) (by omega) (by omega) (fun c_109 => ?_) (fun c_109 => ?_)
          · exact wt_drop hend ⟨rfl, rfl, rfl, rfl, rfl, rfl, rfl, rfl, rfl, rfl, trivial⟩
          · omega
        | succ n ih =>
          intro r s p best most cnt hr hp hend
          have nxt := ih (r + 1) s p best most cnt (by omega) hp hend
          obtain ⟨h, hh, eh⟩ := (hC.2.2.2.2.2.2.2 p hp).2
          rw [sp_nrR, eh, nn_nI (by omega)] at nxt
          rw [eh, nn_nI (by omega)]
          refine wt_iload_10 (pc := 103) hc dX3_beams_103 ?_
          refine wt_aload_0 (pc := 105) hc dX3_beams_105 ?_
          refine tw_get (pc := 106) 1 (nI ro) hc hE dX3_beams_106 q1605 (by decide) (fun _ _ _ => rfl) rfl (hC.2.2.2.1) ?_
          refine wt_nicmp_ge (pc := 109) 162 (r) (ro) hc dX3_beams_109 (by decide) (by omega) (by omega) (fun c_109 => ?_) (fun c_109 => ?_)
          · omega
          · cases hb : sp_nrR (N 51) (nI s) b h r with
            | true =>
              rw [hb, Bool.true_or] at nxt
              refine wt_iload_9 (pc := 112) hc dX3_beams_112 ?_
              refine wt_if_ne (pc := 114) 149 hc dX3_beams_114 (by decide) (fun _ => ?_) (fun z => absurd z (by decide))
              refine wt_iconst (pc := 149) (v := nI 1) hc dX3_beams_149 (by decide) ?_
              refine wt_goto (pc := 150) 154 hc dX3_beams_150 (by decide) ?_
              refine wt_istore_9 (pc := 154) hc dX3_beams_154 rfl ?_
              refine wt_iinc_10 (pc := 156) (v := nI (r + 1)) hc dX3_beams_156 (nI_add r 1) rfl ?_
              refine wt_goto (pc := 159) 103 hc dX3_beams_159 (by decide) ?_
              exact nxt
            | false =>
              rw [hb, Bool.false_or] at nxt
              refine wt_iload_9 (pc := 112) hc dX3_beams_112 ?_
              refine wt_if_ne (pc := 114) 149 hc dX3_beams_114 (by decide) (fun z => absurd z (by decide)) (fun _ => ?_)
              refine wt_iload_6 (pc := 117) hc dX3_beams_117 ?_
              refine wt_iload_10 (pc := 119) hc dX3_beams_119 ?_
              refine wt_ishr (pc := 121) hc dX3_beams_121 ?_
              refine wt_iconst (pc := 122) (v := nI 1) hc dX3_beams_122 (by decide) ?_
              refine wt_iand (pc := 123) hc dX3_beams_123 ?_
              refine wt_iconst (pc := 124) (v := nI 1) hc dX3_beams_124 (by decide) ?_
              refine wt_icmp_ne (pc := 125) 153 hc dX3_beams_125 (by decide) (fun c_125 => ?_) (fun c_125 => ?_)
              · refine wt_iconst (pc := 153) (v := nI 0) hc dX3_beams_153 (by decide) ?_
                refine wt_istore_9 (pc := 154) hc dX3_beams_154 rfl ?_
                refine wt_iinc_10 (pc := 156) (v := nI (r + 1)) hc dX3_beams_156 (nI_add r 1) rfl ?_
                refine wt_goto (pc := 159) 103 hc dX3_beams_159 (by decide) ?_
                first | (rw [decide_eq_false c_125, Bool.false_and] at nxt; exact nxt) | (rw [decide_eq_true c_125, Bool.true_and, decide_eq_true (Int32.not_lt.mp c_146)] at nxt; exact nxt) | (rw [decide_eq_true c_125, Bool.true_and, decide_eq_false (Int32.not_le.mpr c_146)] at nxt; exact nxt)
              · refine wt_aload_0 (pc := 128) hc dX3_beams_128 ?_
                refine tw_geta (pc := 129) 51 hc hE dX3_beams_129 q1655 (by decide) (by decide) (fun _ _ _ => rfl) rfl ?_
                refine wt_bipush (pc := 132) (v := nI 10) hc dX3_beams_132 (by decide) ?_
                refine wt_iload_10 (pc := 134) hc dX3_beams_134 ?_
                refine wt_imul (pc := 136) hc dX3_beams_136 ?_
                rw [pk_mul 10 r]
                refine wt_aload_0 (pc := 137) hc dX3_beams_137 ?_
                refine wt_iload_8 (pc := 138) hc dX3_beams_138 ?_
                refine wt_gofn (tw_inv (pc := 140) 1 hc hE (ct_homeOf hE p (by omega)) dX3_beams_140 rfl q2032 q2034 qs90 q116 q2035 (by decide +kernel) rfl (by decide) (by decide) (Nat.le_of_ble_eq_true rfl) rfl) ?_
                rw [eh]
                refine wt_iadd (pc := 143) hc dX3_beams_143 ?_
                rw [nI_add (10 * r) h]
                refine tw_iald (pc := 144) (k := 51) (10 * r + h) _ hc hE dX3_beams_144 rfl (rfl) (by show _ < 100; omega) (by decide) (rfl) ?_
                refine wt_iload_2 (pc := 145) hc dX3_beams_145 ?_
                refine wt_icmp_gt (pc := 146) 153 hc dX3_beams_146 (by decide) (fun c_146 => ?_) (fun c_146 => ?_)
                · refine wt_iconst (pc := 153) (v := nI 0) hc dX3_beams_153 (by decide) ?_
                  refine wt_istore_9 (pc := 154) hc dX3_beams_154 rfl ?_
                  refine wt_iinc_10 (pc := 156) (v := nI (r + 1)) hc dX3_beams_156 (nI_add r 1) rfl ?_
                  refine wt_goto (pc := 159) 103 hc dX3_beams_159 (by decide) ?_
                  first | (rw [decide_eq_false c_125, Bool.false_and] at nxt; exact nxt) | (rw [decide_eq_true c_125, Bool.true_and, decide_eq_true (Int32.not_lt.mp c_146)] at nxt; exact nxt) | (rw [decide_eq_true c_125, Bool.true_and, decide_eq_false (Int32.not_le.mpr c_146)] at nxt; exact nxt)
                · refine wt_iconst (pc := 149) (v := nI 1) hc dX3_beams_149 (by decide) ?_
                  refine wt_goto (pc := 150) 154 hc dX3_beams_150 (by decide) ?_
                  refine wt_istore_9 (pc := 154) hc dX3_beams_154 rfl ?_
                  refine wt_iinc_10 (pc := 156) (v := nI (r + 1)) hc dX3_beams_156 (nI_add r 1) rfl ?_
                  refine wt_goto (pc := 159) 103 hc dX3_beams_159 (by decide) ?_
                  first | (rw [decide_eq_false c_125, Bool.false_and] at nxt; exact nxt) | (rw [decide_eq_true c_125, Bool.true_and, decide_eq_true (Int32.not_lt.mp c_146)] at nxt; exact nxt) | (rw [decide_eq_true c_125, Bool.true_and, decide_eq_false (Int32.not_le.mpr c_146)] at nxt; exact nxt)
      have ridersL : ∀ (n p s : Nat) (best most : Int32), p + n = ri → wt_V G X 183 [some (.ref T.1), some (.int a), some (.int b), some (.int k), some (.int best), some (.int most), some (.int (nI s)), some (.int (sp_nrP N (nI s) b ro ri)), none, none, none] [] (tw_Z G T N w) 0 0 → wt_V G X 88 [some (.ref T.1), some (.int a), some (.int b), some (.int k), some (.int best), some (.int most), some (.int (nI s)), some (.int (sp_nrP N (nI s) b ro p)), some (.int (nI p)), none, none] [] (tw_Z G T N w) 0 0 := by
        intro n
        induction n with
        | zero =>
          intro p s best most hp hend
          have e : p = ri := by omega
          subst e
          refine wt_iload_8 (pc := 88) hc dX3_beams_88 ?_
          refine wt_aload_0 (pc := 90) hc dX3_beams_90 ?_
          refine tw_get (pc := 91) 4 (nI p) hc hE dX3_beams_91 q1608 (by decide) (fun _ _ _ => rfl) rfl (hC.2.2.2.2.2.1) ?_
          refine wt_nicmp_ge (pc := 94) 183 (p) (p) hc dX3_beams_94 (by decide) (by omega) (by omega) (fun c_94 => ?_) (fun c_94 => ?_)
          · exact wt_drop hend ⟨rfl, rfl, rfl, rfl, rfl, rfl, rfl, rfl, trivial⟩
          · omega
        | succ n ih =>
          intro p s best most hp hend
          have nxt := ih (p + 1) s best most (by omega) hend
          rw [sp_nrP] at nxt
          refine wt_iload_8 (pc := 88) hc dX3_beams_88 ?_
          refine wt_aload_0 (pc := 90) hc dX3_beams_90 ?_
          refine tw_get (pc := 91) 4 (nI ri) hc hE dX3_beams_91 q1608 (by decide) (fun _ _ _ => rfl) rfl (hC.2.2.2.2.2.1) ?_
          refine wt_nicmp_ge (pc := 94) 183 (p) (ri) hc dX3_beams_94 (by decide) (by omega) (by omega) (fun c_94 => ?_) (fun c_94 => ?_)
          · omega
          · refine wt_iconst (pc := 97) (v := nI 0) hc dX3_beams_97 (by decide) ?_
            refine wt_istore_9 (pc := 98) hc dX3_beams_98 rfl ?_
            refine wt_iconst (pc := 100) (v := nI 0) hc dX3_beams_100 (by decide) ?_
            refine wt_istore_10 (pc := 101) hc dX3_beams_101 rfl ?_
            refine roofsL ro 0 s p best most _ (by omega) (by omega) ?_
            cases hb : sp_nrR (N 51) (nI s) b (nn (N 11 (4 * p + 1))) ro with
            | true =>
              rw [hb] at nxt
              refine wt_iload_7 (pc := 162) hc dX3_beams_162 ?_
              refine wt_iload_9 (pc := 164) hc dX3_beams_164 ?_
              refine wt_if_eq (pc := 166) 173 hc dX3_beams_166 (by decide) (fun z => absurd z (by decide)) (fun _ => ?_)
              refine wt_iconst (pc := 169) (v := nI 1) hc dX3_beams_169 (by decide) ?_
              refine wt_goto (pc := 170) 174 hc dX3_beams_170 (by decide) ?_
              refine wt_iadd (pc := 174) hc dX3_beams_174 ?_
              refine wt_istore_7 (pc := 175) hc dX3_beams_175 rfl ?_
              refine wt_iinc_8 (pc := 177) (v := nI (p + 1)) hc dX3_beams_177 (nI_add p 1) rfl ?_
              refine wt_goto (pc := 180) 88 hc dX3_beams_180 (by decide) ?_
              exact wt_drop nxt ⟨rfl, rfl, rfl, rfl, rfl, rfl, rfl, rfl, rfl, trivial⟩
            | false =>
              rw [hb] at nxt
              refine wt_iload_7 (pc := 162) hc dX3_beams_162 ?_
              refine wt_iload_9 (pc := 164) hc dX3_beams_164 ?_
              refine wt_if_eq (pc := 166) 173 hc dX3_beams_166 (by decide) (fun _ => ?_) (fun z => absurd z (by decide))
              refine wt_iconst (pc := 173) (v := nI 0) hc dX3_beams_173 (by decide) ?_
              refine wt_iadd (pc := 174) hc dX3_beams_174 ?_
              refine wt_istore_7 (pc := 175) hc dX3_beams_175 rfl ?_
              refine wt_iinc_8 (pc := 177) (v := nI (p + 1)) hc dX3_beams_177 (nI_add p 1) rfl ?_
              refine wt_goto (pc := 180) 88 hc dX3_beams_180 (by decide) ?_
              exact wt_drop nxt ⟨rfl, rfl, rfl, rfl, rfl, rfl, rfl, rfl, rfl, trivial⟩
      have h2 := sp_pow10 ro hro
      have ev : sp_bev N a b k = if k = 0 then (sp_be N a b ro ri (2 ^ ro)).2 else (sp_be N a b ro ri (2 ^ ro)).1 := by
        unfold sp_bev
        rw [hC.2.2.2.1, hC.2.2.2.2.2.1, nn_nI (by omega), nn_nI (by omega)]
      have setsL : ∀ (n s : Nat), s + n = 2 ^ ro → wt_V G X 59 [some (.ref T.1), some (.int a), some (.int b), some (.int k), some (.int (sp_be N a b ro ri s).1), some (.int (sp_be N a b ro ri s).2), some (.int (nI s)), none, none, none, none] [] (tw_Z G T N w) 0 0 := by
        intro n
        induction n with
        | zero =>
          intro s hs
          have e : s = 2 ^ ro := by omega
          subst e
          refine wt_iload_6 (pc := 59) hc dX3_beams_59 ?_
          refine wt_iconst (pc := 61) (v := nI 1) hc dX3_beams_61 (by decide) ?_
          refine wt_aload_0 (pc := 62) hc dX3_beams_62 ?_
          refine tw_get (pc := 63) 1 (nI ro) hc hE dX3_beams_63 q1605 (by decide) (fun _ _ _ => rfl) rfl (hC.2.2.2.1) ?_
          refine wt_ishl (pc := 66) hc dX3_beams_66 ?_
          rw [sp_shl ro hro]
          refine wt_nicmp_ge (pc := 67) 207 (2 ^ ro) (2 ^ ro) hc dX3_beams_67 (by decide) (by omega) (by omega) (fun c_67 => ?_) (fun c_67 => ?_)
          · refine wt_iload_3 (pc := 207) hc dX3_beams_207 ?_
            refine wt_if_ne (pc := 208) 216 hc dX3_beams_208 (by decide) (fun c_208 => ?_) (fun c_208 => ?_)
            · refine wt_iload_4 (pc := 216) hc dX3_beams_216 ?_
              exact wt_iret (pc := 218) hc hok dX3_beams_218 (rfl) (fun H hZ => sp_ans_ok (sp_Q.rf N) h0 (by rw [ev]; first | rw [if_pos c_208] | rw [if_neg c_208]) hZ)
            · refine wt_iload_5 (pc := 211) hc dX3_beams_211 ?_
              refine wt_goto (pc := 213) 218 hc dX3_beams_213 (by decide) ?_
              exact wt_iret (pc := 218) hc hok dX3_beams_218 (rfl) (fun H hZ => sp_ans_ok (sp_Q.rf N) h0 (by rw [ev]; first | rw [if_pos c_208] | rw [if_neg c_208]) hZ)
          · omega
        | succ n ih =>
          intro s hs
          have nxt := ih (s + 1) (by omega)
          rw [sp_be] at nxt
          refine wt_iload_6 (pc := 59) hc dX3_beams_59 ?_
          refine wt_iconst (pc := 61) (v := nI 1) hc dX3_beams_61 (by decide) ?_
          refine wt_aload_0 (pc := 62) hc dX3_beams_62 ?_
          refine tw_get (pc := 63) 1 (nI ro) hc hE dX3_beams_63 q1605 (by decide) (fun _ _ _ => rfl) rfl (hC.2.2.2.1) ?_
          refine wt_ishl (pc := 66) hc dX3_beams_66 ?_
          rw [sp_shl ro hro]
          refine wt_nicmp_ge (pc := 67) 207 (s) (2 ^ ro) hc dX3_beams_67 (by decide) (by omega) (by omega) (fun c_67 => ?_) (fun c_67 => ?_)
          · omega
          · refine wt_iload_6 (pc := 70) hc dX3_beams_70 ?_
            refine wt_gofn (wt_invS (pc := 72) 1 hc (ct_bits _) dX3_beams_72 rfl q2163 q2164 q116 q2165 (by decide +kernel) rfl (by decide) (by decide) (Nat.le_of_ble_eq_true rfl) rfl) ?_
            refine wt_iload_1 (pc := 75) hc dX3_beams_75 ?_
            refine wt_icmp_eq (pc := 76) 82 hc dX3_beams_76 (by decide) (fun c_76 => ?_) (fun c_76 => ?_)
            · rw [if_pos c_76] at nxt
              refine wt_iconst (pc := 82) (v := nI 0) hc dX3_beams_82 (by decide) ?_
              refine wt_istore_7 (pc := 83) hc dX3_beams_83 rfl ?_
              refine wt_iconst (pc := 85) (v := nI 0) hc dX3_beams_85 (by decide) ?_
              refine wt_istore_8 (pc := 86) hc dX3_beams_86 rfl ?_
              refine ridersL ri 0 s _ _ (by omega) ?_
              refine wt_iload_7 (pc := 183) hc dX3_beams_183 ?_
              refine wt_iload_5 (pc := 185) hc dX3_beams_185 ?_
              refine wt_icmp_gt (pc := 187) 193 hc dX3_beams_187 (by decide) (fun c_187 => ?_) (fun c_187 => ?_)
              · refine wt_iload_6 (pc := 193) hc dX3_beams_193 ?_
                refine wt_istore_4 (pc := 195) hc dX3_beams_195 rfl ?_
                refine wt_iload_7 (pc := 197) hc dX3_beams_197 ?_
                refine wt_istore_5 (pc := 199) hc dX3_beams_199 rfl ?_
                refine wt_iinc_6 (pc := 201) (v := nI (s + 1)) hc dX3_beams_201 (nI_add s 1) rfl ?_
                refine wt_goto (pc := 204) 59 hc dX3_beams_204 (by decide) ?_
                first | (rw [if_neg (Int32.not_le.mpr c_187)] at nxt; exact wt_drop nxt ⟨rfl, rfl, rfl, rfl, rfl, rfl, rfl, trivial⟩) | (rw [if_pos (Int32.not_lt.mp c_187)] at nxt; exact wt_drop nxt ⟨rfl, rfl, rfl, rfl, rfl, rfl, rfl, trivial⟩)
              · refine wt_goto (pc := 190) 201 hc dX3_beams_190 (by decide) ?_
                refine wt_iinc_6 (pc := 201) (v := nI (s + 1)) hc dX3_beams_201 (nI_add s 1) rfl ?_
                refine wt_goto (pc := 204) 59 hc dX3_beams_204 (by decide) ?_
                first | (rw [if_neg (Int32.not_le.mpr c_187)] at nxt; exact wt_drop nxt ⟨rfl, rfl, rfl, rfl, rfl, rfl, rfl, trivial⟩) | (rw [if_pos (Int32.not_lt.mp c_187)] at nxt; exact wt_drop nxt ⟨rfl, rfl, rfl, rfl, rfl, rfl, rfl, trivial⟩)
            · rw [if_neg c_76] at nxt
              refine wt_goto (pc := 79) 201 hc dX3_beams_79 (by decide) ?_
              refine wt_iinc_6 (pc := 201) (v := nI (s + 1)) hc dX3_beams_201 (nI_add s 1) rfl ?_
              refine wt_goto (pc := 204) 59 hc dX3_beams_204 (by decide) ?_
              exact nxt
      refine wt_aload_0 (pc := 0) hc dX3_beams_0 ?_
      refine wt_iconst (pc := 1) (v := nI 0) hc dX3_beams_1 (by decide) ?_
      refine tw_put (pc := 2) 0 hc hE dX3_beams_2 q1604 (by decide) (fun _ _ _ => rfl) rfl rfl (rfl) rfl ?_
      refine tw_eq hN ?_
      refine wt_aload_0 (pc := 5) hc dX3_beams_5 ?_
      refine wt_iload_3 (pc := 6) hc dX3_beams_6 ?_
      refine wt_iconst (pc := 7) (v := nI 1) hc dX3_beams_7 (by decide) ?_
      refine wt_gofn (tw_inv (pc := 8) 2 hc hE (ct_isWhat hE h0 _ _) dX3_beams_8 rfl q2044 q2046 qs92 q116 q2047 (by decide +kernel) rfl (by decide) (by decide) (Nat.le_of_ble_eq_true rfl) rfl) ?_
      rw [if_pos hp, sp_b_t hp]
      refine wt_if_eq (pc := 11) 48 hc dX3_beams_11 (by decide) (fun c_11 => ?_) (fun c_11 => ?_)
      · exact absurd c_11 (by decide)
      · refine wt_aload_0 (pc := 14) hc dX3_beams_14 ?_
        refine wt_iload_1 (pc := 15) hc dX3_beams_15 ?_
        refine wt_iconst (pc := 16) (v := nI 0) hc dX3_beams_16 (by decide) ?_
        refine wt_bipush (pc := 17) (v := nI 10) hc dX3_beams_17 (by decide) ?_
        refine wt_gofn (wt_invS (pc := 19) 3 hc (ct_within _ _ _) dX3_beams_19 rfl q1986 q1987 q116 q1988 (by decide +kernel) rfl (by decide) (by decide) (Nat.le_of_ble_eq_true rfl) rfl) ?_
        rw [sp_b_t hp2.1]
        refine wt_if_eq (pc := 22) 40 hc dX3_beams_22 (by decide) (fun c_22 => ?_) (fun c_22 => ?_)
        · exact absurd c_22 (by decide)
        · refine wt_iload_2 (pc := 25) hc dX3_beams_25 ?_
          refine wt_iconst (pc := 26) (v := nI 0) hc dX3_beams_26 (by decide) ?_
          refine wt_sipush (pc := 27) (v := nI 200) hc dX3_beams_27 (by decide) ?_
          refine wt_gofn (wt_invS (pc := 30) 3 hc (ct_within _ _ _) dX3_beams_30 rfl q1986 q1987 q116 q1988 (by decide +kernel) rfl (by decide) (by decide) (Nat.le_of_ble_eq_true rfl) rfl) ?_
          rw [sp_b_t hp2.2]
          refine wt_if_eq (pc := 33) 40 hc dX3_beams_33 (by decide) (fun c_33 => ?_) (fun c_33 => ?_)
          · exact absurd c_33 (by decide)
          · refine wt_iconst (pc := 36) (v := nI 1) hc dX3_beams_36 (by decide) ?_
            refine wt_goto (pc := 37) 41 hc dX3_beams_37 (by decide) ?_
            refine wt_iconst (pc := 41) (v := nI 2) hc dX3_beams_41 (by decide) ?_
            refine wt_gofn (tw_inv (pc := 42) 2 hc hE (ct_right0 hE h0 _ _) dX3_beams_42 rfl q1850 q1852 qs54 q116 q1853 (by decide +kernel) rfl (by decide) (by decide) (Nat.le_of_ble_eq_true rfl) rfl) ?_
            rw [if_neg (show ¬ nI 1 = 0 by decide), sp_b_t (show ¬ nI 1 = 0 ∨ nI 2 = 0 from Or.inl (by decide))]
            refine wt_if_ne (pc := 45) 50 hc dX3_beams_45 (by decide) (fun c_45 => ?_) (fun c_45 => ?_)
            · refine wt_iconst (pc := 50) (v := (-1 : Int32)) hc dX3_beams_50 (by decide) ?_
              refine wt_istore_4 (pc := 51) hc dX3_beams_51 rfl ?_
              refine wt_iconst (pc := 53) (v := (-1 : Int32)) hc dX3_beams_53 (by decide) ?_
              refine wt_istore_5 (pc := 54) hc dX3_beams_54 rfl ?_
              refine wt_iconst (pc := 56) (v := nI 0) hc dX3_beams_56 (by decide) ?_
              refine wt_istore_6 (pc := 57) hc dX3_beams_57 rfl ?_
              exact setsL (2 ^ ro) 0 (by omega)
            · exact absurd c_45 (by decide)
    · rw [if_pos hp, if_neg hp2] at hok
      have key : wt_V G X 40 [some (.ref T.1), some (.int a), some (.int b), some (.int k), none, none, none, none, none, none, none] [.ref T.1] (tw_Z G T N w) 0 0 := by
        refine wt_iconst (pc := 40) (v := nI 0) hc dX3_beams_40 (by decide) ?_
        refine wt_iconst (pc := 41) (v := nI 2) hc dX3_beams_41 (by decide) ?_
        refine wt_gofn (tw_inv (pc := 42) 2 hc hE (ct_right0 hE h0 _ _) dX3_beams_42 rfl q1850 q1852 qs54 q116 q1853 (by decide +kernel) rfl (by decide) (by decide) (Nat.le_of_ble_eq_true rfl) rfl) ?_
        rw [if_pos (show nI 0 = 0 from rfl), sp_b_f (show ¬ (¬ nI 0 = 0 ∨ nI 2 = 0) from fun z => z.elim (fun z => z rfl) (by decide))]
        refine wt_if_ne (pc := 45) 50 hc dX3_beams_45 (by decide) (fun c_45 => ?_) (fun c_45 => ?_)
        · exact absurd rfl c_45
        · refine wt_iconst (pc := 48) (v := nI 0) hc dX3_beams_48 (by decide) ?_
          exact wt_iret (pc := 49) hc hok dX3_beams_49 (rfl) (fun H hZ => sp_ans_bad (by decide) hZ)
      by_cases ha : nI 0 ≤ a ∧ a ≤ nI 10
      · have hb : ¬ (nI 0 ≤ b ∧ b ≤ nI 200) := fun z => hp2 ⟨ha, z⟩
        refine wt_aload_0 (pc := 0) hc dX3_beams_0 ?_
        refine wt_iconst (pc := 1) (v := nI 0) hc dX3_beams_1 (by decide) ?_
        refine tw_put (pc := 2) 0 hc hE dX3_beams_2 q1604 (by decide) (fun _ _ _ => rfl) rfl rfl (rfl) rfl ?_
        refine tw_eq hN ?_
        refine wt_aload_0 (pc := 5) hc dX3_beams_5 ?_
        refine wt_iload_3 (pc := 6) hc dX3_beams_6 ?_
        refine wt_iconst (pc := 7) (v := nI 1) hc dX3_beams_7 (by decide) ?_
        refine wt_gofn (tw_inv (pc := 8) 2 hc hE (ct_isWhat hE h0 _ _) dX3_beams_8 rfl q2044 q2046 qs92 q116 q2047 (by decide +kernel) rfl (by decide) (by decide) (Nat.le_of_ble_eq_true rfl) rfl) ?_
        rw [if_pos hp, sp_b_t hp]
        refine wt_if_eq (pc := 11) 48 hc dX3_beams_11 (by decide) (fun c_11 => ?_) (fun c_11 => ?_)
        · exact absurd c_11 (by decide)
        · refine wt_aload_0 (pc := 14) hc dX3_beams_14 ?_
          refine wt_iload_1 (pc := 15) hc dX3_beams_15 ?_
          refine wt_iconst (pc := 16) (v := nI 0) hc dX3_beams_16 (by decide) ?_
          refine wt_bipush (pc := 17) (v := nI 10) hc dX3_beams_17 (by decide) ?_
          refine wt_gofn (wt_invS (pc := 19) 3 hc (ct_within _ _ _) dX3_beams_19 rfl q1986 q1987 q116 q1988 (by decide +kernel) rfl (by decide) (by decide) (Nat.le_of_ble_eq_true rfl) rfl) ?_
          rw [sp_b_t ha]
          refine wt_if_eq (pc := 22) 40 hc dX3_beams_22 (by decide) (fun c_22 => ?_) (fun c_22 => ?_)
          · exact absurd c_22 (by decide)
          · refine wt_iload_2 (pc := 25) hc dX3_beams_25 ?_
            refine wt_iconst (pc := 26) (v := nI 0) hc dX3_beams_26 (by decide) ?_
            refine wt_sipush (pc := 27) (v := nI 200) hc dX3_beams_27 (by decide) ?_
            refine wt_gofn (wt_invS (pc := 30) 3 hc (ct_within _ _ _) dX3_beams_30 rfl q1986 q1987 q116 q1988 (by decide +kernel) rfl (by decide) (by decide) (Nat.le_of_ble_eq_true rfl) rfl) ?_
            rw [sp_b_f hb]
            refine wt_if_eq (pc := 33) 40 hc dX3_beams_33 (by decide) (fun c_33 => ?_) (fun c_33 => ?_)
            · exact key
            · exact absurd rfl c_33
      · refine wt_aload_0 (pc := 0) hc dX3_beams_0 ?_
        refine wt_iconst (pc := 1) (v := nI 0) hc dX3_beams_1 (by decide) ?_
        refine tw_put (pc := 2) 0 hc hE dX3_beams_2 q1604 (by decide) (fun _ _ _ => rfl) rfl rfl (rfl) rfl ?_
        refine tw_eq hN ?_
        refine wt_aload_0 (pc := 5) hc dX3_beams_5 ?_
        refine wt_iload_3 (pc := 6) hc dX3_beams_6 ?_
        refine wt_iconst (pc := 7) (v := nI 1) hc dX3_beams_7 (by decide) ?_
        refine wt_gofn (tw_inv (pc := 8) 2 hc hE (ct_isWhat hE h0 _ _) dX3_beams_8 rfl q2044 q2046 qs92 q116 q2047 (by decide +kernel) rfl (by decide) (by decide) (Nat.le_of_ble_eq_true rfl) rfl) ?_
        rw [if_pos hp, sp_b_t hp]
        refine wt_if_eq (pc := 11) 48 hc dX3_beams_11 (by decide) (fun c_11 => ?_) (fun c_11 => ?_)
        · exact absurd c_11 (by decide)
        · refine wt_aload_0 (pc := 14) hc dX3_beams_14 ?_
          refine wt_iload_1 (pc := 15) hc dX3_beams_15 ?_
          refine wt_iconst (pc := 16) (v := nI 0) hc dX3_beams_16 (by decide) ?_
          refine wt_bipush (pc := 17) (v := nI 10) hc dX3_beams_17 (by decide) ?_
          refine wt_gofn (wt_invS (pc := 19) 3 hc (ct_within _ _ _) dX3_beams_19 rfl q1986 q1987 q116 q1988 (by decide +kernel) rfl (by decide) (by decide) (Nat.le_of_ble_eq_true rfl) rfl) ?_
          rw [sp_b_f ha]
          refine wt_if_eq (pc := 22) 40 hc dX3_beams_22 (by decide) (fun c_22 => ?_) (fun c_22 => ?_)
          · exact key
          · exact absurd rfl c_22
  · rw [if_neg hp] at hok
    refine wt_aload_0 (pc := 0) hc dX3_beams_0 ?_
    refine wt_iconst (pc := 1) (v := nI 0) hc dX3_beams_1 (by decide) ?_
    refine tw_put (pc := 2) 0 hc hE dX3_beams_2 q1604 (by decide) (fun _ _ _ => rfl) rfl rfl (rfl) rfl ?_
    refine tw_eq hN ?_
    refine wt_aload_0 (pc := 5) hc dX3_beams_5 ?_
    refine wt_iload_3 (pc := 6) hc dX3_beams_6 ?_
    refine wt_iconst (pc := 7) (v := nI 1) hc dX3_beams_7 (by decide) ?_
    refine wt_gofn (tw_inv (pc := 8) 2 hc hE (ct_isWhat hE h0 _ _) dX3_beams_8 rfl q2044 q2046 qs92 q116 q2047 (by decide +kernel) rfl (by decide) (by decide) (Nat.le_of_ble_eq_true rfl) rfl) ?_
    rw [if_neg hp, sp_b_f hp]
    refine wt_if_eq (pc := 11) 48 hc dX3_beams_11 (by decide) (fun c_11 => ?_) (fun c_11 => ?_)
    · refine wt_iconst (pc := 48) (v := nI 0) hc dX3_beams_48 (by decide) ?_
      exact wt_iret (pc := 49) hc hok dX3_beams_49 (rfl) (fun H hZ => sp_ans_bad (by decide) hZ)
    · exact absurd rfl c_11
theorem ct_takers (hE : tw_E G T) (ro ow ri : Nat) (hC : sp_cty M ro ow ri) (c : Int32) : wt_Ct l G yX3_takers cX3_takers 4 (some .int) 1 0 0 [.ref T.1, .int c] (tw_Z G T M w) (wt_fn (sp_tkr M c ri) (tw_Z G T M w)) := by
  have hri := hC.2.2.1
  refine wt_enter [some (.ref T.1), some (.int c), none, none] (by decide +kernel) rfl (Nat.le_of_ble_eq_true rfl) (fun X hc hok => ?_)
  have loop : ∀ n p : Nat, p + n = ri → wt_V G X 4 [some (.ref T.1), some (.int c), some (.int (sp_tkr M c p)), some (.int (nI p))] [] (tw_Z G T M w) 0 0 := by
    intro n
    induction n with
    | zero =>
      intro p hp
      have e : p = ri := by omega
      subst e
      refine wt_iload_3 (pc := 4) hc dX3_takers_4 ?_
      refine wt_aload_0 (pc := 5) hc dX3_takers_5 ?_
      refine tw_get (pc := 6) 4 (nI p) hc hE dX3_takers_6 q1608 (by decide) (fun _ _ _ => rfl) rfl (hC.2.2.2.2.2.1) ?_
      refine wt_nicmp_ge (pc := 9) 40 (p) (p) hc dX3_takers_9 (by decide) (by omega) (by omega) (fun c_9 => ?_) (fun c_9 => ?_)
      · refine wt_iload_2 (pc := 40) hc dX3_takers_40 ?_
        exact wt_iret (pc := 41) hc hok dX3_takers_41 (rfl) (fun H hZ => ⟨rfl, hZ⟩)
      · omega
    | succ n ih =>
      intro p hp
      have nxt := ih (p + 1) (by omega)
      rw [sp_tkr] at nxt
      refine wt_iload_3 (pc := 4) hc dX3_takers_4 ?_
      refine wt_aload_0 (pc := 5) hc dX3_takers_5 ?_
      refine tw_get (pc := 6) 4 (nI ri) hc hE dX3_takers_6 q1608 (by decide) (fun _ _ _ => rfl) rfl (hC.2.2.2.2.2.1) ?_
      refine wt_nicmp_ge (pc := 9) 40 (p) (ri) hc dX3_takers_9 (by decide) (by omega) (by omega) (fun c_9 => ?_) (fun c_9 => ?_)
      · omega
      · refine wt_iload_2 (pc := 12) hc dX3_takers_12 ?_
        refine wt_aload_0 (pc := 13) hc dX3_takers_13 ?_
        refine tw_geta (pc := 14) 11 hc hE dX3_takers_14 q1615 (by decide) (by decide) (fun _ _ _ => rfl) rfl ?_
        refine wt_iconst (pc := 17) (v := nI 4) hc dX3_takers_17 (by decide) ?_
        refine wt_iload_3 (pc := 18) hc dX3_takers_18 ?_
        refine wt_imul (pc := 19) hc dX3_takers_19 ?_
        rw [pk_mul 4 p]
        refine wt_iconst (pc := 20) (v := nI 3) hc dX3_takers_20 (by decide) ?_
        refine wt_iadd (pc := 21) hc dX3_takers_21 ?_
        rw [nI_add (4 * p) 3]
        refine tw_iald (pc := 22) (k := 11) (4 * p + 3) _ hc hE dX3_takers_22 rfl (rfl) (by show _ < 32; omega) (by decide) (rfl) ?_
        refine wt_iload_1 (pc := 23) hc dX3_takers_23 ?_
        refine wt_icmp_lt (pc := 24) 31 hc dX3_takers_24 (by decide) (fun c_24 => ?_) (fun c_24 => ?_)
        · refine wt_iconst (pc := 31) (v := nI 0) hc dX3_takers_31 (by decide) ?_
          refine wt_iadd (pc := 32) hc dX3_takers_32 ?_
          refine wt_istore_2 (pc := 33) hc dX3_takers_33 rfl ?_
          refine wt_iinc_3 (pc := 34) (v := nI (p + 1)) hc dX3_takers_34 (nI_add p 1) rfl ?_
          refine wt_goto (pc := 37) 4 hc dX3_takers_37 (by decide) ?_
          first | (rw [if_pos c_24] at nxt; exact nxt) | (rw [if_neg c_24] at nxt; exact nxt)
        · refine wt_iconst (pc := 27) (v := nI 1) hc dX3_takers_27 (by decide) ?_
          refine wt_goto (pc := 28) 32 hc dX3_takers_28 (by decide) ?_
          refine wt_iadd (pc := 32) hc dX3_takers_32 ?_
          refine wt_istore_2 (pc := 33) hc dX3_takers_33 rfl ?_
          refine wt_iinc_3 (pc := 34) (v := nI (p + 1)) hc dX3_takers_34 (nI_add p 1) rfl ?_
          refine wt_goto (pc := 37) 4 hc dX3_takers_37 (by decide) ?_
          first | (rw [if_pos c_24] at nxt; exact nxt) | (rw [if_neg c_24] at nxt; exact nxt)
  refine wt_iconst (pc := 0) (v := nI 0) hc dX3_takers_0 (by decide) ?_
  refine wt_istore_2 (pc := 1) hc dX3_takers_1 rfl ?_
  refine wt_iconst (pc := 2) (v := nI 0) hc dX3_takers_2 (by decide) ?_
  refine wt_istore_3 (pc := 3) hc dX3_takers_3 rfl ?_
  exact loop ri 0 (by omega)
theorem ct_gains (hE : tw_E G T) (ro ow ri : Nat) (hC : sp_cty M ro ow ri) (a b : Int32) (f : Bool) : wt_Ct l G yX3_gains cX3_gains 5 (some .int) 2 0 0 [.ref T.1, .int a, .int b, .int (sp_i f)] (tw_Z G T M w) (wt_fn (sp_ga M ri a b f) (tw_Z G T M w)) := by
  cases f with
  | true =>
    refine wt_enter [some (.ref T.1), some (.int a), some (.int b), some (.int (nI 1)), none] (by decide +kernel) rfl (Nat.le_of_ble_eq_true rfl) (fun X hc hok => ?_)
    refine wt_iload_3 (pc := 0) hc dX3_gains_0 ?_
    refine wt_if_eq (pc := 1) 8 hc dX3_gains_1 (by decide) (fun z => absurd z (by decide)) (fun _ => ?_)
    refine wt_iload_1 (pc := 4) hc dX3_gains_4 ?_
    refine wt_goto (pc := 5) 9 hc dX3_gains_5 (by decide) ?_
    refine wt_istore_4 (pc := 9) hc dX3_gains_9 rfl ?_
    refine wt_iload_1 (pc := 11) hc dX3_gains_11 ?_
    refine wt_iload_2 (pc := 12) hc dX3_gains_12 ?_
    refine wt_icmp_gt (pc := 13) 20 hc dX3_gains_13 (by decide) (fun c_13 => ?_) (fun c_13 => ?_)
    · refine wt_iconst (pc := 20) (v := nI 0) hc dX3_gains_20 (by decide) ?_
      refine wt_iload_3 (pc := 21) hc dX3_gains_21 ?_
      refine wt_nicmp_ne (pc := 22) 39 (0) (1) hc dX3_gains_22 (by decide) (by omega) (by omega) (fun c_22 => ?_) (fun c_22 => ?_)
      · refine wt_iconst (pc := 39) (v := nI 0) hc dX3_gains_39 (by decide) ?_
        exact wt_iret (pc := 40) hc hok dX3_gains_40 (rfl) (fun H hZ => ⟨by first | (exfalso; omega) | (rw [sp_ga, if_pos (decide_eq_true (Int32.not_lt.mp c_13))]; rfl) | (rw [sp_ga, if_neg (fun z => Int32.not_le.mpr c_13 (of_decide_eq_true z))]), hZ⟩)
      · refine wt_aload_0 (pc := 25) hc dX3_gains_25 ?_
        refine wt_iload_4 (pc := 26) hc dX3_gains_26 ?_
        refine wt_gofn (tw_inv (pc := 28) 1 hc hE (ct_takers hE ro ow ri hC _) dX3_gains_28 rfl q2249 q2251 qs109 q116 q2252 (by decide +kernel) rfl (by decide) (by decide) (Nat.le_of_ble_eq_true rfl) rfl) ?_
        refine wt_iload_4 (pc := 31) hc dX3_gains_31 ?_
        refine wt_iconst (pc := 33) (v := nI 1) hc dX3_gains_33 (by decide) ?_
        refine wt_isub (pc := 34) hc dX3_gains_34 ?_
        refine wt_imul (pc := 35) hc dX3_gains_35 ?_
        refine wt_goto (pc := 36) 40 hc dX3_gains_36 (by decide) ?_
        exact wt_iret (pc := 40) hc hok dX3_gains_40 (rfl) (fun H hZ => ⟨by first | (exfalso; omega) | (rw [sp_ga, if_pos (decide_eq_true (Int32.not_lt.mp c_13))]; rfl) | (rw [sp_ga, if_neg (fun z => Int32.not_le.mpr c_13 (of_decide_eq_true z))]), hZ⟩)
    · refine wt_iconst (pc := 16) (v := nI 1) hc dX3_gains_16 (by decide) ?_
      refine wt_goto (pc := 17) 21 hc dX3_gains_17 (by decide) ?_
      refine wt_iload_3 (pc := 21) hc dX3_gains_21 ?_
      refine wt_nicmp_ne (pc := 22) 39 (1) (1) hc dX3_gains_22 (by decide) (by omega) (by omega) (fun c_22 => ?_) (fun c_22 => ?_)
      · refine wt_iconst (pc := 39) (v := nI 0) hc dX3_gains_39 (by decide) ?_
        exact wt_iret (pc := 40) hc hok dX3_gains_40 (rfl) (fun H hZ => ⟨by first | (exfalso; omega) | (rw [sp_ga, if_pos (decide_eq_true (Int32.not_lt.mp c_13))]; rfl) | (rw [sp_ga, if_neg (fun z => Int32.not_le.mpr c_13 (of_decide_eq_true z))]), hZ⟩)
      · refine wt_aload_0 (pc := 25) hc dX3_gains_25 ?_
        refine wt_iload_4 (pc := 26) hc dX3_gains_26 ?_
        refine wt_gofn (tw_inv (pc := 28) 1 hc hE (ct_takers hE ro ow ri hC _) dX3_gains_28 rfl q2249 q2251 qs109 q116 q2252 (by decide +kernel) rfl (by decide) (by decide) (Nat.le_of_ble_eq_true rfl) rfl) ?_
        refine wt_iload_4 (pc := 31) hc dX3_gains_31 ?_
        refine wt_iconst (pc := 33) (v := nI 1) hc dX3_gains_33 (by decide) ?_
        refine wt_isub (pc := 34) hc dX3_gains_34 ?_
        refine wt_imul (pc := 35) hc dX3_gains_35 ?_
        refine wt_goto (pc := 36) 40 hc dX3_gains_36 (by decide) ?_
        exact wt_iret (pc := 40) hc hok dX3_gains_40 (rfl) (fun H hZ => ⟨by first | (exfalso; omega) | (rw [sp_ga, if_pos (decide_eq_true (Int32.not_lt.mp c_13))]; rfl) | (rw [sp_ga, if_neg (fun z => Int32.not_le.mpr c_13 (of_decide_eq_true z))]), hZ⟩)
  | false =>
    refine wt_enter [some (.ref T.1), some (.int a), some (.int b), some (.int (nI 0)), none] (by decide +kernel) rfl (Nat.le_of_ble_eq_true rfl) (fun X hc hok => ?_)
    refine wt_iload_3 (pc := 0) hc dX3_gains_0 ?_
    refine wt_if_eq (pc := 1) 8 hc dX3_gains_1 (by decide) (fun _ => ?_) (fun z => absurd z (by decide))
    refine wt_iload_2 (pc := 8) hc dX3_gains_8 ?_
    refine wt_istore_4 (pc := 9) hc dX3_gains_9 rfl ?_
    refine wt_iload_1 (pc := 11) hc dX3_gains_11 ?_
    refine wt_iload_2 (pc := 12) hc dX3_gains_12 ?_
    refine wt_icmp_gt (pc := 13) 20 hc dX3_gains_13 (by decide) (fun c_13 => ?_) (fun c_13 => ?_)
    · refine wt_iconst (pc := 20) (v := nI 0) hc dX3_gains_20 (by decide) ?_
      refine wt_iload_3 (pc := 21) hc dX3_gains_21 ?_
      refine wt_nicmp_ne (pc := 22) 39 (0) (0) hc dX3_gains_22 (by decide) (by omega) (by omega) (fun c_22 => ?_) (fun c_22 => ?_)
      · refine wt_iconst (pc := 39) (v := nI 0) hc dX3_gains_39 (by decide) ?_
        exact wt_iret (pc := 40) hc hok dX3_gains_40 (rfl) (fun H hZ => ⟨by first | (exfalso; omega) | (rw [sp_ga, if_pos (decide_eq_false (Int32.not_le.mpr c_13))]; rfl) | (rw [sp_ga, if_neg (fun z => of_decide_eq_false z (Int32.not_lt.mp c_13))]), hZ⟩)
      · refine wt_aload_0 (pc := 25) hc dX3_gains_25 ?_
        refine wt_iload_4 (pc := 26) hc dX3_gains_26 ?_
        refine wt_gofn (tw_inv (pc := 28) 1 hc hE (ct_takers hE ro ow ri hC _) dX3_gains_28 rfl q2249 q2251 qs109 q116 q2252 (by decide +kernel) rfl (by decide) (by decide) (Nat.le_of_ble_eq_true rfl) rfl) ?_
        refine wt_iload_4 (pc := 31) hc dX3_gains_31 ?_
        refine wt_iconst (pc := 33) (v := nI 1) hc dX3_gains_33 (by decide) ?_
        refine wt_isub (pc := 34) hc dX3_gains_34 ?_
        refine wt_imul (pc := 35) hc dX3_gains_35 ?_
        refine wt_goto (pc := 36) 40 hc dX3_gains_36 (by decide) ?_
        exact wt_iret (pc := 40) hc hok dX3_gains_40 (rfl) (fun H hZ => ⟨by first | (exfalso; omega) | (rw [sp_ga, if_pos (decide_eq_false (Int32.not_le.mpr c_13))]; rfl) | (rw [sp_ga, if_neg (fun z => of_decide_eq_false z (Int32.not_lt.mp c_13))]), hZ⟩)
    · refine wt_iconst (pc := 16) (v := nI 1) hc dX3_gains_16 (by decide) ?_
      refine wt_goto (pc := 17) 21 hc dX3_gains_17 (by decide) ?_
      refine wt_iload_3 (pc := 21) hc dX3_gains_21 ?_
      refine wt_nicmp_ne (pc := 22) 39 (1) (0) hc dX3_gains_22 (by decide) (by omega) (by omega) (fun c_22 => ?_) (fun c_22 => ?_)
      · refine wt_iconst (pc := 39) (v := nI 0) hc dX3_gains_39 (by decide) ?_
        exact wt_iret (pc := 40) hc hok dX3_gains_40 (rfl) (fun H hZ => ⟨by first | (exfalso; omega) | (rw [sp_ga, if_pos (decide_eq_false (Int32.not_le.mpr c_13))]; rfl) | (rw [sp_ga, if_neg (fun z => of_decide_eq_false z (Int32.not_lt.mp c_13))]), hZ⟩)
      · refine wt_aload_0 (pc := 25) hc dX3_gains_25 ?_
        refine wt_iload_4 (pc := 26) hc dX3_gains_26 ?_
        refine wt_gofn (tw_inv (pc := 28) 1 hc hE (ct_takers hE ro ow ri hC _) dX3_gains_28 rfl q2249 q2251 qs109 q116 q2252 (by decide +kernel) rfl (by decide) (by decide) (Nat.le_of_ble_eq_true rfl) rfl) ?_
        refine wt_iload_4 (pc := 31) hc dX3_gains_31 ?_
        refine wt_iconst (pc := 33) (v := nI 1) hc dX3_gains_33 (by decide) ?_
        refine wt_isub (pc := 34) hc dX3_gains_34 ?_
        refine wt_imul (pc := 35) hc dX3_gains_35 ?_
        refine wt_goto (pc := 36) 40 hc dX3_gains_36 (by decide) ?_
        exact wt_iret (pc := 40) hc hok dX3_gains_40 (rfl) (fun H hZ => ⟨by first | (exfalso; omega) | (rw [sp_ga, if_pos (decide_eq_false (Int32.not_le.mpr c_13))]; rfl) | (rw [sp_ga, if_neg (fun z => of_decide_eq_false z (Int32.not_lt.mp c_13))]), hZ⟩)
theorem ct_bats (hE : tw_E G T) (hN : sp_t0 M = N) (ro ow ri : Nat) (hC : sp_cty N ro ow ri) (k : Int32) : wt_Ct l G yX3_bats cX3_bats 8 (some .int) 3 0 0 [.ref T.1, .int k] (tw_Z G T M w) (sp_ans G T N w (if 0 ≤ k ∧ k ≤ nI 1 then 0 else 1) (sp_bav N k)) := by
  have h0 : N 0 0 = 0 := by rw [← hN]; rfl
  have hri := hC.2.2.1
  refine wt_enter [some (.ref T.1), some (.int k), none, none, none, none, none, none] (by decide +kernel) rfl (Nat.le_of_ble_eq_true rfl) (fun X hc hok => ?_)
  by_cases hp : 0 ≤ k ∧ k ≤ nI 1
  · rw [if_pos hp] at hok
    have ev : sp_bav N k = if k = 0 then (sp_ba N ri 9 1 (nI 0, -1)).1 else (sp_ba N ri 9 1 (nI 0, -1)).2 := by
      unfold sp_bav
      rw [hC.2.2.2.2.2.1, nn_nI (by omega)]
    have lK : ∀ (n i a b : Nat) (x y : Int32), i + n = 9 → a ≤ 9 → b ≤ 9 → wt_V G X 113 [some (.ref T.1), some (.int k), some (.int x), some (.int y), some (.int (nI a)), some (.int (nI b)), some (.int (sp_i (sp_bk N ri (nI a) (nI b) 9))), none] [] (tw_Z G T N w) 0 0 → wt_V G X 46 [some (.ref T.1), some (.int k), some (.int x), some (.int y), some (.int (nI a)), some (.int (nI b)), some (.int (sp_i (sp_bk N ri (nI a) (nI b) i))), some (.int (nI (i + 1)))] [] (tw_Z G T N w) 0 0 := by
      intro n
      induction n with
      | zero =>
        intro i a b x y hi ha hb hend
        have e : i = 9 := by omega
        subst e
        refine wt_iload_7 (pc := 46) hc dX3_bats_46 ?_
        refine wt_bipush (pc := 48) (v := nI 9) hc dX3_bats_48 (by decide) ?_
        refine wt_nicmp_gt (pc := 50) 113 (10) (9) hc dX3_bats_50 (by decide) (by omega) (by omega) (fun c_50 => ?_) (fun c_50 => ?_)
        · exact wt_drop hend ⟨rfl, rfl, rfl, rfl, rfl, rfl, rfl, trivial⟩
        · omega
      | succ n ih =>
        intro i a b x y hi ha hb hend
        have nxt := ih (i + 1) a b x y (by omega) ha hb hend
        rw [sp_bk] at nxt
        refine wt_iload_7 (pc := 46) hc dX3_bats_46 ?_
        refine wt_bipush (pc := 48) (v := nI 9) hc dX3_bats_48 (by decide) ?_
        refine wt_nicmp_gt (pc := 50) 113 (i + 1) (9) hc dX3_bats_50 (by decide) (by omega) (by omega) (fun c_50 => ?_) (fun c_50 => ?_)
        · omega
        · cases hv : sp_bk N ri (nI a) (nI b) i with
          | false =>
            rw [hv, Bool.false_and] at nxt
            refine wt_iload_6 (pc := 53) hc dX3_bats_53 ?_
            refine wt_if_eq (pc := 55) 104 hc dX3_bats_55 (by decide) (fun _ => ?_) (fun z => absurd z (by decide))
            refine wt_iconst (pc := 104) (v := nI 0) hc dX3_bats_104 (by decide) ?_
            refine wt_istore_6 (pc := 105) hc dX3_bats_105 rfl ?_
            refine wt_iinc_7 (pc := 107) (v := nI (i + 1 + 1)) hc dX3_bats_107 (nI_add (i + 1) 1) rfl ?_
            refine wt_goto (pc := 110) 46 hc dX3_bats_110 (by decide) ?_
            exact nxt
          | true =>
            rw [hv, Bool.true_and] at nxt
            refine wt_iload_6 (pc := 53) hc dX3_bats_53 ?_
            refine wt_if_eq (pc := 55) 104 hc dX3_bats_55 (by decide) (fun z => absurd z (by decide)) (fun _ => ?_)
            refine wt_aload_0 (pc := 58) hc dX3_bats_58 ?_
            refine wt_iload_7 (pc := 59) hc dX3_bats_59 ?_
            refine wt_iload_5 (pc := 61) hc dX3_bats_61 ?_
            refine wt_iconst (pc := 63) (v := nI 1) hc dX3_bats_63 (by decide) ?_
            refine wt_gofn (tw_inv (pc := 64) 3 hc hE (ct_gains hE ro ow ri hC _ _ true) dX3_bats_64 rfl q2245 q2247 qs108 q116 q2248 (by decide +kernel) rfl (by decide) (by decide) (Nat.le_of_ble_eq_true rfl) rfl) ?_
            refine wt_aload_0 (pc := 67) hc dX3_bats_67 ?_
            refine wt_iload_4 (pc := 68) hc dX3_bats_68 ?_
            refine wt_iload_5 (pc := 70) hc dX3_bats_70 ?_
            refine wt_iconst (pc := 72) (v := nI 1) hc dX3_bats_72 (by decide) ?_
            refine wt_gofn (tw_inv (pc := 73) 3 hc hE (ct_gains hE ro ow ri hC _ _ true) dX3_bats_73 rfl q2245 q2247 qs108 q116 q2248 (by decide +kernel) rfl (by decide) (by decide) (Nat.le_of_ble_eq_true rfl) rfl) ?_
            refine wt_icmp_gt (pc := 76) 104 hc dX3_bats_76 (by decide) (fun c_76 => ?_) (fun c_76 => ?_)
            · refine wt_iconst (pc := 104) (v := nI 0) hc dX3_bats_104 (by decide) ?_
              refine wt_istore_6 (pc := 105) hc dX3_bats_105 rfl ?_
              refine wt_iinc_7 (pc := 107) (v := nI (i + 1 + 1)) hc dX3_bats_107 (nI_add (i + 1) 1) rfl ?_
              refine wt_goto (pc := 110) 46 hc dX3_bats_110 (by decide) ?_
              first | (rw [decide_eq_false (Int32.not_le.mpr c_76), Bool.false_and] at nxt; exact nxt) | (rw [decide_eq_true (Int32.not_lt.mp c_76), Bool.true_and, decide_eq_false (Int32.not_le.mpr c_97)] at nxt; exact nxt) | (rw [decide_eq_true (Int32.not_lt.mp c_76), Bool.true_and, decide_eq_true (Int32.not_lt.mp c_97)] at nxt; exact nxt)
            · refine wt_aload_0 (pc := 79) hc dX3_bats_79 ?_
              refine wt_iload_4 (pc := 80) hc dX3_bats_80 ?_
              refine wt_iload_7 (pc := 82) hc dX3_bats_82 ?_
              refine wt_iconst (pc := 84) (v := nI 0) hc dX3_bats_84 (by decide) ?_
              refine wt_gofn (tw_inv (pc := 85) 3 hc hE (ct_gains hE ro ow ri hC _ _ false) dX3_bats_85 rfl q2245 q2247 qs108 q116 q2248 (by decide +kernel) rfl (by decide) (by decide) (Nat.le_of_ble_eq_true rfl) rfl) ?_
              refine wt_aload_0 (pc := 88) hc dX3_bats_88 ?_
              refine wt_iload_4 (pc := 89) hc dX3_bats_89 ?_
              refine wt_iload_5 (pc := 91) hc dX3_bats_91 ?_
              refine wt_iconst (pc := 93) (v := nI 0) hc dX3_bats_93 (by decide) ?_
              refine wt_gofn (tw_inv (pc := 94) 3 hc hE (ct_gains hE ro ow ri hC _ _ false) dX3_bats_94 rfl q2245 q2247 qs108 q116 q2248 (by decide +kernel) rfl (by decide) (by decide) (Nat.le_of_ble_eq_true rfl) rfl) ?_
              refine wt_icmp_gt (pc := 97) 104 hc dX3_bats_97 (by decide) (fun c_97 => ?_) (fun c_97 => ?_)
              · refine wt_iconst (pc := 104) (v := nI 0) hc dX3_bats_104 (by decide) ?_
                refine wt_istore_6 (pc := 105) hc dX3_bats_105 rfl ?_
                refine wt_iinc_7 (pc := 107) (v := nI (i + 1 + 1)) hc dX3_bats_107 (nI_add (i + 1) 1) rfl ?_
                refine wt_goto (pc := 110) 46 hc dX3_bats_110 (by decide) ?_
                first | (rw [decide_eq_false (Int32.not_le.mpr c_76), Bool.false_and] at nxt; exact nxt) | (rw [decide_eq_true (Int32.not_lt.mp c_76), Bool.true_and, decide_eq_false (Int32.not_le.mpr c_97)] at nxt; exact nxt) | (rw [decide_eq_true (Int32.not_lt.mp c_76), Bool.true_and, decide_eq_true (Int32.not_lt.mp c_97)] at nxt; exact nxt)
              · refine wt_iconst (pc := 100) (v := nI 1) hc dX3_bats_100 (by decide) ?_
                refine wt_goto (pc := 101) 105 hc dX3_bats_101 (by decide) ?_
                refine wt_istore_6 (pc := 105) hc dX3_bats_105 rfl ?_
                refine wt_iinc_7 (pc := 107) (v := nI (i + 1 + 1)) hc dX3_bats_107 (nI_add (i + 1) 1) rfl ?_
                refine wt_goto (pc := 110) 46 hc dX3_bats_110 (by decide) ?_
                first | (rw [decide_eq_false (Int32.not_le.mpr c_76), Bool.false_and] at nxt; exact nxt) | (rw [decide_eq_true (Int32.not_lt.mp c_76), Bool.true_and, decide_eq_false (Int32.not_le.mpr c_97)] at nxt; exact nxt) | (rw [decide_eq_true (Int32.not_lt.mp c_76), Bool.true_and, decide_eq_true (Int32.not_lt.mp c_97)] at nxt; exact nxt)
    have lB : ∀ (n b a : Nat) (s : Int32 × Int32), b + n = 10 → a ≤ 9 → wt_V G X 144 [some (.ref T.1), some (.int k), some (.int (sp_bb N ri a n b s).1), some (.int (sp_bb N ri a n b s).2), some (.int (nI a)), none, none, none] [] (tw_Z G T N w) 0 0 → wt_V G X 33 [some (.ref T.1), some (.int k), some (.int s.1), some (.int s.2), some (.int (nI a)), some (.int (nI b)), none, none] [] (tw_Z G T N w) 0 0 := by
      intro n
      induction n with
      | zero =>
        intro b a s hb ha hend
        have e : b = 10 := by omega
        subst e
        refine wt_iload_5 (pc := 33) hc dX3_bats_33 ?_
        refine wt_bipush (pc := 35) (v := nI 9) hc dX3_bats_35 (by decide) ?_
        refine wt_nicmp_gt (pc := 37) 144 (10) (9) hc dX3_bats_37 (by decide) (by omega) (by omega) (fun c_37 => ?_) (fun c_37 => ?_)
        · exact wt_drop hend ⟨rfl, rfl, rfl, rfl, rfl, trivial⟩
        · omega
      | succ n ih =>
        intro b a s hb ha hend
        rw [sp_bb] at hend
        have nxt := ih (b + 1) a _ (by omega) ha hend
        refine wt_iload_5 (pc := 33) hc dX3_bats_33 ?_
        refine wt_bipush (pc := 35) (v := nI 9) hc dX3_bats_35 (by decide) ?_
        refine wt_nicmp_gt (pc := 37) 144 (b) (9) hc dX3_bats_37 (by decide) (by omega) (by omega) (fun c_37 => ?_) (fun c_37 => ?_)
        · omega
        · refine wt_iconst (pc := 40) (v := nI 1) hc dX3_bats_40 (by decide) ?_
          refine wt_istore_6 (pc := 41) hc dX3_bats_41 rfl ?_
          refine wt_iconst (pc := 43) (v := nI 1) hc dX3_bats_43 (by decide) ?_
          refine wt_istore_7 (pc := 44) hc dX3_bats_44 rfl ?_
          refine lK 9 0 a b s.1 s.2 (by omega) ha (by omega) ?_
          cases hv : sp_bk N ri (nI a) (nI b) 9 with
          | false =>
            rw [hv, if_neg (by decide)] at nxt
            refine wt_iload_6 (pc := 113) hc dX3_bats_113 ?_
            refine wt_if_ne (pc := 115) 121 hc dX3_bats_115 (by decide) (fun z => absurd z (by decide)) (fun _ => ?_)
            refine wt_goto (pc := 118) 138 hc dX3_bats_118 (by decide) ?_
            refine wt_iinc_5 (pc := 138) (v := nI (b + 1)) hc dX3_bats_138 (nI_add b 1) rfl ?_
            refine wt_goto (pc := 141) 33 hc dX3_bats_141 (by decide) ?_
            exact wt_drop nxt ⟨rfl, rfl, rfl, rfl, rfl, rfl, trivial⟩
          | true =>
            rw [hv, if_pos rfl] at nxt
            refine wt_iload_6 (pc := 113) hc dX3_bats_113 ?_
            refine wt_if_ne (pc := 115) 121 hc dX3_bats_115 (by decide) (fun _ => ?_) (fun z => absurd z (by decide))
            refine wt_iinc_2 (pc := 121) hc dX3_bats_121 rfl rfl ?_
            refine wt_iload_3 (pc := 124) hc dX3_bats_124 ?_
            refine wt_iconst (pc := 125) (v := (-1 : Int32)) hc dX3_bats_125 (by decide) ?_
            refine wt_icmp_ne (pc := 126) 138 hc dX3_bats_126 (by decide) (fun c_126 => ?_) (fun c_126 => ?_)
            · refine wt_iinc_5 (pc := 138) (v := nI (b + 1)) hc dX3_bats_138 (nI_add b 1) rfl ?_
              refine wt_goto (pc := 141) 33 hc dX3_bats_141 (by decide) ?_
              first | (rw [if_pos c_126] at nxt; exact wt_drop nxt ⟨rfl, rfl, rfl, rfl, rfl, rfl, trivial⟩) | (rw [if_neg c_126] at nxt; exact wt_drop nxt ⟨rfl, rfl, rfl, rfl, rfl, rfl, trivial⟩)
            · refine wt_bipush (pc := 129) (v := nI 10) hc dX3_bats_129 (by decide) ?_
              refine wt_iload_4 (pc := 131) hc dX3_bats_131 ?_
              refine wt_imul (pc := 133) hc dX3_bats_133 ?_
              rw [pk_mul 10 a]
              refine wt_iload_5 (pc := 134) hc dX3_bats_134 ?_
              refine wt_iadd (pc := 136) hc dX3_bats_136 ?_
              rw [nI_add (10 * a) b]
              refine wt_istore_3 (pc := 137) hc dX3_bats_137 rfl ?_
              refine wt_iinc_5 (pc := 138) (v := nI (b + 1)) hc dX3_bats_138 (nI_add b 1) rfl ?_
              refine wt_goto (pc := 141) 33 hc dX3_bats_141 (by decide) ?_
              first | (rw [if_pos c_126] at nxt; exact wt_drop nxt ⟨rfl, rfl, rfl, rfl, rfl, rfl, trivial⟩) | (rw [if_neg c_126] at nxt; exact wt_drop nxt ⟨rfl, rfl, rfl, rfl, rfl, rfl, trivial⟩)
    have lA : ∀ (n a : Nat) (s : Int32 × Int32), a + n = 10 → sp_ba N ri 9 1 (nI 0, -1) = sp_ba N ri n a s → wt_V G X 23 [some (.ref T.1), some (.int k), some (.int s.1), some (.int s.2), some (.int (nI a)), none, none, none] [] (tw_Z G T N w) 0 0 := by
      intro n
      induction n with
      | zero =>
        intro a s ha hv
        have e : a = 10 := by omega
        subst e
        refine wt_iload_4 (pc := 23) hc dX3_bats_23 ?_
        refine wt_bipush (pc := 25) (v := nI 9) hc dX3_bats_25 (by decide) ?_
        refine wt_nicmp_gt (pc := 27) 150 (10) (9) hc dX3_bats_27 (by decide) (by omega) (by omega) (fun c_27 => ?_) (fun c_27 => ?_)
        · refine wt_iload_1 (pc := 150) hc dX3_bats_150 ?_
          refine wt_if_ne (pc := 151) 158 hc dX3_bats_151 (by decide) (fun c_151 => ?_) (fun c_151 => ?_)
          · refine wt_iload_3 (pc := 158) hc dX3_bats_158 ?_
            exact wt_iret (pc := 159) hc hok dX3_bats_159 (rfl) (fun H hZ => sp_ans_ok (sp_Q.rf N) h0 (by rw [ev, hv]; first | rw [if_pos c_151]; rfl | rw [if_neg c_151]; rfl) hZ)
          · refine wt_iload_2 (pc := 154) hc dX3_bats_154 ?_
            refine wt_goto (pc := 155) 159 hc dX3_bats_155 (by decide) ?_
            exact wt_iret (pc := 159) hc hok dX3_bats_159 (rfl) (fun H hZ => sp_ans_ok (sp_Q.rf N) h0 (by rw [ev, hv]; first | rw [if_pos c_151]; rfl | rw [if_neg c_151]; rfl) hZ)
        · omega
      | succ n ih =>
        intro a s ha hv
        conv at hv => rhs; rw [sp_ba]
        refine wt_iload_4 (pc := 23) hc dX3_bats_23 ?_
        refine wt_bipush (pc := 25) (v := nI 9) hc dX3_bats_25 (by decide) ?_
        refine wt_nicmp_gt (pc := 27) 150 (a) (9) hc dX3_bats_27 (by decide) (by omega) (by omega) (fun c_27 => ?_) (fun c_27 => ?_)
        · omega
        · refine wt_iconst (pc := 30) (v := nI 1) hc dX3_bats_30 (by decide) ?_
          refine wt_istore_5 (pc := 31) hc dX3_bats_31 rfl ?_
          refine lB 9 1 a s (by omega) (by omega) ?_
          refine wt_iinc_4 (pc := 144) (v := nI (a + 1)) hc dX3_bats_144 (nI_add a 1) rfl ?_
          refine wt_goto (pc := 147) 23 hc dX3_bats_147 (by decide) ?_
          exact wt_drop (ih (a + 1) _ (by omega) hv) ⟨rfl, rfl, rfl, rfl, rfl, trivial⟩
    refine wt_aload_0 (pc := 0) hc dX3_bats_0 ?_
    refine wt_iconst (pc := 1) (v := nI 0) hc dX3_bats_1 (by decide) ?_
    refine tw_put (pc := 2) 0 hc hE dX3_bats_2 q1604 (by decide) (fun _ _ _ => rfl) rfl rfl (rfl) rfl ?_
    refine tw_eq hN ?_
    refine wt_aload_0 (pc := 5) hc dX3_bats_5 ?_
    refine wt_iload_1 (pc := 6) hc dX3_bats_6 ?_
    refine wt_iconst (pc := 7) (v := nI 1) hc dX3_bats_7 (by decide) ?_
    refine wt_gofn (tw_inv (pc := 8) 2 hc hE (ct_isWhat hE h0 _ _) dX3_bats_8 rfl q2044 q2046 qs92 q116 q2047 (by decide +kernel) rfl (by decide) (by decide) (Nat.le_of_ble_eq_true rfl) rfl) ?_
    rw [if_pos hp, sp_b_t hp]
    refine wt_if_ne (pc := 11) 16 hc dX3_bats_11 (by decide) (fun c_11 => ?_) (fun c_11 => ?_)
    · refine wt_iconst (pc := 16) (v := nI 0) hc dX3_bats_16 (by decide) ?_
      refine wt_istore_2 (pc := 17) hc dX3_bats_17 rfl ?_
      refine wt_iconst (pc := 18) (v := (-1 : Int32)) hc dX3_bats_18 (by decide) ?_
      refine wt_istore_3 (pc := 19) hc dX3_bats_19 rfl ?_
      refine wt_iconst (pc := 20) (v := nI 1) hc dX3_bats_20 (by decide) ?_
      refine wt_istore_4 (pc := 21) hc dX3_bats_21 rfl ?_
      exact lA 9 1 (nI 0, -1) (by omega) rfl
    · exact absurd c_11 (by decide)
  · rw [if_neg hp] at hok
    refine wt_aload_0 (pc := 0) hc dX3_bats_0 ?_
    refine wt_iconst (pc := 1) (v := nI 0) hc dX3_bats_1 (by decide) ?_
    refine tw_put (pc := 2) 0 hc hE dX3_bats_2 q1604 (by decide) (fun _ _ _ => rfl) rfl rfl (rfl) rfl ?_
    refine tw_eq hN ?_
    refine wt_aload_0 (pc := 5) hc dX3_bats_5 ?_
    refine wt_iload_1 (pc := 6) hc dX3_bats_6 ?_
    refine wt_iconst (pc := 7) (v := nI 1) hc dX3_bats_7 (by decide) ?_
    refine wt_gofn (tw_inv (pc := 8) 2 hc hE (ct_isWhat hE h0 _ _) dX3_bats_8 rfl q2044 q2046 qs92 q116 q2047 (by decide +kernel) rfl (by decide) (by decide) (Nat.le_of_ble_eq_true rfl) rfl) ?_
    rw [if_neg hp, sp_b_f hp]
    refine wt_if_ne (pc := 11) 16 hc dX3_bats_11 (by decide) (fun c_11 => ?_) (fun c_11 => ?_)
    · exact absurd rfl c_11
    · refine wt_iconst (pc := 14) (v := nI 0) hc dX3_bats_14 (by decide) ?_
      exact wt_iret (pc := 15) hc hok dX3_bats_15 (rfl) (fun H hZ => sp_ans_bad (by decide) hZ)
end TN
