/-! CLASSES: a night is run -/
set_option maxRecDepth 100000
/-- Q is the reference's memory for this night: settings and city -/
def cSet (D M Q : wt_It) (ro ow ru : Nat) : Prop := (Q 47 0 = D 1 0 ∧ Q 47 1 = D 1 1 ∧ Q 47 2 = D 1 3 ∧ Q 47 3 = D 1 2 ∧ (D 1 3 = nI 0 ∨ D 1 3 = nI 1) ∧ (D 1 0 = -1 ∨ ∃ f, f < ru ∧ D 1 0 = nI f)) ∧ (∀ r, r < ro → Q 47 (4 + r) = M 47 (4 + r) + D 2 r) ∧ (∀ o, o < ow → Q 47 (14 + o) = M 47 (14 + o)) ∧ (∀ j, j ≠ 0 → Q 0 j = M 0 j) ∧ ∀ k, k ≠ 0 → k ≠ 47 → sp_S k = false → Q k = M k
/-- the rules: forms that reckon as the reference's code does -/
def cHu (S : bS) (M : wt_It) (q : Nat → Nat) (ru : Nat) : Prop := ∀ f, f < ru → ∃ n φ, n ≤ 90 ∧ (∀ D, cFo (bB S D) n (q (40 + f)) φ) ∧ ∃ k, k < 2 ^ 31 ∧ M 12 f = nI k ∧ ∀ N : wt_It, N 13 = M 13 → sp_rk 2800 N k 0 53 0 = φ (N 52)
theorem cf_clamp (v : Int32) : (if nI 0 < (if v < nI 30 then v else nI 30) then (if v < nI 30 then v else nI 30) else nI 0) = sp_clamp v := by
  unfold sp_clamp
  have e0 : (nI 0 : Int32).toInt = 0 := by decide
  have e1 : (0 : Int32).toInt = 0 := by decide
  have e30 : (nI 30 : Int32).toInt = 30 := by decide
  by_cases h1 : v < nI 30
  · rw [if_pos h1, if_pos (Int32.le_of_lt h1)]
    by_cases h2 : nI 0 < v
    · rw [if_pos h2, if_pos (show (0 : Int32) ≤ v from Int32.le_of_lt h2)]
    · rw [if_neg h2]
      by_cases h3 : 0 ≤ v
      · rw [if_pos h3]
        exact (Int32.le_antisymm (Int32.not_lt.mp h2) h3).symm
      · rw [if_neg h3]
  · rw [if_neg h1, if_pos (show nI 0 < nI 30 by decide)]
    have h3 : (0 : Int32) ≤ v := Int32.le_trans (by decide) (Int32.not_lt.mp h1)
    rw [if_pos h3]
    by_cases h4 : v ≤ nI 30
    · rw [if_pos h4]
      exact Int32.le_antisymm (Int32.not_lt.mp h1) h4
    · rw [if_neg h4]
theorem sp_fill_to {M : wt_It} {r n : Nat} {f : Nat → Int32} {v : Int32} (h : f n = v) : wt_up2 (sp_fill M r n f) r n v = sp_fill M r (n + 1) f := by
  rw [← h]
  exact sp_fill_up M r n f
/-- the values row as the night puts it -/
def cf_va (D Q : wt_It) (o r : Nat) : wt_It := if D 1 0 = -1 then D else sp_fill D 0 7 (fun j => sp_told Q o r 52 j)
theorem cf_va_row {D Q : wt_It} {o r k : Nat} (h : k ≠ 0) : cf_va D Q o r k = D k := by
  unfold cf_va
  split
  · rfl
  · exact sp_fill_row h
section NB
variable {l : Launch} {G : wt_G} {Z : Heap → Prop} {S : bS} {D M Q : wt_It} {NB ro ow ri ru : Nat} {q : Nat → Nat}
theorem ct_X11_hunts (hX : cX G) (hSt : cSt G) (o i wl r : Nat) (m : Int32) (hE : bE G S NB) (hN : 19 ≤ NB) (hW : cW S (q 0)) (hY : cYS S M q ro ow ri ru) (hF : cHu S M q ru) (ho : o < ow) (hwl : wl ≤ 8) (e9 : M 9 o = nI wl) (hi : i < wl) (hr : r < ro) (er : M 10 (8 * o + i) = nI r) (hs : cSet D M Q ro ow ru) (h56 : D 3 r = Q 56 r) (h58 : Q 58 o = nI i) (h59 : Q 59 o = m) : wt_Ct l G yX11_hunts cX11_hunts 5 (some .int) 101 0 0 [.ref (S.2.1 1), .ref (q (20 + o)), .int (nI i), .int m] (cz G (bB S D)) (wt_fn (sp_hu Q o r) (cz G (bB S (cf_va D Q o r)))) := by
  obtain ⟨⟨s0, s1, s2, s3, s4, s5⟩, sg, sm, sz, sk⟩ := hs
  have hro := hY.b10
  have how := hY.b5
  have hru := hY.b4
  by_cases hno : D 1 0 = -1
  · have e1 : sp_hu Q o r = sp_clamp (sp_h0 Q r) := if_pos (s0.trans hno)
    have e2 : cf_va D Q o r = D := if_pos hno
    rw [e1, e2]
    refine wt_enter [some (.ref (S.2.1 1)), some (.ref (q (20 + o))), some (.int (nI i)), some (.int m), none] (by decide +kernel) rfl (Nat.le_of_ble_eq_true rfl) (fun X hc hok => ?_)
    refine wt_aload_1 (pc := 0) hc dX11_hunts_0 ?_
    refine wt_iload_2 (pc := 1) hc dX11_hunts_1 ?_
    refine wt_gofn (wt_invV (pc := 2) 1 hc (ct_X6_at hX (q (20 + o)) (i) _ _ wl _ (hY.wo o (by omega) e9 hwl _) (by omega)) dX11_hunts_2 rfl (fun s H => cz_recv cP2 (hY.ok o (by omega)) s H) q557 q558 q559 q129 q560 (by decide +kernel) rfl (by first | decide | omega) (by decide) (Nat.le_of_ble_eq_true rfl) rfl) ?_
    refine wt_topi (z := nI r) (er) ?_
    refine wt_istore_4 (pc := 5) hc dX11_hunts_5 rfl ?_
    refine wt_aload_0 (pc := 7) hc dX11_hunts_7 ?_
    refine bz_geti (pc := 8) 1 0 (-1) hE (by omega) hc cP3 (hW.n) dX11_hunts_8 q474 (by decide) (Or.inl rfl) (fun _ _ _ => rfl) (hno) ?_
    refine wt_iconst (pc := 11) (v := (-1 : Int32)) hc dX11_hunts_11 (by decide) ?_
    refine wt_icmp_ne (pc := 12) 31 hc dX11_hunts_12 (by decide) (fun c_12 => ?_) (fun c_12 => ?_)
    · exact absurd rfl c_12
    · refine wt_aload_0 (pc := 15) hc dX11_hunts_15 ?_
      refine cv_getr (pc := 16) (b := S.2.1 3) 5 hc cP3 (hW.n) dX11_hunts_16 q484 (by decide) (Or.inl rfl) (fun _ _ _ => rfl) (hW.rmice) ?_
      refine wt_iload_4 (pc := 19) hc dX11_hunts_19 ?_
      refine bz_iald (pc := 21) 3 (r) (Q 56 r) hE (by omega) hc (hW.mice) dX11_hunts_21 (rfl) (by omega) (by omega) (h56) ?_
      refine wt_if_le (pc := 22) 29 hc dX11_hunts_22 (by decide) (fun c_22 => ?_) (fun c_22 => ?_)
      · refine wt_iconst (pc := 29) (v := nI 2) hc dX11_hunts_29 (by decide) ?_
        exact wt_iret (pc := 30) hc hok dX11_hunts_30 (rfl) (fun H hZ => ⟨by unfold sp_h0; first | rw [if_pos c_22]; rfl | rw [if_neg c_22]; rfl, hZ⟩)
      · refine wt_iconst (pc := 25) (v := nI 3) hc dX11_hunts_25 (by decide) ?_
        refine wt_goto (pc := 26) 30 hc dX11_hunts_26 (by decide) ?_
        exact wt_iret (pc := 30) hc hok dX11_hunts_30 (rfl) (fun H hZ => ⟨by unfold sp_h0; first | rw [if_pos c_22]; rfl | rw [if_neg c_22]; rfl, hZ⟩)
  · have e1 : sp_hu Q o r = sp_clamp (sp_huM Q o r 53 0) := if_neg (fun z => hno (s0.symm.trans z))
    have e2 : cf_va D Q o r = sp_fill D 0 7 (fun j => sp_told Q o r 52 j) := if_neg hno
    rw [e1, e2]
    refine wt_enter [some (.ref (S.2.1 1)), some (.ref (q (20 + o))), some (.int (nI i)), some (.int m), none] (by decide +kernel) rfl (Nat.le_of_ble_eq_true rfl) (fun X hc hok => ?_)
    obtain ⟨f, hf, ef⟩ := s5.resolve_left hno
    obtain ⟨n, φ, hn, hfo, k, hk, ek, hrk⟩ := hF f hf
    have hro7 : ∀ k j, k ≠ 0 → ∀ n, sp_fill D 0 n (fun j => sp_told Q o r 52 j) k j = D k j := fun k j h n => congrFun (sp_fill_row h) j
    have t0 : sp_told Q o r 52 0 = Q 56 r := rfl
    have t1 : sp_told Q o r 52 1 = Q 47 (4 + r) := rfl
    have t2 : sp_told Q o r 52 2 = Q 8 o := rfl
    have t3 : sp_told Q o r 52 3 = Q 58 o := rfl
    have t4 : sp_told Q o r 52 4 = Q 47 1 := rfl
    have t5 : sp_told Q o r 52 5 = Q 47 2 := rfl
    have t6 : sp_told Q o r 52 6 = Q 59 o / nI 60 := rfl
    have hofo := cf_of (l := l) (v := S.2.1 0) hX hSt (B := bB S (sp_fill D 0 7 (fun j => sp_told Q o r 52 j))) hW.v n (q (40 + f)) φ (hfo _)
    have ev : φ ((bB S (sp_fill D 0 7 (fun j => sp_told Q o r 52 j))).2.1 (S.2.1 0)) = sp_huM Q o r 53 0 := by
      have e3 : sp_huM Q o r = sp_rk 2800 (sp_told Q o r) k 0 := by
        unfold sp_huM
        rw [if_neg (fun z => hno (s0.symm.trans z)), s0, ef, nn_nI (by omega), sk 12 (by decide) (by decide) (by decide), ek, nn_nI hk]
      rw [e3, hrk _ ((sp_told_row (by decide)).trans (sk 13 (by decide) (by decide) (by decide)))]
      refine cFo_ext (fun j hj => ?_) n _ φ (hfo d0)
      rw [ov_at hE (by omega)]
      exact if_pos ⟨rfl, hj⟩
    rw [ev] at hofo
    refine wt_aload_1 (pc := 0) hc dX11_hunts_0 ?_
    refine wt_iload_2 (pc := 1) hc dX11_hunts_1 ?_
    refine wt_gofn (wt_invV (pc := 2) 1 hc (ct_X6_at hX (q (20 + o)) (i) _ _ wl _ (hY.wo o (by omega) e9 hwl _) (by omega)) dX11_hunts_2 rfl (fun s H => cz_recv cP2 (hY.ok o (by omega)) s H) q557 q558 q559 q129 q560 (by decide +kernel) rfl (by first | decide | omega) (by decide) (Nat.le_of_ble_eq_true rfl) rfl) ?_
    refine wt_topi (z := nI r) (er) ?_
    refine wt_istore_4 (pc := 5) hc dX11_hunts_5 rfl ?_
    refine wt_aload_0 (pc := 7) hc dX11_hunts_7 ?_
    refine bz_geti (pc := 8) 1 0 _ hE (by omega) hc cP3 (hW.n) dX11_hunts_8 q474 (by decide) (Or.inl rfl) (fun _ _ _ => rfl) (rfl) ?_
    refine wt_iconst (pc := 11) (v := (-1 : Int32)) hc dX11_hunts_11 (by decide) ?_
    refine wt_icmp_ne (pc := 12) 31 hc dX11_hunts_12 (by decide) (fun c_12 => ?_) (fun c_12 => ?_)
    · refine bz_eq (sp_fill_0 D 0 (fun j => sp_told Q o r 52 j)).symm ?_
      refine wt_aload_0 (pc := 31) hc dX11_hunts_31 ?_
      refine cv_getr (pc := 32) (b := q 0) 11 hc cP3 (hW.n) dX11_hunts_32 q497 (by decide) (Or.inl rfl) (fun _ _ _ => rfl) (hW.rx) ?_
      refine cv_getrN (pc := 35) (b := S.2.1 0) 1 hc cP0 (hY.kx) dX11_hunts_35 q243 (by decide) (Or.inl rfl) (fun _ _ _ => rfl) (hY.xv) ?_
      refine wt_iconst (pc := 38) (v := nI 0) hc dX11_hunts_38 (by decide) ?_
      refine wt_aload_0 (pc := 39) hc dX11_hunts_39 ?_
      refine cv_getr (pc := 40) (b := S.2.1 3) 5 hc cP3 (hW.n) dX11_hunts_40 q484 (by decide) (Or.inl rfl) (fun _ _ _ => rfl) (hW.rmice) ?_
      refine wt_iload_4 (pc := 43) hc dX11_hunts_43 ?_
      refine bz_iald (pc := 45) 3 (r) (Q 56 r) hE (by omega) hc (hW.mice) dX11_hunts_45 (rfl) (by omega) (by omega) ((hro7 3 r (by decide) 0).trans h56) ?_
      refine bz_iast (pc := 46) 0 (0) hE (by omega) hc (hW.v) dX11_hunts_46 (rfl) (by omega) (by omega) ?_
      refine bz_eq (D := sp_fill D 0 1 (fun j => sp_told Q o r 52 j)) (sp_fill_to t0) ?_
      refine wt_aload_0 (pc := 47) hc dX11_hunts_47 ?_
      refine cv_getr (pc := 48) (b := q 0) 11 hc cP3 (hW.n) dX11_hunts_48 q497 (by decide) (Or.inl rfl) (fun _ _ _ => rfl) (hW.rx) ?_
      refine cv_getrN (pc := 51) (b := S.2.1 0) 1 hc cP0 (hY.kx) dX11_hunts_51 q243 (by decide) (Or.inl rfl) (fun _ _ _ => rfl) (hY.xv) ?_
      refine wt_iconst (pc := 54) (v := nI 1) hc dX11_hunts_54 (by decide) ?_
      refine wt_aload_0 (pc := 55) hc dX11_hunts_55 ?_
      refine cv_getr (pc := 56) (b := q 0) 11 hc cP3 (hW.n) dX11_hunts_56 q497 (by decide) (Or.inl rfl) (fun _ _ _ => rfl) (hW.rx) ?_
      refine cv_getrN (pc := 59) (b := q 1) 0 hc cP0 (hY.kx) dX11_hunts_59 q241 (by decide) (Or.inl rfl) (fun _ _ _ => rfl) (hY.xc) ?_
      refine cv_getrN (pc := 62) (b := q 2) 0 hc cP1 (hY.c) dX11_hunts_62 q190 (by decide) (Or.inl rfl) (fun _ _ _ => rfl) (hY.cg) ?_
      refine wt_iload_4 (pc := 65) hc dX11_hunts_65 ?_
      refine cv_iald (pc := 67) (r) (M 47 (4 + r)) hc (hY.g) dX11_hunts_67 (rfl) (by omega) (by omega) (hY.gr _ r (by omega)) ?_
      refine wt_aload_0 (pc := 68) hc dX11_hunts_68 ?_
      refine cv_getr (pc := 69) (b := S.2.1 2) 4 hc cP3 (hW.n) dX11_hunts_69 q482 (by decide) (Or.inl rfl) (fun _ _ _ => rfl) (hW.rmore) ?_
      refine wt_iload_4 (pc := 72) hc dX11_hunts_72 ?_
      refine bz_iald (pc := 74) 2 (r) (D 2 r) hE (by omega) hc (hW.more) dX11_hunts_74 (rfl) (by omega) (by omega) (hro7 2 r (by decide) 1) ?_
      refine wt_iadd (pc := 75) hc dX11_hunts_75 ?_
      refine bz_iast (pc := 76) 0 (1) hE (by omega) hc (hW.v) dX11_hunts_76 (rfl) (by omega) (by omega) ?_
      refine bz_eq (D := sp_fill D 0 2 (fun j => sp_told Q o r 52 j)) (sp_fill_to (t1.trans (sg r hr))) ?_
      refine wt_aload_0 (pc := 77) hc dX11_hunts_77 ?_
      refine cv_getr (pc := 78) (b := q 0) 11 hc cP3 (hW.n) dX11_hunts_78 q497 (by decide) (Or.inl rfl) (fun _ _ _ => rfl) (hW.rx) ?_
      refine cv_getrN (pc := 81) (b := S.2.1 0) 1 hc cP0 (hY.kx) dX11_hunts_81 q243 (by decide) (Or.inl rfl) (fun _ _ _ => rfl) (hY.xv) ?_
      refine wt_iconst (pc := 84) (v := nI 2) hc dX11_hunts_84 (by decide) ?_
      refine wt_aload_1 (pc := 85) hc dX11_hunts_85 ?_
      refine cv_getiN (pc := 86) 0 (M 8 o) hc cP2 (hY.ok o (by omega)) dX11_hunts_86 q1035 (by decide) (Or.inl rfl) (fun _ _ _ => rfl) (hY.ki _ o (by omega)) ?_
      refine bz_iast (pc := 89) 0 (2) hE (by omega) hc (hW.v) dX11_hunts_89 (rfl) (by omega) (by omega) ?_
      refine bz_eq (D := sp_fill D 0 3 (fun j => sp_told Q o r 52 j)) (sp_fill_to (t2.trans (congrFun (sk 8 (by decide) (by decide) (by decide)) o))) ?_
      refine wt_aload_0 (pc := 90) hc dX11_hunts_90 ?_
      refine cv_getr (pc := 91) (b := q 0) 11 hc cP3 (hW.n) dX11_hunts_91 q497 (by decide) (Or.inl rfl) (fun _ _ _ => rfl) (hW.rx) ?_
      refine cv_getrN (pc := 94) (b := S.2.1 0) 1 hc cP0 (hY.kx) dX11_hunts_94 q243 (by decide) (Or.inl rfl) (fun _ _ _ => rfl) (hY.xv) ?_
      refine wt_iconst (pc := 97) (v := nI 3) hc dX11_hunts_97 (by decide) ?_
      refine wt_iload_2 (pc := 98) hc dX11_hunts_98 ?_
      refine bz_iast (pc := 99) 0 (3) hE (by omega) hc (hW.v) dX11_hunts_99 (rfl) (by omega) (by omega) ?_
      refine bz_eq (D := sp_fill D 0 4 (fun j => sp_told Q o r 52 j)) (sp_fill_to (t3.trans h58)) ?_
      refine wt_aload_0 (pc := 100) hc dX11_hunts_100 ?_
      refine cv_getr (pc := 101) (b := q 0) 11 hc cP3 (hW.n) dX11_hunts_101 q497 (by decide) (Or.inl rfl) (fun _ _ _ => rfl) (hW.rx) ?_
      refine cv_getrN (pc := 104) (b := S.2.1 0) 1 hc cP0 (hY.kx) dX11_hunts_104 q243 (by decide) (Or.inl rfl) (fun _ _ _ => rfl) (hY.xv) ?_
      refine wt_iconst (pc := 107) (v := nI 4) hc dX11_hunts_107 (by decide) ?_
      refine wt_aload_0 (pc := 108) hc dX11_hunts_108 ?_
      refine bz_geti (pc := 109) 1 1 (D 1 1) hE (by omega) hc cP3 (hW.n) dX11_hunts_109 q476 (by decide) (Or.inl rfl) (fun _ _ _ => rfl) (hro7 1 1 (by decide) 4) ?_
      refine bz_iast (pc := 112) 0 (4) hE (by omega) hc (hW.v) dX11_hunts_112 (rfl) (by omega) (by omega) ?_
      refine bz_eq (D := sp_fill D 0 5 (fun j => sp_told Q o r 52 j)) (sp_fill_to (t4.trans s1)) ?_
      refine wt_aload_0 (pc := 113) hc dX11_hunts_113 ?_
      refine cv_getr (pc := 114) (b := q 0) 11 hc cP3 (hW.n) dX11_hunts_114 q497 (by decide) (Or.inl rfl) (fun _ _ _ => rfl) (hW.rx) ?_
      refine cv_getrN (pc := 117) (b := S.2.1 0) 1 hc cP0 (hY.kx) dX11_hunts_117 q243 (by decide) (Or.inl rfl) (fun _ _ _ => rfl) (hY.xv) ?_
      refine wt_iconst (pc := 120) (v := nI 5) hc dX11_hunts_120 (by decide) ?_
      refine wt_aload_0 (pc := 121) hc dX11_hunts_121 ?_
      refine bz_geti (pc := 122) 1 3 (D 1 3) hE (by omega) hc cP3 (hW.n) dX11_hunts_122 q480 (by decide) (Or.inl rfl) (fun _ _ _ => rfl) (hro7 1 3 (by decide) 5) ?_
      refine wt_if_eq (pc := 125) 132 hc dX11_hunts_125 (by decide) (fun c_125 => ?_) (fun c_125 => ?_)
      · refine wt_iconst (pc := 132) (v := nI 0) hc dX11_hunts_132 (by decide) ?_
        refine bz_iast (pc := 133) 0 (5) hE (by omega) hc (hW.v) dX11_hunts_133 (rfl) (by omega) (by omega) ?_
        refine bz_eq (D := sp_fill D 0 6 (fun j => sp_told Q o r 52 j)) (by refine sp_fill_to ((t5.trans s2).trans ?_); rcases s4 with z | z <;> first | (rw [z]; done) | exact absurd z c_125 | (exact absurd (c_125.symm.trans z) (by decide))) ?_
        refine wt_aload_0 (pc := 134) hc dX11_hunts_134 ?_
        refine cv_getr (pc := 135) (b := q 0) 11 hc cP3 (hW.n) dX11_hunts_135 q497 (by decide) (Or.inl rfl) (fun _ _ _ => rfl) (hW.rx) ?_
        refine cv_getrN (pc := 138) (b := S.2.1 0) 1 hc cP0 (hY.kx) dX11_hunts_138 q243 (by decide) (Or.inl rfl) (fun _ _ _ => rfl) (hY.xv) ?_
        refine wt_bipush (pc := 141) (v := nI 6) hc dX11_hunts_141 (by decide) ?_
        refine wt_iload_3 (pc := 143) hc dX11_hunts_143 ?_
        refine wt_bipush (pc := 144) (v := nI 60) hc dX11_hunts_144 (by decide) ?_
        refine wt_idiv (pc := 146) hc dX11_hunts_146 (by decide) ?_
        refine bz_iast (pc := 147) 0 (6) hE (by omega) hc (hW.v) dX11_hunts_147 (rfl) (by omega) (by omega) ?_
        refine bz_eq (D := sp_fill D 0 7 (fun j => sp_told Q o r 52 j)) (sp_fill_to (t6.trans (by rw [h59]))) ?_
        refine wt_iconst (pc := 148) (v := nI 0) hc dX11_hunts_148 (by decide) ?_
        refine wt_bipush (pc := 149) (v := nI 30) hc dX11_hunts_149 (by decide) ?_
        refine wt_aload_0 (pc := 151) hc dX11_hunts_151 ?_
        refine cv_getr (pc := 152) (b := q 0) 11 hc cP3 (hW.n) dX11_hunts_152 q497 (by decide) (Or.inl rfl) (fun _ _ _ => rfl) (hW.rx) ?_
        refine cv_getrN (pc := 155) (b := q 1) 0 hc cP0 (hY.kx) dX11_hunts_155 q241 (by decide) (Or.inl rfl) (fun _ _ _ => rfl) (hY.xc) ?_
        refine cv_getrN (pc := 158) (b := q 6) 4 hc cP1 (hY.c) dX11_hunts_158 q207 (by decide) (Or.inl rfl) (fun _ _ _ => rfl) (hY.ch) ?_
        refine wt_aload_0 (pc := 161) hc dX11_hunts_161 ?_
        refine bz_geti (pc := 162) 1 0 (nI f) hE (by omega) hc cP3 (hW.n) dX11_hunts_162 q474 (by decide) (Or.inl rfl) (fun _ _ _ => rfl) ((hro7 1 0 (by decide) 7).trans ef) ?_
        refine wt_gofr (wt_invF (pc := 165) 1 hc cP11 (hY.hs) (ct_gL (hY.hl _) (by omega)) dX11_hunts_165 rfl q530 q449 q451 q115 q453 (hX.F_J2_get) (by decide +kernel) rfl (by first | decide | omega) (by decide) (Nat.le_of_ble_eq_true rfl) rfl) ?_
        refine cf_cast (pc := 170) hc (hofo) dX11_hunts_170 q568 ?_
        refine wt_aload_0 (pc := 173) hc dX11_hunts_173 ?_
        refine cv_getr (pc := 174) (b := q 0) 11 hc cP3 (hW.n) dX11_hunts_174 q497 (by decide) (Or.inl rfl) (fun _ _ _ => rfl) (hW.rx) ?_
        refine cv_getrN (pc := 177) (b := S.2.1 0) 1 hc cP0 (hY.kx) dX11_hunts_177 q243 (by decide) (Or.inl rfl) (fun _ _ _ => rfl) (hY.xv) ?_
        refine cf_call (pc := 180) hX hc (hofo) dX11_hunts_180 q570 (by omega) (Nat.le_of_ble_eq_true rfl) rfl ?_
        refine cv_mmin (pc := 185) hc dX11_hunts_185 q636 q392 q122 q393 (by decide) (Nat.le_of_ble_eq_true rfl) rfl ?_
        refine cv_mmax (pc := 188) hc dX11_hunts_188 q637 q355 q122 q356 (by decide) (Nat.le_of_ble_eq_true rfl) rfl ?_
        exact wt_iret (pc := 191) hc hok dX11_hunts_191 (rfl) (fun H hZ => ⟨congrArg (fun z => some (Value.int z)) (cf_clamp _), hZ⟩)
      · refine wt_iconst (pc := 128) (v := nI 1) hc dX11_hunts_128 (by decide) ?_
        refine wt_goto (pc := 129) 133 hc dX11_hunts_129 (by decide) ?_
        refine bz_iast (pc := 133) 0 (5) hE (by omega) hc (hW.v) dX11_hunts_133 (rfl) (by omega) (by omega) ?_
        refine bz_eq (D := sp_fill D 0 6 (fun j => sp_told Q o r 52 j)) (by refine sp_fill_to ((t5.trans s2).trans ?_); rcases s4 with z | z <;> first | (rw [z]; done) | exact absurd z c_125 | (exact absurd (c_125.symm.trans z) (by decide))) ?_
        refine wt_aload_0 (pc := 134) hc dX11_hunts_134 ?_
        refine cv_getr (pc := 135) (b := q 0) 11 hc cP3 (hW.n) dX11_hunts_135 q497 (by decide) (Or.inl rfl) (fun _ _ _ => rfl) (hW.rx) ?_
        refine cv_getrN (pc := 138) (b := S.2.1 0) 1 hc cP0 (hY.kx) dX11_hunts_138 q243 (by decide) (Or.inl rfl) (fun _ _ _ => rfl) (hY.xv) ?_
        refine wt_bipush (pc := 141) (v := nI 6) hc dX11_hunts_141 (by decide) ?_
        refine wt_iload_3 (pc := 143) hc dX11_hunts_143 ?_
        refine wt_bipush (pc := 144) (v := nI 60) hc dX11_hunts_144 (by decide) ?_
        refine wt_idiv (pc := 146) hc dX11_hunts_146 (by decide) ?_
        refine bz_iast (pc := 147) 0 (6) hE (by omega) hc (hW.v) dX11_hunts_147 (rfl) (by omega) (by omega) ?_
        refine bz_eq (D := sp_fill D 0 7 (fun j => sp_told Q o r 52 j)) (sp_fill_to (t6.trans (by rw [h59]))) ?_
        refine wt_iconst (pc := 148) (v := nI 0) hc dX11_hunts_148 (by decide) ?_
        refine wt_bipush (pc := 149) (v := nI 30) hc dX11_hunts_149 (by decide) ?_
        refine wt_aload_0 (pc := 151) hc dX11_hunts_151 ?_
        refine cv_getr (pc := 152) (b := q 0) 11 hc cP3 (hW.n) dX11_hunts_152 q497 (by decide) (Or.inl rfl) (fun _ _ _ => rfl) (hW.rx) ?_
        refine cv_getrN (pc := 155) (b := q 1) 0 hc cP0 (hY.kx) dX11_hunts_155 q241 (by decide) (Or.inl rfl) (fun _ _ _ => rfl) (hY.xc) ?_
        refine cv_getrN (pc := 158) (b := q 6) 4 hc cP1 (hY.c) dX11_hunts_158 q207 (by decide) (Or.inl rfl) (fun _ _ _ => rfl) (hY.ch) ?_
        refine wt_aload_0 (pc := 161) hc dX11_hunts_161 ?_
        refine bz_geti (pc := 162) 1 0 (nI f) hE (by omega) hc cP3 (hW.n) dX11_hunts_162 q474 (by decide) (Or.inl rfl) (fun _ _ _ => rfl) ((hro7 1 0 (by decide) 7).trans ef) ?_
        refine wt_gofr (wt_invF (pc := 165) 1 hc cP11 (hY.hs) (ct_gL (hY.hl _) (by omega)) dX11_hunts_165 rfl q530 q449 q451 q115 q453 (hX.F_J2_get) (by decide +kernel) rfl (by first | decide | omega) (by decide) (Nat.le_of_ble_eq_true rfl) rfl) ?_
        refine cf_cast (pc := 170) hc (hofo) dX11_hunts_170 q568 ?_
        refine wt_aload_0 (pc := 173) hc dX11_hunts_173 ?_
        refine cv_getr (pc := 174) (b := q 0) 11 hc cP3 (hW.n) dX11_hunts_174 q497 (by decide) (Or.inl rfl) (fun _ _ _ => rfl) (hW.rx) ?_
        refine cv_getrN (pc := 177) (b := S.2.1 0) 1 hc cP0 (hY.kx) dX11_hunts_177 q243 (by decide) (Or.inl rfl) (fun _ _ _ => rfl) (hY.xv) ?_
        refine cf_call (pc := 180) hX hc (hofo) dX11_hunts_180 q570 (by omega) (Nat.le_of_ble_eq_true rfl) rfl ?_
        refine cv_mmin (pc := 185) hc dX11_hunts_185 q636 q392 q122 q393 (by decide) (Nat.le_of_ble_eq_true rfl) rfl ?_
        refine cv_mmax (pc := 188) hc dX11_hunts_188 q637 q355 q122 q356 (by decide) (Nat.le_of_ble_eq_true rfl) rfl ?_
        exact wt_iret (pc := 191) hc hok dX11_hunts_191 (rfl) (fun H hZ => ⟨congrArg (fun z => some (Value.int z)) (cf_clamp _), hZ⟩)
    · exact absurd c_12 hno
/-- how the night's ints and the reference's go together while it runs -/
def cLi (D Q : wt_It) (ro ow : Nat) : Prop := (∀ r, r < ro → D 3 r = Q 56 r) ∧ (∀ o, o < ow → D 4 o = Q 57 o) ∧ ∀ o, o < ow → ∃ wl, wl ≤ 8 ∧ Q 9 o = nI wl ∧ ((Q 47 3 >>> (nI o &&& 31) &&& 1 = 1 ∧ Q 58 o = nI wl) ∨ (¬ Q 47 3 >>> (nI o &&& 31) &&& 1 = 1 ∧ ∃ a, a ≤ wl ∧ D 5 o = nI a ∧ Q 58 o = nI a ∧ (a < wl → D (7 + o) a = Q 59 o) ∧ ∀ i, i < a → D (7 + o) i = Q 54 (8 * o + i) ∧ D (13 + o) i = Q 55 (8 * o + i)))
/-- mice and caught when the owl b comes -/
def cf_c1 (D Q : wt_It) (b r : Nat) : wt_It := if sp_hu Q b r ≤ 0 then cf_va D Q b r else if D 3 r ≤ 0 then cf_va D Q b r else wt_up2 (wt_up2 (cf_va D Q b r) 3 r (D 3 r - nI 1)) 4 b (D 4 b + nI 1)
def cf_c2 (D Q D1 : wt_It) (b a r : Nat) : wt_It := if Q 9 b ≤ nI (a + 1) then wt_up2 (wt_up2 D1 (13 + b) a (Q 59 b + sp_hu Q b r)) 5 b (nI (a + 1)) else wt_up2 (wt_up2 (wt_up2 D1 (13 + b) a (Q 59 b + sp_hu Q b r)) 5 b (nI (a + 1))) (7 + b) (a + 1) (Q 59 b + sp_hu Q b r + sp_flies Q b r (nn (Q 10 (8 * b + a + 1))))
/-- the owl b comes to its stop a -/
def cf_come (D Q : wt_It) (b a r : Nat) : wt_It := cf_c2 D Q (cf_c1 D Q b r) b a r
theorem cf_c1_row {D Q : wt_It} {b r k : Nat} (h0 : k ≠ 0) (h3 : k ≠ 3) (h4 : k ≠ 4) : cf_c1 D Q b r k = D k := by
  unfold cf_c1
  split
  · exact cf_va_row h0
  · split
    · exact cf_va_row h0
    · rw [wt_up2_row h4, wt_up2_row h3, cf_va_row h0]
theorem cf_c2_row {D Q D1 : wt_It} {b a r k : Nat} (h5 : k ≠ 5) (h7 : k ≠ 7 + b) (h13 : k ≠ 13 + b) : cf_c2 D Q D1 b a r k = D1 k := by
  unfold cf_c2
  split
  · rw [wt_up2_row h5, wt_up2_row h13]
  · rw [wt_up2_row h7, wt_up2_row h5, wt_up2_row h13]
theorem cf_c2_5 (D Q D1 : wt_It) (b a r o : Nat) : cf_c2 D Q D1 b a r 5 o = if o = b then nI (a + 1) else D1 5 o := by
  have e : wt_up2 (wt_up2 D1 (13 + b) a (Q 59 b + sp_hu Q b r)) 5 b (nI (a + 1)) 5 o = if o = b then nI (a + 1) else D1 5 o := by
    by_cases h : o = b
    · rw [h, wt_up2_self, if_pos rfl]
    · rw [wt_up2_ne (fun z => h z.2), if_neg h, wt_up2_ne (fun z => absurd z.1 (by omega))]
  unfold cf_c2
  split
  · exact e
  · rw [wt_up2_ne (fun z => absurd z.1 (by omega))]; exact e
theorem cf_c2_13 (D Q D1 : wt_It) (b a r o i : Nat) (ho : o < 5) (hb : b < 5) : cf_c2 D Q D1 b a r (13 + o) i = if o = b ∧ i = a then Q 59 b + sp_hu Q b r else D1 (13 + o) i := by
  have e : wt_up2 (wt_up2 D1 (13 + b) a (Q 59 b + sp_hu Q b r)) 5 b (nI (a + 1)) (13 + o) i = if o = b ∧ i = a then Q 59 b + sp_hu Q b r else D1 (13 + o) i := by
    rw [wt_up2_ne (fun z => absurd z.1 (by omega))]
    by_cases h : o = b ∧ i = a
    · rw [h.1, h.2, wt_up2_self, if_pos ⟨rfl, rfl⟩]
    · rw [wt_up2_ne (fun z => h ⟨by omega, z.2⟩), if_neg h]
  unfold cf_c2
  split
  · exact e
  · rw [wt_up2_ne (fun z => absurd z.1 (by omega))]; exact e
theorem cf_c2_7 (D Q D1 : wt_It) (b a r o i : Nat) (ho : o < 5) (hb : b < 5) : cf_c2 D Q D1 b a r (7 + o) i = if ¬ Q 9 b ≤ nI (a + 1) ∧ o = b ∧ i = a + 1 then Q 59 b + sp_hu Q b r + sp_flies Q b r (nn (Q 10 (8 * b + a + 1))) else D1 (7 + o) i := by
  have e : wt_up2 (wt_up2 D1 (13 + b) a (Q 59 b + sp_hu Q b r)) 5 b (nI (a + 1)) (7 + o) i = D1 (7 + o) i := by
    rw [wt_up2_ne (fun z => absurd z.1 (by omega)), wt_up2_ne (fun z => absurd z.1 (by omega))]
  unfold cf_c2
  split
  · rename_i h
    rw [if_neg (fun z => z.1 h)]
    exact e
  · rename_i h
    by_cases h2 : o = b ∧ i = a + 1
    · rw [h2.1, h2.2, wt_up2_self, if_pos ⟨h, rfl, rfl⟩]
    · rw [wt_up2_ne (fun z => h2 ⟨by omega, z.2⟩), if_neg (fun z => h2 z.2)]
      exact e
/-- what the reference's rows are after a stop -/
theorem sp_ns_rows (M : wt_It) (b a r : Nat) : (∀ j, sp_ns M b a r 54 j = if j = 8 * b + a then M 59 b else M 54 j) ∧ (∀ j, sp_ns M b a r 55 j = if j = 8 * b + a then M 59 b + sp_hu M b r else M 55 j) ∧ (∀ o, sp_ns M b a r 59 o = if ¬ M 9 b ≤ nI (a + 1) ∧ o = b then M 59 b + sp_hu M b r + sp_flies M b r (nn (M 10 (8 * b + a + 1))) else M 59 o) ∧ (∀ x, sp_ns M b a r 56 x = if sp_hu M b r ≤ 0 ∨ M 56 r ≤ 0 then M 56 x else if x = r then M 56 r - nI 1 else M 56 x) ∧ (∀ o, sp_ns M b a r 57 o = if sp_hu M b r ≤ 0 ∨ M 56 r ≤ 0 then M 57 o else if o = b then M 57 b + nI 1 else M 57 o) := by
  have e : ∀ k, k ≠ 58 → k ≠ 59 → ∀ j, sp_ns M b a r k j = (if sp_hu M b r ≤ 0 then wt_up2 (wt_up2 (sp_huM M b r) 54 (8 * b + a) (M 59 b)) 55 (8 * b + a) (M 59 b + sp_hu M b r) else if M 56 r ≤ 0 then wt_up2 (wt_up2 (sp_huM M b r) 54 (8 * b + a) (M 59 b)) 55 (8 * b + a) (M 59 b + sp_hu M b r) else wt_up2 (wt_up2 (wt_up2 (wt_up2 (sp_huM M b r) 54 (8 * b + a) (M 59 b)) 55 (8 * b + a) (M 59 b + sp_hu M b r)) 56 r (M 56 r - nI 1)) 57 b (M 57 b + nI 1)) k j := by
    intro k h8 h9 j
    unfold sp_ns
    by_cases h : M 9 b ≤ nI (a + 1)
    · rw [if_pos h, wt_up2_row h8]
    · rw [if_neg h, wt_up2_row h9, wt_up2_row h8]
  have hM : ∀ k, k ≠ 52 → k ≠ 53 → ∀ j, sp_huM M b r k j = M k j := fun k q1 q2 j => congrFun (sp_huM_row q1 q2) j
  refine ⟨fun j => ?_, fun j => ?_, fun o => ?_, fun x => ?_, fun o => ?_⟩
  · have e3 : wt_up2 (wt_up2 (sp_huM M b r) 54 (8 * b + a) (M 59 b)) 55 (8 * b + a) (M 59 b + sp_hu M b r) 54 j = if j = 8 * b + a then M 59 b else M 54 j := by
      rw [wt_up2_row (by decide)]
      by_cases h : j = 8 * b + a
      · rw [h, wt_up2_self, if_pos rfl]
      · rw [wt_up2_ne (fun z => h z.2), if_neg h]; exact hM 54 (by decide) (by decide) j
    rw [e 54 (by decide) (by decide)]
    split
    · exact e3
    · split
      · exact e3
      · rw [wt_up2_row (by decide), wt_up2_row (by decide)]; exact e3
  · have e3 : wt_up2 (wt_up2 (sp_huM M b r) 54 (8 * b + a) (M 59 b)) 55 (8 * b + a) (M 59 b + sp_hu M b r) 55 j = if j = 8 * b + a then M 59 b + sp_hu M b r else M 55 j := by
      by_cases h : j = 8 * b + a
      · rw [h, wt_up2_self, if_pos rfl]
      · rw [wt_up2_ne (fun z => h z.2), if_neg h, wt_up2_row (by decide)]; exact hM 55 (by decide) (by decide) j
    rw [e 55 (by decide) (by decide)]
    split
    · exact e3
    · split
      · exact e3
      · rw [wt_up2_row (by decide), wt_up2_row (by decide)]; exact e3
  · have e3 : ∀ N : wt_It, N 59 = M 59 → wt_up2 N 58 b (nI (a + 1)) 59 o = M 59 o := fun N hN => by rw [wt_up2_row (by decide), hN]
    have e4 : (if sp_hu M b r ≤ 0 then wt_up2 (wt_up2 (sp_huM M b r) 54 (8 * b + a) (M 59 b)) 55 (8 * b + a) (M 59 b + sp_hu M b r) else if M 56 r ≤ 0 then wt_up2 (wt_up2 (sp_huM M b r) 54 (8 * b + a) (M 59 b)) 55 (8 * b + a) (M 59 b + sp_hu M b r) else wt_up2 (wt_up2 (wt_up2 (wt_up2 (sp_huM M b r) 54 (8 * b + a) (M 59 b)) 55 (8 * b + a) (M 59 b + sp_hu M b r)) 56 r (M 56 r - nI 1)) 57 b (M 57 b + nI 1)) 59 = M 59 := by
      have e5 : wt_up2 (wt_up2 (sp_huM M b r) 54 (8 * b + a) (M 59 b)) 55 (8 * b + a) (M 59 b + sp_hu M b r) 59 = M 59 := by
        rw [wt_up2_row (by decide), wt_up2_row (by decide)]; exact sp_huM_row (by decide) (by decide)
      split
      · exact e5
      · split
        · exact e5
        · rw [wt_up2_row (by decide), wt_up2_row (by decide)]; exact e5
    have outer : ∀ (N : wt_It) (V : Int32), N 59 = M 59 → (if M 9 b ≤ nI (a + 1) then wt_up2 N 58 b (nI (a + 1)) else wt_up2 (wt_up2 N 58 b (nI (a + 1))) 59 b V) 59 o = if ¬ M 9 b ≤ nI (a + 1) ∧ o = b then V else M 59 o := by
      intro N V hN
      by_cases h : M 9 b ≤ nI (a + 1)
      · rw [if_pos h, if_neg (fun z => z.1 h)]
        exact e3 N hN
      · rw [if_neg h]
        by_cases h2 : o = b
        · rw [h2, wt_up2_self, if_pos ⟨h, rfl⟩]
        · rw [wt_up2_ne (fun z => h2 z.2), if_neg (fun z => h2 z.2)]
          exact e3 N hN
    exact outer _ _ e4
  · rw [e 56 (by decide) (by decide)]
    have e3 : wt_up2 (wt_up2 (sp_huM M b r) 54 (8 * b + a) (M 59 b)) 55 (8 * b + a) (M 59 b + sp_hu M b r) 56 x = M 56 x := by
      rw [wt_up2_row (by decide), wt_up2_row (by decide)]; exact hM 56 (by decide) (by decide) x
    by_cases h1 : sp_hu M b r ≤ 0
    · rw [if_pos h1, if_pos (Or.inl h1)]; exact e3
    · rw [if_neg h1]
      by_cases h2 : M 56 r ≤ 0
      · rw [if_pos h2, if_pos (Or.inr h2)]; exact e3
      · rw [if_neg h2, if_neg (fun z => z.elim h1 h2), wt_up2_row (by decide)]
        by_cases h3 : x = r
        · rw [h3, wt_up2_self, if_pos rfl]
        · rw [wt_up2_ne (fun z => h3 z.2), if_neg h3]; exact e3
  · rw [e 57 (by decide) (by decide)]
    have e3 : wt_up2 (wt_up2 (sp_huM M b r) 54 (8 * b + a) (M 59 b)) 55 (8 * b + a) (M 59 b + sp_hu M b r) 57 o = M 57 o := by
      rw [wt_up2_row (by decide), wt_up2_row (by decide)]; exact hM 57 (by decide) (by decide) o
    by_cases h1 : sp_hu M b r ≤ 0
    · rw [if_pos h1, if_pos (Or.inl h1)]; exact e3
    · rw [if_neg h1]
      by_cases h2 : M 56 r ≤ 0
      · rw [if_pos h2, if_pos (Or.inr h2)]; exact e3
      · rw [if_neg h2, if_neg (fun z => z.elim h1 h2)]
        by_cases h3 : o = b
        · rw [h3, wt_up2_self, if_pos rfl]
        · rw [wt_up2_ne (fun z => h3 z.2), if_neg h3, wt_up2_row (by decide)]; exact e3
theorem cf_c1_3 {D Q : wt_It} {b r : Nat} (h : D 3 r = Q 56 r) (x : Nat) : cf_c1 D Q b r 3 x = if sp_hu Q b r ≤ 0 ∨ Q 56 r ≤ 0 then D 3 x else if x = r then Q 56 r - nI 1 else D 3 x := by
  unfold cf_c1
  rw [h]
  have e3 : cf_va D Q b r 3 x = D 3 x := congrFun (cf_va_row (by decide)) x
  by_cases h1 : sp_hu Q b r ≤ 0
  · rw [if_pos h1, if_pos (Or.inl h1)]; exact e3
  · rw [if_neg h1]
    by_cases h2 : Q 56 r ≤ 0
    · rw [if_pos h2, if_pos (Or.inr h2)]; exact e3
    · rw [if_neg h2, if_neg (fun z => z.elim h1 h2), wt_up2_row (by decide)]
      by_cases h3 : x = r
      · rw [h3, wt_up2_self, if_pos rfl]
      · rw [wt_up2_ne (fun z => h3 z.2), if_neg h3]; exact e3
theorem cf_c1_4 {D Q : wt_It} {b r : Nat} (h : D 3 r = Q 56 r) (o : Nat) : cf_c1 D Q b r 4 o = if sp_hu Q b r ≤ 0 ∨ Q 56 r ≤ 0 then D 4 o else if o = b then D 4 b + nI 1 else D 4 o := by
  unfold cf_c1
  rw [h]
  have e3 : cf_va D Q b r 4 o = D 4 o := congrFun (cf_va_row (by decide)) o
  by_cases h1 : sp_hu Q b r ≤ 0
  · rw [if_pos h1, if_pos (Or.inl h1)]; exact e3
  · rw [if_neg h1]
    by_cases h2 : Q 56 r ≤ 0
    · rw [if_pos h2, if_pos (Or.inr h2)]; exact e3
    · rw [if_neg h2, if_neg (fun z => z.elim h1 h2)]
      by_cases h3 : o = b
      · rw [h3, wt_up2_self, if_pos rfl]
      · rw [wt_up2_ne (fun z => h3 z.2), if_neg h3, wt_up2_row (by decide)]; exact e3
theorem cSet.step {D D' M Q Q' : wt_It} {ro ow ru : Nat} (h : cSet D M Q ro ow ru) (hs : sp_same Q Q') (h1 : D' 1 = D 1) (h2 : D' 2 = D 2) : cSet D' M Q' ro ow ru := by
  obtain ⟨a1, a2, a3, a4, a5⟩ := h
  have e0 := hs 0 (by decide) (by decide) (by decide) (by decide) (by decide) (by decide) (by decide) (by decide)
  have e47 := hs 47 (by decide) (by decide) (by decide) (by decide) (by decide) (by decide) (by decide) (by decide)
  unfold cSet
  rw [h1, h2, e0, e47]
  refine ⟨a1, a2, a3, a4, fun k hk hk2 hk3 => ?_⟩
  have hno : ∀ z, sp_S z = true → k ≠ z := fun z hz e => by rw [e, hz] at hk3; cases hk3
  rw [hs k (hno 52 rfl) (hno 53 rfl) (hno 54 rfl) (hno 55 rfl) (hno 56 rfl) (hno 57 rfl) (hno 58 rfl) (hno 59 rfl)]
  exact a5 k hk hk2 hk3
theorem cLi.step {D Q : wt_It} {ro ow b a wl r : Nat} (h : cLi D Q ro ow) (how : ow ≤ 5) (hb : b < ow) (hr : r < ro) (hwl : wl ≤ 8) (ha : a < wl) (e9 : Q 9 b = nI wl) (hnb : ¬ Q 47 3 >>> (nI b &&& 31) &&& 1 = 1) (e58 : Q 58 b = nI a) : cLi (cf_come D Q b a r) (sp_ns Q b a r) ro ow := by
  obtain ⟨h3, h4, h5⟩ := h
  obtain ⟨r54, r55, r59, r56, r57⟩ := sp_ns_rows Q b a r
  have hsm := sp_ns_same Q b a r
  have hr3 := h3 r hr
  refine ⟨fun x hx => ?_, fun o ho => ?_, fun o ho => ?_⟩
  · rw [show cf_come D Q b a r 3 = cf_c1 D Q b r 3 from cf_c2_row (by decide) (by omega) (by omega), cf_c1_3 hr3, r56, h3 x hx]
  · rw [show cf_come D Q b a r 4 = cf_c1 D Q b r 4 from cf_c2_row (by decide) (by omega) (by omega), cf_c1_4 hr3, r57, h4 o ho, h4 b hb]
  · obtain ⟨wl', hwl', e9', hc⟩ := h5 o ho
    have e9n : sp_ns Q b a r 9 = Q 9 := hsm 9 (by decide) (by decide) (by decide) (by decide) (by decide) (by decide) (by decide) (by decide)
    have e47n : sp_ns Q b a r 47 = Q 47 := hsm 47 (by decide) (by decide) (by decide) (by decide) (by decide) (by decide) (by decide) (by decide)
    refine ⟨wl', hwl', by rw [e9n]; exact e9', ?_⟩
    rw [e47n, sp_ns_58]
    rcases hc with ⟨c1, c2⟩ | ⟨c1, a', ha', e5, e58', e59, hrow⟩
    · have hne : o ≠ b := fun z => hnb (z ▸ c1)
      exact Or.inl ⟨c1, by rw [if_neg hne]; exact c2⟩
    · refine Or.inr ⟨c1, ?_⟩
      have r7 : ∀ i, cf_come D Q b a r (7 + o) i = if ¬ Q 9 b ≤ nI (a + 1) ∧ o = b ∧ i = a + 1 then Q 59 b + sp_hu Q b r + sp_flies Q b r (nn (Q 10 (8 * b + a + 1))) else D (7 + o) i := fun i => by
        rw [show cf_come D Q b a r = cf_c2 D Q (cf_c1 D Q b r) b a r from rfl, cf_c2_7 _ _ _ _ _ _ _ _ (by omega) (by omega), cf_c1_row (by omega) (by omega) (by omega)]
      have r13 : ∀ i, cf_come D Q b a r (13 + o) i = if o = b ∧ i = a then Q 59 b + sp_hu Q b r else D (13 + o) i := fun i => by
        rw [show cf_come D Q b a r = cf_c2 D Q (cf_c1 D Q b r) b a r from rfl, cf_c2_13 _ _ _ _ _ _ _ _ (by omega) (by omega), cf_c1_row (by omega) (by omega) (by omega)]
      have r5 : cf_come D Q b a r 5 o = if o = b then nI (a + 1) else D 5 o := by
        rw [show cf_come D Q b a r = cf_c2 D Q (cf_c1 D Q b r) b a r from rfl, cf_c2_5, cf_c1_row (by omega) (by omega) (by omega)]
      by_cases e : o = b
      · subst e
        have ew : wl' = wl := (nI_eq (by omega) (by omega)).mp (e9'.symm.trans e9)
        have ea : a' = a := (nI_eq (by omega) (by omega)).mp (e58'.symm.trans e58)
        subst ew ea
        refine ⟨a' + 1, ha, by rw [r5, if_pos rfl], by rw [if_pos rfl], fun hlt => ?_, fun i hi => ?_⟩
        · rw [r7, r59, if_pos ⟨by rw [e9]; exact nI_ge hlt (by omega), rfl, rfl⟩, if_pos ⟨by rw [e9]; exact nI_ge hlt (by omega), rfl⟩]
        · rw [r7, r13, r54, r55, if_neg (fun z => absurd z.2.2 (by omega))]
          by_cases e2 : i = a'
          · subst e2
            rw [if_pos rfl, if_pos ⟨rfl, rfl⟩, if_pos rfl]
            exact ⟨e59 ha, rfl⟩
          · rw [if_neg (by omega), if_neg (fun z => e2 z.2), if_neg (by omega)]
            exact hrow i (by omega)
      · refine ⟨a', ha', by rw [r5, if_neg e]; exact e5, by rw [if_neg e]; exact e58', fun hlt => ?_, fun i hi => ?_⟩
        · rw [r7, r59, if_neg (fun z => e z.2.1), if_neg (fun z => e z.2)]
          exact e59 hlt
        · rw [r7, r13, r54, r55, if_neg (fun z => e z.2.1), if_neg (by omega), if_neg (fun z => e z.1), if_neg (by omega)]
          exact hrow i hi
theorem cf_flies {D M Q : wt_It} {ro ow ru b x y : Nat} (h : cSet D M Q ro ow ru) : cf_flight M (D 1) (M 8 b) x y = sp_flies Q b x y := by
  obtain ⟨⟨s0, s1, s2, s3, s4, s5⟩, -, -, -, sk⟩ := h
  unfold cf_flight sp_flies
  rw [s1, s2, sk 7 (by decide) (by decide) (by decide), sk 8 (by decide) (by decide) (by decide)]
  rcases s4 with z | z
  · rw [if_pos (show D 1 3 = 0 from z), if_neg (show ¬ D 1 3 = nI 1 from by rw [z]; decide)]
  · rw [if_neg (show ¬ D 1 3 = 0 from by rw [z]; decide), if_pos z]
theorem ct_X11_first (hX : cX G) (hE : bE G S NB) (hN : 19 ≤ NB) (hW : cW S (q 0)) (hY : cYS S M q ro ow ri ru) (hs : cSet D M Q ro ow ru) (hL : cLi D Q ro ow) : wt_Ct l G yX11_first cX11_first 3 (some .int) 4 0 0 [.ref (S.2.1 1)] (cz G (bB S D)) (wt_fn (sp_bs Q ow) (cz G (bB S D))) := by
  obtain ⟨⟨s0, s1, s2, s3, s4, s5⟩, sg, sm, sz, sk⟩ := hs
  have how := hY.b5
  refine wt_enter [some (.ref (S.2.1 1)), none, none] (by decide +kernel) rfl (Nat.le_of_ble_eq_true rfl) (fun X hc hok => ?_)
  have loop : ∀ n o : Nat, o ≤ ow → ow - o < n → wt_V G X 4 [some (.ref (S.2.1 1)), some (.int (sp_bs Q o)), some (.int (nI o))] [] (cz G (bB S D)) 0 0 := by
    intro n
    induction n with
    | zero => intro o _ h; omega
    | succ n ih =>
      intro o ho hn
      have hss : sp_bs Q (o + 1) = if ¬ Q 9 o ≤ Q 58 o ∧ (sp_bs Q o = -1 ∨ ¬ Q 59 (nn (sp_bs Q o)) ≤ Q 59 o) then nI o else sp_bs Q o := rfl
      by_cases hlt : o < ow
      · obtain ⟨wl, hwl, e9, hcase⟩ := hL.2.2 o hlt
        have e9m : M 9 o = nI wl := by rw [← sk 9 (by decide) (by decide) (by decide)]; exact e9
        refine wt_iload_2 (pc := 4) hc dX11_first_4 ?_
        refine wt_aload_0 (pc := 5) hc dX11_first_5 ?_
        refine cv_getr (pc := 6) (b := q 0) 11 hc cP3 (hW.n) dX11_first_6 q497 (by decide) (Or.inl rfl) (fun _ _ _ => rfl) (hW.rx) ?_
        refine cv_getrN (pc := 9) (b := q 1) 0 hc cP0 (hY.kx) dX11_first_9 q241 (by decide) (Or.inl rfl) (fun _ _ _ => rfl) (hY.xc) ?_
        refine cv_getrN (pc := 12) (b := q 4) 2 hc cP1 (hY.c) dX11_first_12 q199 (by decide) (Or.inl rfl) (fun _ _ _ => rfl) (hY.co) ?_
        refine wt_gofn (wt_invF (pc := 15) 0 hc cP11 (hY.os) (ct_sL (hY.ol _)) dX11_first_15 rfl q528 q318 q320 q115 q322 (hX.F_J2_size) (by decide +kernel) rfl (by first | decide | omega) (by decide) (Nat.le_of_ble_eq_true rfl) rfl) ?_
        refine wt_nicmp_ge (pc := 20) 107 (o) (ow) hc dX11_first_20 (by decide) (by omega) (by omega) (fun c_20 => ?_) (fun c_20 => ?_)
        · omega
        have ih' := ih (o + 1) (by omega) (by omega)
        rcases hcase with ⟨hb, e58⟩ | ⟨hb, a, ha, e5, e58, e59, -⟩
        · have hno : ¬ (¬ Q 9 o ≤ Q 58 o ∧ (sp_bs Q o = -1 ∨ ¬ Q 59 (nn (sp_bs Q o)) ≤ Q 59 o)) := fun z => z.1 (by rw [e9, e58]; exact Int32.le_refl _)
          rw [if_neg hno] at hss
          rw [hss] at ih'
          refine wt_aload_0 (pc := 23) hc dX11_first_23 ?_
          refine wt_iload_2 (pc := 24) hc dX11_first_24 ?_
          refine wt_gofn (wt_invV (pc := 25) 1 hc (ct_X11_isOut (o) hE (by omega) hW) dX11_first_25 rfl (fun s H => cz_recv cP3 (hW.n) s H) q536 q537 q538 q143 q539 (by decide +kernel) rfl (by first | decide | omega) (by decide) (Nat.le_of_ble_eq_true rfl) rfl) ?_
          refine wt_if_eq (pc := 28) 101 hc dX11_first_28 (by decide) (fun c_28 => ?_) (fun c_28 => ?_)
          · refine wt_iinc_2 (pc := 101) (v := nI (o + 1)) hc dX11_first_101 (nI_add o 1) rfl ?_
            refine wt_goto (pc := 104) 4 hc dX11_first_104 (by decide) ?_
            exact ih'
          · exact absurd (sp_b_n0 c_28) (fun z => z (by rw [← s3]; exact hb))
        · refine wt_aload_0 (pc := 23) hc dX11_first_23 ?_
          refine wt_iload_2 (pc := 24) hc dX11_first_24 ?_
          refine wt_gofn (wt_invV (pc := 25) 1 hc (ct_X11_isOut (o) hE (by omega) hW) dX11_first_25 rfl (fun s H => cz_recv cP3 (hW.n) s H) q536 q537 q538 q143 q539 (by decide +kernel) rfl (by first | decide | omega) (by decide) (Nat.le_of_ble_eq_true rfl) rfl) ?_
          refine wt_if_eq (pc := 28) 101 hc dX11_first_28 (by decide) (fun c_28 => ?_) (fun c_28 => ?_)
          · exact absurd (sp_b_0.mp c_28) (fun z => z (by rw [← s3]; exact hb))
          refine wt_aload_0 (pc := 31) hc dX11_first_31 ?_
          refine cv_getr (pc := 32) (b := S.2.1 5) 7 hc cP3 (hW.n) dX11_first_32 q488 (by decide) (Or.inl rfl) (fun _ _ _ => rfl) (hW.rnext) ?_
          refine wt_iload_2 (pc := 35) hc dX11_first_35 ?_
          refine bz_iald (pc := 36) 5 (o) (nI a) hE (by omega) hc (hW.next) dX11_first_36 (rfl) (by omega) (by omega) (e5) ?_
          refine wt_aload_0 (pc := 37) hc dX11_first_37 ?_
          refine cv_getr (pc := 38) (b := q 0) 11 hc cP3 (hW.n) dX11_first_38 q497 (by decide) (Or.inl rfl) (fun _ _ _ => rfl) (hW.rx) ?_
          refine cv_getrN (pc := 41) (b := q 1) 0 hc cP0 (hY.kx) dX11_first_41 q241 (by decide) (Or.inl rfl) (fun _ _ _ => rfl) (hY.xc) ?_
          refine cv_getrN (pc := 44) (b := q 4) 2 hc cP1 (hY.c) dX11_first_44 q199 (by decide) (Or.inl rfl) (fun _ _ _ => rfl) (hY.co) ?_
          refine wt_iload_2 (pc := 47) hc dX11_first_47 ?_
          refine wt_gofr (wt_invF (pc := 48) 1 hc cP11 (hY.os) (ct_gL (hY.ol _) (by omega)) dX11_first_48 rfl q530 q449 q451 q115 q453 (hX.F_J2_get) (by decide +kernel) rfl (by first | decide | omega) (by decide) (Nat.le_of_ble_eq_true rfl) rfl) ?_
          refine cv_castS (pc := 53) hc cP2 (hY.ok o (by omega)) dX11_first_53 q531 ?_
          refine wt_gofn (wt_invV (pc := 56) 0 hc (ct_X6_size hX (q (20 + o)) _ _ wl _ (hY.wo o (by omega) e9m hwl _)) dX11_first_56 rfl (fun s H => cz_recv cP2 (hY.ok o (by omega)) s H) q543 q544 q545 q129 q546 (by decide +kernel) rfl (by first | decide | omega) (by decide) (Nat.le_of_ble_eq_true rfl) rfl) ?_
          refine wt_nicmp_ne (pc := 59) 65 (a) (wl) hc dX11_first_59 (by decide) (by omega) (by omega) (fun c_59 => ?_) (fun c_59 => ?_)
          · have hlta : a < wl := by omega
            by_cases hbest : sp_bs Q o = -1
            · rw [if_pos ⟨by rw [e9, e58]; exact fun z => absurd z (nI_ge hlta (by omega)), Or.inl hbest⟩] at hss
              rw [hss] at ih'
              refine wt_iload_1 (pc := 65) hc dX11_first_65 ?_
              refine wt_iconst (pc := 66) (v := (-1 : Int32)) hc dX11_first_66 (by decide) ?_
              refine wt_icmp_eq (pc := 67) 99 hc dX11_first_67 (by decide) (fun c_67 => ?_) (fun c_67 => ?_)
              · refine wt_iload_2 (pc := 99) hc dX11_first_99 ?_
                refine wt_istore_1 (pc := 100) hc dX11_first_100 rfl ?_
                refine wt_iinc_2 (pc := 101) (v := nI (o + 1)) hc dX11_first_101 (nI_add o 1) rfl ?_
                refine wt_goto (pc := 104) 4 hc dX11_first_104 (by decide) ?_
                exact ih'
              · exact absurd hbest c_67
            · rcases sp_bs_or Q o with hb0 | ⟨b, hb1, hb2, hb3⟩
              · exact absurd hb0 hbest
              obtain ⟨wlb, hwlb, e9b, hcb⟩ := hL.2.2 b (by omega)
              rcases hcb with ⟨-, e58b⟩ | ⟨-, ab, hab, e5b, e58b, e59b, -⟩
              · exact absurd (by rw [e9b, e58b]; exact Int32.le_refl _) hb3
              have hltb : ab < wlb := by
                rcases Nat.lt_or_ge ab wlb with z | z
                · exact z
                · exact absurd (by rw [e9b, e58b]; exact nI_le z (by omega)) hb3
              rw [hb2, nn_nI (by omega)] at hss
              rw [hb2]
              have hne : ¬ nI b = (-1 : Int32) := sp_nI_m1 (by omega)
              refine wt_iload_1 (pc := 65) hc dX11_first_65 ?_
              refine wt_iconst (pc := 66) (v := (-1 : Int32)) hc dX11_first_66 (by decide) ?_
              refine wt_icmp_eq (pc := 67) 99 hc dX11_first_67 (by decide) (fun c_67 => ?_) (fun c_67 => ?_)
              · exact absurd c_67 hne
              · refine wt_aload_0 (pc := 70) hc dX11_first_70 ?_
                refine cv_getr (pc := 71) (b := S.2.1 6) 8 hc cP3 (hW.n) dX11_first_71 q489 (by decide) (Or.inl rfl) (fun _ _ _ => rfl) (hW.rcomes) ?_
                refine wt_iload_2 (pc := 74) hc dX11_first_74 ?_
                refine cv_aaldr (pc := 75) (b := S.2.1 (7 + o)) (o) hc (hW.comes) (by decide) dX11_first_75 (rfl) (by omega) (by omega) (hW.cr o (by omega)) ?_
                refine wt_aload_0 (pc := 76) hc dX11_first_76 ?_
                refine cv_getr (pc := 77) (b := S.2.1 5) 7 hc cP3 (hW.n) dX11_first_77 q488 (by decide) (Or.inl rfl) (fun _ _ _ => rfl) (hW.rnext) ?_
                refine wt_iload_2 (pc := 80) hc dX11_first_80 ?_
                refine bz_iald (pc := 81) 5 (o) (nI a) hE (by omega) hc (hW.next) dX11_first_81 (rfl) (by omega) (by omega) (e5) ?_
                refine bz_iald (pc := 82) ((7 + o)) (a) (Q 59 o) hE (by omega) hc (hW.ck o (by omega)) dX11_first_82 (rfl) (by omega) (by omega) (e59 hlta) ?_
                refine wt_aload_0 (pc := 83) hc dX11_first_83 ?_
                refine cv_getr (pc := 84) (b := S.2.1 6) 8 hc cP3 (hW.n) dX11_first_84 q489 (by decide) (Or.inl rfl) (fun _ _ _ => rfl) (hW.rcomes) ?_
                refine wt_iload_1 (pc := 87) hc dX11_first_87 ?_
                refine cv_aaldr (pc := 88) (b := S.2.1 (7 + b)) (b) hc (hW.comes) (by decide) dX11_first_88 (rfl) (by omega) (by omega) (hW.cr b (by omega)) ?_
                refine wt_aload_0 (pc := 89) hc dX11_first_89 ?_
                refine cv_getr (pc := 90) (b := S.2.1 5) 7 hc cP3 (hW.n) dX11_first_90 q488 (by decide) (Or.inl rfl) (fun _ _ _ => rfl) (hW.rnext) ?_
                refine wt_iload_1 (pc := 93) hc dX11_first_93 ?_
                refine bz_iald (pc := 94) 5 (b) (nI ab) hE (by omega) hc (hW.next) dX11_first_94 (rfl) (by omega) (by omega) (e5b) ?_
                refine bz_iald (pc := 95) ((7 + b)) (ab) (Q 59 b) hE (by omega) hc (hW.ck b (by omega)) dX11_first_95 (rfl) (by omega) (by omega) (e59b hltb) ?_
                refine wt_icmp_ge (pc := 96) 101 hc dX11_first_96 (by decide) (fun c_96 => ?_) (fun c_96 => ?_)
                · rw [if_neg (fun z => z.2.elim (fun w => hne w) (fun w => w c_96))] at hss
                  rw [hss] at ih'
                  refine wt_iinc_2 (pc := 101) (v := nI (o + 1)) hc dX11_first_101 (nI_add o 1) rfl ?_
                  refine wt_goto (pc := 104) 4 hc dX11_first_104 (by decide) ?_
                  exact ih'
                · rw [if_pos ⟨by rw [e9, e58]; exact fun z => absurd z (nI_ge hlta (by omega)), Or.inr c_96⟩] at hss
                  rw [hss] at ih'
                  refine wt_iload_2 (pc := 99) hc dX11_first_99 ?_
                  refine wt_istore_1 (pc := 100) hc dX11_first_100 rfl ?_
                  refine wt_iinc_2 (pc := 101) (v := nI (o + 1)) hc dX11_first_101 (nI_add o 1) rfl ?_
                  refine wt_goto (pc := 104) 4 hc dX11_first_104 (by decide) ?_
                  exact ih'
          · have hno : ¬ (¬ Q 9 o ≤ Q 58 o ∧ (sp_bs Q o = -1 ∨ ¬ Q 59 (nn (sp_bs Q o)) ≤ Q 59 o)) := fun z => z.1 (by rw [e9, e58]; exact nI_le (by omega) (by omega))
            rw [if_neg hno] at hss
            rw [hss] at ih'
            refine wt_goto (pc := 62) 101 hc dX11_first_62 (by decide) ?_
            refine wt_iinc_2 (pc := 101) (v := nI (o + 1)) hc dX11_first_101 (nI_add o 1) rfl ?_
            refine wt_goto (pc := 104) 4 hc dX11_first_104 (by decide) ?_
            exact ih'
      · have e : o = ow := by omega
        rw [e]
        refine wt_iload_2 (pc := 4) hc dX11_first_4 ?_
        refine wt_aload_0 (pc := 5) hc dX11_first_5 ?_
        refine cv_getr (pc := 6) (b := q 0) 11 hc cP3 (hW.n) dX11_first_6 q497 (by decide) (Or.inl rfl) (fun _ _ _ => rfl) (hW.rx) ?_
        refine cv_getrN (pc := 9) (b := q 1) 0 hc cP0 (hY.kx) dX11_first_9 q241 (by decide) (Or.inl rfl) (fun _ _ _ => rfl) (hY.xc) ?_
        refine cv_getrN (pc := 12) (b := q 4) 2 hc cP1 (hY.c) dX11_first_12 q199 (by decide) (Or.inl rfl) (fun _ _ _ => rfl) (hY.co) ?_
        refine wt_gofn (wt_invF (pc := 15) 0 hc cP11 (hY.os) (ct_sL (hY.ol _)) dX11_first_15 rfl q528 q318 q320 q115 q322 (hX.F_J2_size) (by decide +kernel) rfl (by first | decide | omega) (by decide) (Nat.le_of_ble_eq_true rfl) rfl) ?_
        refine wt_nicmp_ge (pc := 20) 107 (ow) (ow) hc dX11_first_20 (by decide) (by omega) (by omega) (fun c_20 => ?_) (fun c_20 => ?_)
        · refine wt_iload_1 (pc := 107) hc dX11_first_107 ?_
          exact wt_iret (pc := 108) hc hok dX11_first_108 (rfl) (fun H hZ => ⟨rfl, hZ⟩)
        · omega
  refine wt_iconst (pc := 0) (v := (-1 : Int32)) hc dX11_first_0 (by decide) ?_
  refine wt_istore_1 (pc := 1) hc dX11_first_1 rfl ?_
  refine wt_iconst (pc := 2) (v := nI 0) hc dX11_first_2 (by decide) ?_
  refine wt_istore_2 (pc := 3) hc dX11_first_3 rfl ?_
  exact loop (ow + 1) 0 (by omega) (by omega)
theorem ct_X11_come (hX : cX G) (hSt : cSt G) (b a wl r : Nat) (hE : bE G S NB) (hN : 19 ≤ NB) (hW : cW S (q 0)) (hY : cYS S M q ro ow ri ru) (hF : cHu S M q ru) (hs : cSet D M Q ro ow ru) (hb : b < ow) (hwl : wl ≤ 8) (e9 : M 9 b = nI wl) (ha : a < wl) (hr : r < ro) (er : M 10 (8 * b + a) = nI r) (h56 : D 3 r = Q 56 r) (h58 : Q 58 b = nI a) (e5 : D 5 b = nI a) (e59 : D (7 + b) a = Q 59 b) : wt_Ct l G yX11_come cX11_come 6 none 102 0 0 [.ref (S.2.1 1), .int (nI b)] (cz G (bB S D)) (wt_pv (cz G (bB S (cf_come D Q b a r)))) := by
  have how := hY.b5
  have hro := hY.b10
  have sk := hs.2.2.2.2
  have e9q : Q 9 b = nI wl := by rw [sk 9 (by decide) (by decide) (by decide)]; exact e9
  refine wt_enter [some (.ref (S.2.1 1)), some (.int (nI b)), none, none, none, none] (by decide +kernel) rfl (Nat.le_of_ble_eq_true rfl) (fun X hc hok => ?_)
  have tail : ∀ D1 : wt_It, D1 5 b = nI a → D1 1 = D 1 → cf_come D Q b a r = cf_c2 D Q D1 b a r → wt_V G X 89 [some (.ref (S.2.1 1)), some (.int (nI b)), some (.ref (q (20 + b))), some (.int (nI a)), some (.int (Q 59 b)), some (.int (sp_hu Q b r))] [] (cz G (bB S D1)) 0 0 := by
    intro D1 e51 e11 hv
    refine wt_aload_0 (pc := 89) hc dX11_come_89 ?_
    refine cv_getr (pc := 90) (b := S.2.1 12) 9 hc cP3 (hW.n) dX11_come_90 q492 (by decide) (Or.inl rfl) (fun _ _ _ => rfl) (hW.rleaves) ?_
    refine wt_iload_1 (pc := 93) hc dX11_come_93 ?_
    refine cv_aaldr (pc := 94) (b := S.2.1 (13 + b)) (b) hc (hW.leaves) (by decide) dX11_come_94 (rfl) (by omega) (by omega) (hW.lr b (by omega)) ?_
    refine wt_iload_3 (pc := 95) hc dX11_come_95 ?_
    refine wt_iload_4 (pc := 96) hc dX11_come_96 ?_
    refine wt_iload_5 (pc := 98) hc dX11_come_98 ?_
    refine wt_iadd (pc := 100) hc dX11_come_100 ?_
    refine bz_iast (pc := 101) ((13 + b)) (a) hE (by omega) hc (hW.lk b (by omega)) dX11_come_101 (rfl) (by omega) (by omega) ?_
    refine wt_aload_0 (pc := 102) hc dX11_come_102 ?_
    refine cv_getr (pc := 103) (b := S.2.1 5) 7 hc cP3 (hW.n) dX11_come_103 q488 (by decide) (Or.inl rfl) (fun _ _ _ => rfl) (hW.rnext) ?_
    refine wt_iload_1 (pc := 106) hc dX11_come_106 ?_
    refine wt_dup2 (pc := 107) hc dX11_come_107 rfl rfl ?_
    refine bz_iald (pc := 108) 5 (b) (nI a) hE (by omega) hc (hW.next) dX11_come_108 (rfl) (by omega) (by omega) ((congrFun (wt_up2_row (by omega)) b).trans e51) ?_
    refine wt_iconst (pc := 109) (v := nI 1) hc dX11_come_109 (by decide) ?_
    refine wt_iadd (pc := 110) hc dX11_come_110 ?_
    rw [nI_add a 1]
    refine bz_iast (pc := 111) 5 (b) hE (by omega) hc (hW.next) dX11_come_111 (rfl) (by omega) (by omega) ?_
    refine wt_aload_2 (pc := 112) hc dX11_come_112 ?_
    refine wt_iload_3 (pc := 113) hc dX11_come_113 ?_
    refine wt_gofn (wt_invV (pc := 114) 1 hc (ct_X6_isLast hX (q (20 + b)) (a) _ _ wl _ (hY.wo b (by omega) e9 hwl _) hwl (by omega)) dX11_come_114 rfl (fun s H => cz_recv cP2 (hY.ok b (by omega)) s H) q638 q639 q640 q129 q641 (by decide +kernel) rfl (by first | decide | omega) (by decide) (Nat.le_of_ble_eq_true rfl) rfl) ?_
    refine wt_if_ne (pc := 117) 153 hc dX11_come_117 (by decide) (fun c_117 => ?_) (fun c_117 => ?_)
    · exact wt_vret (pc := 153) hc hok dX11_come_153 (fun H hZ => ⟨rfl, by rw [hv]; unfold cf_c2; first | (have h1 := sp_b_n0 c_117; rw [if_pos (by rw [e9q]; exact nI_le (by omega) (by omega))]; exact hZ) | (rw [if_neg (by rw [e9q]; exact nI_ge (by omega) (by omega)), sk 10 (by decide) (by decide) (by decide), show 8 * b + a + 1 = 8 * b + (a + 1) from rfl, er2, nn_nI (by omega)]; exact hZ)⟩)
    · refine wt_aload_0 (pc := 120) hc dX11_come_120 ?_
      refine cv_getr (pc := 121) (b := S.2.1 6) 8 hc cP3 (hW.n) dX11_come_121 q489 (by decide) (Or.inl rfl) (fun _ _ _ => rfl) (hW.rcomes) ?_
      obtain ⟨wl', g1, g2, g3⟩ := hY.way b hb; have ew : wl' = wl := (nI_eq (by omega) (by omega)).mp (g2.symm.trans e9); rw [ew] at g3; have hlt := sp_b_0.mp c_117; obtain ⟨r2, hr2, er2⟩ := g3 (a + 1) (by omega)
      refine wt_iload_1 (pc := 124) hc dX11_come_124 ?_
      refine cv_aaldr (pc := 125) (b := S.2.1 (7 + b)) (b) hc (hW.comes) (by decide) dX11_come_125 (rfl) (by omega) (by omega) (hW.cr b (by omega)) ?_
      refine wt_iload_3 (pc := 126) hc dX11_come_126 ?_
      refine wt_iconst (pc := 127) (v := nI 1) hc dX11_come_127 (by decide) ?_
      refine wt_iadd (pc := 128) hc dX11_come_128 ?_
      rw [nI_add a 1]
      refine wt_iload_4 (pc := 129) hc dX11_come_129 ?_
      refine wt_iload_5 (pc := 131) hc dX11_come_131 ?_
      refine wt_iadd (pc := 133) hc dX11_come_133 ?_
      refine wt_aload_0 (pc := 134) hc dX11_come_134 ?_
      refine wt_aload_2 (pc := 135) hc dX11_come_135 ?_
      refine wt_aload_2 (pc := 136) hc dX11_come_136 ?_
      refine wt_iload_3 (pc := 137) hc dX11_come_137 ?_
      refine wt_gofn (wt_invV (pc := 138) 1 hc (ct_X6_at hX (q (20 + b)) (a) _ _ wl _ (hY.wo b (by omega) e9 hwl _) (by omega)) dX11_come_138 rfl (fun s H => cz_recv cP2 (hY.ok b (by omega)) s H) q557 q558 q559 q129 q560 (by decide +kernel) rfl (by first | decide | omega) (by decide) (Nat.le_of_ble_eq_true rfl) rfl) ?_
      refine wt_topi (z := nI r) (er) ?_
      refine wt_aload_2 (pc := 141) hc dX11_come_141 ?_
      refine wt_iload_3 (pc := 142) hc dX11_come_142 ?_
      refine wt_iconst (pc := 143) (v := nI 1) hc dX11_come_143 (by decide) ?_
      refine wt_iadd (pc := 144) hc dX11_come_144 ?_
      rw [nI_add a 1]
      refine wt_gofn (wt_invV (pc := 145) 1 hc (ct_X6_at hX (q (20 + b)) (a + 1) _ _ wl _ (hY.wo b (by omega) e9 hwl _) (by omega)) dX11_come_145 rfl (fun s H => cz_recv cP2 (hY.ok b (by omega)) s H) q557 q558 q559 q129 q560 (by decide +kernel) rfl (by first | decide | omega) (by decide) (Nat.le_of_ble_eq_true rfl) rfl) ?_
      refine wt_topi (z := nI r2) (er2) ?_
      refine wt_gofn (wt_invV (pc := 148) 3 hc (ct_X11_flight _ r r2 hE hN hW (hY.1 _) (hY.wo b hb e9 hwl _) (by omega) (by omega)) dX11_come_148 rfl (fun s H => cz_recv cP3 (hW.n) s H) q643 q645 qs10 q143 q646 (by decide +kernel) rfl (by first | decide | omega) (by decide) (Nat.le_of_ble_eq_true rfl) rfl) ?_
      refine wt_topi (z := sp_flies Q b r r2) ((congrArg (fun z => cf_flight M z (M 8 b) r r2) (show wt_up2 (wt_up2 D1 (13 + b) a (Q 59 b + sp_hu Q b r)) 5 b (nI (a + 1)) 1 = D 1 from by rw [wt_up2_row (by decide), wt_up2_row (by omega), e11])).trans (cf_flies hs)) ?_
      refine wt_iadd (pc := 151) hc dX11_come_151 ?_
      refine bz_iast (pc := 152) ((7 + b)) (a + 1) hE (by omega) hc (hW.ck b (by omega)) dX11_come_152 (rfl) (by omega) (by omega) ?_
      exact wt_vret (pc := 153) hc hok dX11_come_153 (fun H hZ => ⟨rfl, by rw [hv]; unfold cf_c2; first | (have h1 := sp_b_n0 c_117; rw [if_pos (by rw [e9q]; exact nI_le (by omega) (by omega))]; exact hZ) | (rw [if_neg (by rw [e9q]; exact nI_ge (by omega) (by omega)), sk 10 (by decide) (by decide) (by decide), show 8 * b + a + 1 = 8 * b + (a + 1) from rfl, er2, nn_nI (by omega)]; exact hZ)⟩)
  refine wt_aload_0 (pc := 0) hc dX11_come_0 ?_
  refine cv_getr (pc := 1) (b := q 0) 11 hc cP3 (hW.n) dX11_come_1 q497 (by decide) (Or.inl rfl) (fun _ _ _ => rfl) (hW.rx) ?_
  refine cv_getrN (pc := 4) (b := q 1) 0 hc cP0 (hY.kx) dX11_come_4 q241 (by decide) (Or.inl rfl) (fun _ _ _ => rfl) (hY.xc) ?_
  refine cv_getrN (pc := 7) (b := q 4) 2 hc cP1 (hY.c) dX11_come_7 q199 (by decide) (Or.inl rfl) (fun _ _ _ => rfl) (hY.co) ?_
  refine wt_iload_1 (pc := 10) hc dX11_come_10 ?_
  refine wt_gofr (wt_invF (pc := 11) 1 hc cP11 (hY.os) (ct_gL (hY.ol _) (by omega)) dX11_come_11 rfl q530 q449 q451 q115 q453 (hX.F_J2_get) (by decide +kernel) rfl (by first | decide | omega) (by decide) (Nat.le_of_ble_eq_true rfl) rfl) ?_
  refine cv_castS (pc := 16) hc cP2 (hY.ok b (by omega)) dX11_come_16 q531 ?_
  refine wt_astore_2 (pc := 19) hc dX11_come_19 rfl ?_
  refine wt_aload_0 (pc := 20) hc dX11_come_20 ?_
  refine cv_getr (pc := 21) (b := S.2.1 5) 7 hc cP3 (hW.n) dX11_come_21 q488 (by decide) (Or.inl rfl) (fun _ _ _ => rfl) (hW.rnext) ?_
  refine wt_iload_1 (pc := 24) hc dX11_come_24 ?_
  refine bz_iald (pc := 25) 5 (b) (nI a) hE (by omega) hc (hW.next) dX11_come_25 (rfl) (by omega) (by omega) (e5) ?_
  refine wt_istore_3 (pc := 26) hc dX11_come_26 rfl ?_
  refine wt_aload_0 (pc := 27) hc dX11_come_27 ?_
  refine cv_getr (pc := 28) (b := S.2.1 6) 8 hc cP3 (hW.n) dX11_come_28 q489 (by decide) (Or.inl rfl) (fun _ _ _ => rfl) (hW.rcomes) ?_
  refine wt_iload_1 (pc := 31) hc dX11_come_31 ?_
  refine cv_aaldr (pc := 32) (b := S.2.1 (7 + b)) (b) hc (hW.comes) (by decide) dX11_come_32 (rfl) (by omega) (by omega) (hW.cr b (by omega)) ?_
  refine wt_iload_3 (pc := 33) hc dX11_come_33 ?_
  refine bz_iald (pc := 34) ((7 + b)) (a) (Q 59 b) hE (by omega) hc (hW.ck b (by omega)) dX11_come_34 (rfl) (by omega) (by omega) (e59) ?_
  refine wt_istore_4 (pc := 35) hc dX11_come_35 rfl ?_
  refine wt_aload_0 (pc := 37) hc dX11_come_37 ?_
  refine wt_aload_2 (pc := 38) hc dX11_come_38 ?_
  refine wt_iload_3 (pc := 39) hc dX11_come_39 ?_
  refine wt_iload_4 (pc := 40) hc dX11_come_40 ?_
  refine wt_gofn (wt_invV (pc := 42) 3 hc (ct_X11_hunts hX hSt b a wl r (Q 59 b) hE hN hW hY hF hb hwl e9 ha hr er hs h56 h58 rfl) dX11_come_42 rfl (fun s H => cz_recv cP3 (hW.n) s H) q553 q555 qs9 q143 q556 (by decide +kernel) rfl (by first | decide | omega) (by decide) (Nat.le_of_ble_eq_true rfl) rfl) ?_
  refine wt_istore_5 (pc := 45) hc dX11_come_45 rfl ?_
  refine wt_iload_5 (pc := 47) hc dX11_come_47 ?_
  refine wt_if_le (pc := 49) 89 hc dX11_come_49 (by decide) (fun c_49 => ?_) (fun c_49 => ?_)
  · first | exact tail _ ((congrFun (cf_va_row (by decide)) b).trans e5) (cf_va_row (by decide)) (by unfold cf_come cf_c1; rw [if_pos c_49]) | exact tail _ ((congrFun (cf_va_row (by decide)) b).trans e5) (cf_va_row (by decide)) (by unfold cf_come cf_c1; rw [if_neg c_49, if_pos c_62]) | exact tail _ ((congrFun (wt_up2_row (by decide)) b).trans ((congrFun (wt_up2_row (by decide)) b).trans ((congrFun (cf_va_row (by decide)) b).trans e5))) ((wt_up2_row (by decide)).trans ((wt_up2_row (by decide)).trans (cf_va_row (by decide)))) (by unfold cf_come cf_c1; rw [if_neg c_49, if_neg c_62])
  · refine wt_aload_0 (pc := 52) hc dX11_come_52 ?_
    refine cv_getr (pc := 53) (b := S.2.1 3) 5 hc cP3 (hW.n) dX11_come_53 q484 (by decide) (Or.inl rfl) (fun _ _ _ => rfl) (hW.rmice) ?_
    refine wt_aload_2 (pc := 56) hc dX11_come_56 ?_
    refine wt_iload_3 (pc := 57) hc dX11_come_57 ?_
    refine wt_gofn (wt_invV (pc := 58) 1 hc (ct_X6_at hX (q (20 + b)) (a) _ _ wl _ (hY.wo b (by omega) e9 hwl _) (by omega)) dX11_come_58 rfl (fun s H => cz_recv cP2 (hY.ok b (by omega)) s H) q557 q558 q559 q129 q560 (by decide +kernel) rfl (by first | decide | omega) (by decide) (Nat.le_of_ble_eq_true rfl) rfl) ?_
    refine wt_topi (z := nI r) (er) ?_
    refine bz_iald (pc := 61) 3 (r) (D 3 r) hE (by omega) hc (hW.mice) dX11_come_61 (rfl) (by omega) (by omega) (congrFun (cf_va_row (by decide)) r) ?_
    refine wt_if_le (pc := 62) 89 hc dX11_come_62 (by decide) (fun c_62 => ?_) (fun c_62 => ?_)
    · first | exact tail _ ((congrFun (cf_va_row (by decide)) b).trans e5) (cf_va_row (by decide)) (by unfold cf_come cf_c1; rw [if_pos c_49]) | exact tail _ ((congrFun (cf_va_row (by decide)) b).trans e5) (cf_va_row (by decide)) (by unfold cf_come cf_c1; rw [if_neg c_49, if_pos c_62]) | exact tail _ ((congrFun (wt_up2_row (by decide)) b).trans ((congrFun (wt_up2_row (by decide)) b).trans ((congrFun (cf_va_row (by decide)) b).trans e5))) ((wt_up2_row (by decide)).trans ((wt_up2_row (by decide)).trans (cf_va_row (by decide)))) (by unfold cf_come cf_c1; rw [if_neg c_49, if_neg c_62])
    · refine wt_aload_0 (pc := 65) hc dX11_come_65 ?_
      refine cv_getr (pc := 66) (b := S.2.1 3) 5 hc cP3 (hW.n) dX11_come_66 q484 (by decide) (Or.inl rfl) (fun _ _ _ => rfl) (hW.rmice) ?_
      refine wt_aload_2 (pc := 69) hc dX11_come_69 ?_
      refine wt_iload_3 (pc := 70) hc dX11_come_70 ?_
      refine wt_gofn (wt_invV (pc := 71) 1 hc (ct_X6_at hX (q (20 + b)) (a) _ _ wl _ (hY.wo b (by omega) e9 hwl _) (by omega)) dX11_come_71 rfl (fun s H => cz_recv cP2 (hY.ok b (by omega)) s H) q557 q558 q559 q129 q560 (by decide +kernel) rfl (by first | decide | omega) (by decide) (Nat.le_of_ble_eq_true rfl) rfl) ?_
      refine wt_topi (z := nI r) (er) ?_
      refine wt_dup2 (pc := 74) hc dX11_come_74 rfl rfl ?_
      refine bz_iald (pc := 75) 3 (r) (D 3 r) hE (by omega) hc (hW.mice) dX11_come_75 (rfl) (by omega) (by omega) (congrFun (cf_va_row (by decide)) r) ?_
      refine wt_iconst (pc := 76) (v := nI 1) hc dX11_come_76 (by decide) ?_
      refine wt_isub (pc := 77) hc dX11_come_77 ?_
      refine bz_iast (pc := 78) 3 (r) hE (by omega) hc (hW.mice) dX11_come_78 (rfl) (by omega) (by omega) ?_
      refine wt_aload_0 (pc := 79) hc dX11_come_79 ?_
      refine cv_getr (pc := 80) (b := S.2.1 4) 6 hc cP3 (hW.n) dX11_come_80 q486 (by decide) (Or.inl rfl) (fun _ _ _ => rfl) (hW.rcaught) ?_
      refine wt_iload_1 (pc := 83) hc dX11_come_83 ?_
      refine wt_dup2 (pc := 84) hc dX11_come_84 rfl rfl ?_
      refine bz_iald (pc := 85) 4 (b) (D 4 b) hE (by omega) hc (hW.caught) dX11_come_85 (rfl) (by omega) (by omega) ((congrFun (wt_up2_row (by decide)) b).trans (congrFun (cf_va_row (by decide)) b)) ?_
      refine wt_iconst (pc := 86) (v := nI 1) hc dX11_come_86 (by decide) ?_
      refine wt_iadd (pc := 87) hc dX11_come_87 ?_
      refine bz_iast (pc := 88) 4 (b) hE (by omega) hc (hW.caught) dX11_come_88 (rfl) (by omega) (by omega) ?_
      first | exact tail _ ((congrFun (cf_va_row (by decide)) b).trans e5) (cf_va_row (by decide)) (by unfold cf_come cf_c1; rw [if_pos c_49]) | exact tail _ ((congrFun (cf_va_row (by decide)) b).trans e5) (cf_va_row (by decide)) (by unfold cf_come cf_c1; rw [if_neg c_49, if_pos c_62]) | exact tail _ ((congrFun (wt_up2_row (by decide)) b).trans ((congrFun (wt_up2_row (by decide)) b).trans ((congrFun (cf_va_row (by decide)) b).trans e5))) ((wt_up2_row (by decide)).trans ((wt_up2_row (by decide)).trans (cf_va_row (by decide)))) (by unfold cf_come cf_c1; rw [if_neg c_49, if_neg c_62])
end NB
