/-! CLASSES: a night: where owls are together, the last owl home -/
set_option maxRecDepth 100000
theorem cf_whQ {c lv wy c' lv' wy' : Nat → Int32} {o : Nat} {m : Int32} : ∀ n i, (∀ j, i ≤ j → j < i + n → c j = c' (8 * o + j) ∧ lv j = lv' (8 * o + j) ∧ wy j = wy' (8 * o + j)) → cf_whL c lv wy m n i = sp_whL c' lv' wy' o m n i := by
  intro n
  induction n with
  | zero => intro i _; rfl
  | succ n ih =>
    intro i h
    obtain ⟨h1, h2, h3⟩ := h i (Nat.le_refl _) (by omega)
    rw [cf_whL, sp_whL, h1, h2, h3, ih (i + 1) (fun j hj hj2 => h j (by omega) (by omega))]
section NE
variable {l : Launch} {G : wt_G} {Z : Heap → Prop} {S : bS} {D M Q : wt_It} {NB ro ow ri ru : Nat} {q : Nat → Nat}
theorem ct_X11_whereQ (hX : cX G) (o : Nat) (m : Int32) (hE : bE G S NB) (hN : 19 ≤ NB) (hW : cW S (q 0)) (hY : cYS S M q ro ow ri ru) (ho : o < ow) (hR : cRq D M Q ow) : wt_Ct l G yX11_where cX11_where 5 (some .int) 5 0 0 [.ref (S.2.1 1), .int (nI o), .int m] (cz G (bB S D)) (wt_fn (sp_wh Q o m) (cz G (bB S D))) := by
  obtain ⟨wl, hwl, e9, hway⟩ := hY.way o ho
  obtain ⟨q9, q10, q11, q47, q0, hout⟩ := hR
  have e : (if D 1 2 >>> (nI o &&& 31) &&& 1 = 1 then -1 else cf_whL (D (7 + o)) (D (13 + o)) (fun i => M 10 (8 * o + i)) m wl 0) = sp_wh Q o m := by
    unfold sp_wh sp_nb
    rw [← q47, q9, e9, nn_nI (by omega)]
    by_cases hb : Q 47 3 >>> (nI o &&& 31) &&& 1 = 1
    · rw [if_pos hb, if_pos (decide_eq_true hb)]
    · rw [if_neg hb, if_neg (by rw [decide_eq_true_eq]; exact hb)]
      refine cf_whQ wl 0 (fun j _ hj => ?_)
      obtain ⟨g1, g2⟩ := hout o ho hb j (by rw [q9, e9, nn_nI (by omega)]; omega)
      exact ⟨g1, g2, by rw [q10]⟩
  rw [← e]
  exact ct_X11_where hX o m hE hN hW (hY.1 D) ho hY.b5 hwl e9
theorem cf_tgF {Q : wt_It} {o : Nat} {m : Int32} : ∀ k, sp_tgK Q o (-1) m k = false := by
  intro k
  induction k with
  | zero => rfl
  | succ k ih => rw [sp_tgK, ih]; simp
theorem ct_X11_together (hX : cX G) (o dw : Nat) (hE : bE G S NB) (hN : 19 ≤ NB) (hW : cW S (q 0)) (hY : cYS S M q ro ow ri ru) (ho : o < ow) (hR : cRq D M Q ow) (edw : M 0 6 = nI dw) (hdw : dw ≤ 600) : wt_Ct l G yX11_together cX11_together 7 (some .int) 6 0 0 [.ref (S.2.1 1), .int (nI o)] (cz G (bB S D)) (wt_fn (sp_tg Q o ow (dw + 1)) (cz G (bB S D))) := by
  have how := hY.b5
  refine wt_enter [some (.ref (S.2.1 1)), some (.int (nI o)), none, none, none, none, none] (by decide +kernel) rfl (Nat.le_of_ble_eq_true rfl) (fun X hc hok => ?_)
  have outer : ∀ n m : Nat, m + n = dw + 1 → wt_V G X 4 [some (.ref (S.2.1 1)), some (.int (nI o)), some (.int (sp_tg Q o ow m)), some (.int (nI m)), none, none, none] [] (cz G (bB S D)) 0 0 := by
    intro n
    induction n with
    | zero =>
      intro m hm
      obtain rfl : m = dw + 1 := by omega
      refine wt_iload_3 (pc := 4) hc dX11_together_4 ?_
      refine wt_aload_0 (pc := 5) hc dX11_together_5 ?_
      refine cv_getr (pc := 6) (b := q 0) 11 hc cP3 (hW.n) dX11_together_6 q497 (by decide) (Or.inl rfl) (fun _ _ _ => rfl) (hW.rx) ?_
      refine cv_getrN (pc := 9) (b := q 1) 0 hc cP0 (hY.kx) dX11_together_9 q241 (by decide) (Or.inl rfl) (fun _ _ _ => rfl) (hY.xc) ?_
      refine cv_getiN (pc := 12) 7 (nI dw) hc cP1 (hY.c) dX11_together_12 q218 (by decide) (Or.inl rfl) (fun _ _ _ => rfl) ((hY.da _).trans edw) ?_
      refine wt_nicmp_gt (pc := 15) 106 (dw + 1) (dw) hc dX11_together_15 (by decide) (by omega) (by omega) (fun c_15 => ?_) (fun c_15 => ?_)
      · refine wt_iload_2 (pc := 106) hc dX11_together_106 ?_
        exact wt_iret (pc := 107) hc hok dX11_together_107 (rfl) (fun H hZ => ⟨rfl, hZ⟩)
      · omega
    | succ n ih =>
      intro m hm
      have ih' := ih (m + 1) (by omega)
      have tail : ∀ b : Bool, sp_tgK Q o (sp_wh Q o (nI m)) (nI m) ow = b → wt_V G X 92 [some (.ref (S.2.1 1)), some (.int (nI o)), some (.int (sp_tg Q o ow m)), some (.int (nI m)), none, some (.int (sp_i b)), none] [] (cz G (bB S D)) 0 0 := by
        intro b hb
        rw [sp_tg, hb] at ih'
        cases b with
        | true =>
          refine wt_iload_5 (pc := 92) hc dX11_together_92 ?_
          refine wt_if_eq (pc := 94) 100 hc dX11_together_94 (by decide) (fun z => absurd z (by decide)) (fun _ => ?_)
          refine wt_iinc_2 (pc := 97) hc dX11_together_97 rfl rfl ?_
          refine wt_iinc_3 (pc := 100) (v := nI (m + 1)) hc dX11_together_100 (nI_add m 1) rfl ?_
          refine wt_goto (pc := 103) 4 hc dX11_together_103 (by decide) ?_
          exact wt_drop ih' ⟨rfl, rfl, rfl, rfl, trivial⟩
        | false =>
          rw [show sp_tg Q o ow m + sp_i false = sp_tg Q o ow m from Int32.add_zero _] at ih'
          refine wt_iload_5 (pc := 92) hc dX11_together_92 ?_
          refine wt_if_eq (pc := 94) 100 hc dX11_together_94 (by decide) (fun _ => ?_) (fun z => absurd z (by decide))
          refine wt_iinc_3 (pc := 100) (v := nI (m + 1)) hc dX11_together_100 (nI_add m 1) rfl ?_
          refine wt_goto (pc := 103) 4 hc dX11_together_103 (by decide) ?_
          exact wt_drop ih' ⟨rfl, rfl, rfl, rfl, trivial⟩
      have inner : ∀ n' k : Nat, k + n' = ow → ¬ sp_wh Q o (nI m) = -1 → wt_V G X 32 [some (.ref (S.2.1 1)), some (.int (nI o)), some (.int (sp_tg Q o ow m)), some (.int (nI m)), some (.int (sp_wh Q o (nI m))), some (.int (sp_i (sp_tgK Q o (sp_wh Q o (nI m)) (nI m) k))), some (.int (nI k))] [] (cz G (bB S D)) 0 0 := by
        intro n'
        induction n' with
        | zero =>
          intro k hk hno
          obtain rfl : k = ow := by omega
          refine wt_iload_6 (pc := 32) hc dX11_together_32 ?_
          refine wt_aload_0 (pc := 34) hc dX11_together_34 ?_
          refine cv_getr (pc := 35) (b := q 0) 11 hc cP3 (hW.n) dX11_together_35 q497 (by decide) (Or.inl rfl) (fun _ _ _ => rfl) (hW.rx) ?_
          refine cv_getrN (pc := 38) (b := q 1) 0 hc cP0 (hY.kx) dX11_together_38 q241 (by decide) (Or.inl rfl) (fun _ _ _ => rfl) (hY.xc) ?_
          refine cv_getrN (pc := 41) (b := q 4) 2 hc cP1 (hY.c) dX11_together_41 q199 (by decide) (Or.inl rfl) (fun _ _ _ => rfl) (hY.co) ?_
          refine wt_gofn (wt_invF (pc := 44) 0 hc cP11 (hY.os) (ct_sL (hY.ol _)) dX11_together_44 rfl q528 q318 q320 q115 q322 (hX.F_J2_size) (by decide +kernel) rfl (by first | decide | omega) (by decide) (Nat.le_of_ble_eq_true rfl) rfl) ?_
          refine wt_nicmp_ge (pc := 49) 92 (k) (k) hc dX11_together_49 (by decide) (by omega) (by omega) (fun c_49 => ?_) (fun c_49 => ?_)
          · exact wt_drop (tail _ rfl) ⟨rfl, rfl, rfl, rfl, rfl, trivial⟩
          · omega
        | succ n' ih2 =>
          intro k hk hno
          have ih3 := ih2 (k + 1) (by omega) hno
          rw [sp_tgK] at ih3
          refine wt_iload_6 (pc := 32) hc dX11_together_32 ?_
          refine wt_aload_0 (pc := 34) hc dX11_together_34 ?_
          refine cv_getr (pc := 35) (b := q 0) 11 hc cP3 (hW.n) dX11_together_35 q497 (by decide) (Or.inl rfl) (fun _ _ _ => rfl) (hW.rx) ?_
          refine cv_getrN (pc := 38) (b := q 1) 0 hc cP0 (hY.kx) dX11_together_38 q241 (by decide) (Or.inl rfl) (fun _ _ _ => rfl) (hY.xc) ?_
          refine cv_getrN (pc := 41) (b := q 4) 2 hc cP1 (hY.c) dX11_together_41 q199 (by decide) (Or.inl rfl) (fun _ _ _ => rfl) (hY.co) ?_
          refine wt_gofn (wt_invF (pc := 44) 0 hc cP11 (hY.os) (ct_sL (hY.ol _)) dX11_together_44 rfl q528 q318 q320 q115 q322 (hX.F_J2_size) (by decide +kernel) rfl (by first | decide | omega) (by decide) (Nat.le_of_ble_eq_true rfl) rfl) ?_
          refine wt_nicmp_ge (pc := 49) 92 (k) (ow) hc dX11_together_49 (by decide) (by omega) (by omega) (fun c_49 => ?_) (fun c_49 => ?_)
          · omega
          · refine wt_iload_4 (pc := 52) hc dX11_together_52 ?_
            refine wt_iconst (pc := 54) (v := (-1 : Int32)) hc dX11_together_54 (by decide) ?_
            refine wt_icmp_eq (pc := 55) 92 hc dX11_together_55 (by decide) (fun c_55 => ?_) (fun c_55 => ?_)
            · exact absurd c_55 hno
            · refine wt_iload_5 (pc := 58) hc dX11_together_58 ?_
              refine wt_iload_6 (pc := 60) hc dX11_together_60 ?_
              refine wt_iload_1 (pc := 62) hc dX11_together_62 ?_
              refine wt_nicmp_eq (pc := 63) 82 (k) (o) hc dX11_together_63 (by decide) (by omega) (by omega) (fun c_63 => ?_) (fun c_63 => ?_)
              · rw [show (decide (k ≠ o) && (decide (sp_wh Q o (nI m) ≠ -1) && decide (sp_wh Q k (nI m) = sp_wh Q o (nI m)))) = false from by rw [decide_eq_false (fun z => z c_63)]; rfl] at ih3
                refine wt_iconst (pc := 82) (v := nI 0) hc dX11_together_82 (by decide) ?_
                refine wt_ior (pc := 83) hc dX11_together_83 ?_
                refine wt_topi (cf_or _ false) ?_
                refine wt_istore_5 (pc := 84) hc dX11_together_84 rfl ?_
                refine wt_iinc_6 (pc := 86) (v := nI (k + 1)) hc dX11_together_86 (nI_add k 1) rfl ?_
                refine wt_goto (pc := 89) 32 hc dX11_together_89 (by decide) ?_
                exact ih3
              · refine wt_aload_0 (pc := 66) hc dX11_together_66 ?_
                refine wt_iload_6 (pc := 67) hc dX11_together_67 ?_
                refine wt_iload_3 (pc := 69) hc dX11_together_69 ?_
                refine wt_gofn (wt_invV (pc := 70) 2 hc (ct_X11_whereQ hX k (nI m) hE hN hW hY (by omega) hR) dX11_together_70 rfl (fun s H => cz_recv cP3 (hW.n) s H) q1351 q692 q693 q143 q694 (by decide +kernel) rfl (by first | decide | omega) (by decide) (Nat.le_of_ble_eq_true rfl) rfl) ?_
                refine wt_iload_4 (pc := 73) hc dX11_together_73 ?_
                refine wt_icmp_ne (pc := 75) 82 hc dX11_together_75 (by decide) (fun c_75 => ?_) (fun c_75 => ?_)
                · refine wt_iconst (pc := 82) (v := nI 0) hc dX11_together_82 (by decide) ?_
                  refine wt_ior (pc := 83) hc dX11_together_83 ?_
                  first | refine wt_topi (cf_or _ true) ?_ | refine wt_topi (cf_or _ false) ?_
                  refine wt_istore_5 (pc := 84) hc dX11_together_84 rfl ?_
                  refine wt_iinc_6 (pc := 86) (v := nI (k + 1)) hc dX11_together_86 (nI_add k 1) rfl ?_
                  refine wt_goto (pc := 89) 32 hc dX11_together_89 (by decide) ?_
                  first | (rw [show (decide (k ≠ o) && (decide (sp_wh Q o (nI m) ≠ -1) && decide (sp_wh Q k (nI m) = sp_wh Q o (nI m)))) = true from by rw [decide_eq_true c_63, decide_eq_true hno, decide_eq_true c_75]; rfl] at ih3; exact ih3) | (rw [show (decide (k ≠ o) && (decide (sp_wh Q o (nI m) ≠ -1) && decide (sp_wh Q k (nI m) = sp_wh Q o (nI m)))) = false from by rw [decide_eq_false c_75, Bool.and_false, Bool.and_false]] at ih3; exact ih3)
                · refine wt_iconst (pc := 78) (v := nI 1) hc dX11_together_78 (by decide) ?_
                  refine wt_goto (pc := 79) 83 hc dX11_together_79 (by decide) ?_
                  refine wt_ior (pc := 83) hc dX11_together_83 ?_
                  first | refine wt_topi (cf_or _ true) ?_ | refine wt_topi (cf_or _ false) ?_
                  refine wt_istore_5 (pc := 84) hc dX11_together_84 rfl ?_
                  refine wt_iinc_6 (pc := 86) (v := nI (k + 1)) hc dX11_together_86 (nI_add k 1) rfl ?_
                  refine wt_goto (pc := 89) 32 hc dX11_together_89 (by decide) ?_
                  first | (rw [show (decide (k ≠ o) && (decide (sp_wh Q o (nI m) ≠ -1) && decide (sp_wh Q k (nI m) = sp_wh Q o (nI m)))) = true from by rw [decide_eq_true c_63, decide_eq_true hno, decide_eq_true c_75]; rfl] at ih3; exact ih3) | (rw [show (decide (k ≠ o) && (decide (sp_wh Q o (nI m) ≠ -1) && decide (sp_wh Q k (nI m) = sp_wh Q o (nI m)))) = false from by rw [decide_eq_false c_75, Bool.and_false, Bool.and_false]] at ih3; exact ih3)
      refine wt_iload_3 (pc := 4) hc dX11_together_4 ?_
      refine wt_aload_0 (pc := 5) hc dX11_together_5 ?_
      refine cv_getr (pc := 6) (b := q 0) 11 hc cP3 (hW.n) dX11_together_6 q497 (by decide) (Or.inl rfl) (fun _ _ _ => rfl) (hW.rx) ?_
      refine cv_getrN (pc := 9) (b := q 1) 0 hc cP0 (hY.kx) dX11_together_9 q241 (by decide) (Or.inl rfl) (fun _ _ _ => rfl) (hY.xc) ?_
      refine cv_getiN (pc := 12) 7 (nI dw) hc cP1 (hY.c) dX11_together_12 q218 (by decide) (Or.inl rfl) (fun _ _ _ => rfl) ((hY.da _).trans edw) ?_
      refine wt_nicmp_gt (pc := 15) 106 (m) (dw) hc dX11_together_15 (by decide) (by omega) (by omega) (fun c_15 => ?_) (fun c_15 => ?_)
      · omega
      · refine wt_aload_0 (pc := 18) hc dX11_together_18 ?_
        refine wt_iload_1 (pc := 19) hc dX11_together_19 ?_
        refine wt_iload_3 (pc := 20) hc dX11_together_20 ?_
        refine wt_gofn (wt_invV (pc := 21) 2 hc (ct_X11_whereQ hX o (nI m) hE hN hW hY ho hR) dX11_together_21 rfl (fun s H => cz_recv cP3 (hW.n) s H) q1351 q692 q693 q143 q694 (by decide +kernel) rfl (by first | decide | omega) (by decide) (Nat.le_of_ble_eq_true rfl) rfl) ?_
        refine wt_istore_4 (pc := 24) hc dX11_together_24 rfl ?_
        refine wt_iconst (pc := 26) (v := nI 0) hc dX11_together_26 (by decide) ?_
        refine wt_istore_5 (pc := 27) hc dX11_together_27 rfl ?_
        refine wt_iconst (pc := 29) (v := nI 0) hc dX11_together_29 (by decide) ?_
        refine wt_istore_6 (pc := 30) hc dX11_together_30 rfl ?_
        by_cases hno : sp_wh Q o (nI m) = -1
        · have ht := tail false (by rw [hno]; exact cf_tgF ow)
          refine wt_iload_6 (pc := 32) hc dX11_together_32 ?_
          refine wt_aload_0 (pc := 34) hc dX11_together_34 ?_
          refine cv_getr (pc := 35) (b := q 0) 11 hc cP3 (hW.n) dX11_together_35 q497 (by decide) (Or.inl rfl) (fun _ _ _ => rfl) (hW.rx) ?_
          refine cv_getrN (pc := 38) (b := q 1) 0 hc cP0 (hY.kx) dX11_together_38 q241 (by decide) (Or.inl rfl) (fun _ _ _ => rfl) (hY.xc) ?_
          refine cv_getrN (pc := 41) (b := q 4) 2 hc cP1 (hY.c) dX11_together_41 q199 (by decide) (Or.inl rfl) (fun _ _ _ => rfl) (hY.co) ?_
          refine wt_gofn (wt_invF (pc := 44) 0 hc cP11 (hY.os) (ct_sL (hY.ol _)) dX11_together_44 rfl q528 q318 q320 q115 q322 (hX.F_J2_size) (by decide +kernel) rfl (by first | decide | omega) (by decide) (Nat.le_of_ble_eq_true rfl) rfl) ?_
          refine wt_nicmp_ge (pc := 49) 92 (0) (ow) hc dX11_together_49 (by decide) (by omega) (by omega) (fun c_49 => ?_) (fun c_49 => ?_)
          · exact wt_drop ht ⟨rfl, rfl, rfl, rfl, rfl, trivial⟩
          · refine wt_iload_4 (pc := 52) hc dX11_together_52 ?_
            refine wt_iconst (pc := 54) (v := (-1 : Int32)) hc dX11_together_54 (by decide) ?_
            refine wt_icmp_eq (pc := 55) 92 hc dX11_together_55 (by decide) (fun c_55 => ?_) (fun c_55 => ?_)
            · exact wt_drop ht ⟨rfl, rfl, rfl, rfl, rfl, trivial⟩
            · exact absurd hno c_55
        · exact inner ow 0 (by omega) hno
  refine wt_iconst (pc := 0) (v := nI 0) hc dX11_together_0 (by decide) ?_
  refine wt_istore_2 (pc := 1) hc dX11_together_1 rfl ?_
  refine wt_iconst (pc := 2) (v := nI 0) hc dX11_together_2 (by decide) ?_
  refine wt_istore_3 (pc := 3) hc dX11_together_3 rfl ?_
  exact outer (dw + 1) 0 (by omega)
theorem ct_X11_last (hX : cX G) (p : Nat) (hE : bE G S NB) (hN : 19 ≤ NB) (hW : cW S (q 0)) (hY : cYS S M q ro ow ri ru) (hp : p < ri) (hR : cRq D M Q ow) : wt_Ct l G yX11_last cX11_last 7 (some .int) 8 0 0 [.ref (S.2.1 1), .ref (q (30 + p))] (cz G (bB S D)) (wt_fn (if nI 1000000 ≤ sp_soon Q p then -1 else if M 11 (4 * p) = M 11 (4 * p + 1) then -1 else sp_lO (sp_rides Q p) (M 11 (4 * p + 1)) (sp_soon Q p) ow 0) (fun H => ∃ D', (∀ k, k ≠ 18 → D' k = D k) ∧ cz G (bB S D') H)) := by
  have how := hY.b5
  have hro := hY.b10
  have hri := hY.b8
  have hD : ∀ k, k ≠ 18 → sp_fill D 18 10 (fun j => sp_rides Q p 60 (0 + j)) k = D k := fun k hk => sp_fill_row hk
  have hR' : cRq (sp_fill D 18 10 (fun j => sp_rides Q p 60 (0 + j))) M (sp_rides Q p) ow := (hR.q (fun k hk => sp_rides_row (by omega))).d how (fun k hk => hD k (by omega))
  obtain ⟨q9, q10, q11, q47, q0, hout⟩ := hR'
  obtain ⟨-, b, hb, eb⟩ := hY.rid p hp
  by_cases hv1 : nI 1000000 ≤ sp_soon Q p
  · rw [if_pos hv1]
    refine wt_enter [some (.ref (S.2.1 1)), some (.ref (q (30 + p))), none, none, none, none, none] (by decide +kernel) rfl (Nat.le_of_ble_eq_true rfl) (fun X hc hok => ?_)
    refine wt_aload_0 (pc := 0) hc dX11_last_0 ?_
    refine wt_aload_1 (pc := 1) hc dX11_last_1 ?_
    refine wt_gofn (wt_invV (pc := 2) 1 hc (ct_X11_home hX p hE hN hW hY hp hR) dX11_last_2 rfl (fun s H => cz_recv cP3 (hW.n) s H) q678 q648 q649 q143 q650 (by decide +kernel) rfl (by first | decide | omega) (by decide) (Nat.le_of_ble_eq_true rfl) rfl) ?_
    refine wt_istore_2 (pc := 5) hc dX11_last_5 rfl ?_
    refine wt_iconst (pc := 6) (v := nI 0) hc dX11_last_6 (by decide) ?_
    refine wt_istore_3 (pc := 7) hc dX11_last_7 rfl ?_
    refine wt_iload_3 (pc := 8) hc dX11_last_8 ?_
    refine wt_aload_0 (pc := 9) hc dX11_last_9 ?_
    refine cv_getr (pc := 10) (b := q 0) 11 hc cP3 (hW.n) dX11_last_10 q497 (by decide) (Or.inl rfl) (fun _ _ _ => rfl) (hW.rx) ?_
    refine cv_getrN (pc := 13) (b := q 1) 0 hc cP0 (hY.kx) dX11_last_13 q241 (by decide) (Or.inl rfl) (fun _ _ _ => rfl) (hY.xc) ?_
    refine cv_getrN (pc := 16) (b := q 4) 2 hc cP1 (hY.c) dX11_last_16 q199 (by decide) (Or.inl rfl) (fun _ _ _ => rfl) (hY.co) ?_
    refine wt_gofn (wt_invF (pc := 19) 0 hc cP11 (hY.os) (ct_sL (hY.ol _)) dX11_last_19 rfl q528 q318 q320 q115 q322 (hX.F_J2_size) (by decide +kernel) rfl (by first | decide | omega) (by decide) (Nat.le_of_ble_eq_true rfl) rfl) ?_
    refine wt_nicmp_ge (pc := 24) 166 (0) (ow) hc dX11_last_24 (by decide) (by omega) (by omega) (fun c_24 => ?_) (fun c_24 => ?_)
    · refine wt_iconst (pc := 166) (v := (-1 : Int32)) hc dX11_last_166 (by decide) ?_
      exact wt_iret (pc := 167) hc hok dX11_last_167 (rfl) (fun H hZ => ⟨rfl, _, hD, hZ⟩)
    · refine wt_iload_2 (pc := 27) hc dX11_last_27 ?_
      refine wt_ldc (pc := 28) (v := nI 1000000) hc dX11_last_28 q659 ?_
      refine wt_icmp_ge (pc := 30) 166 hc dX11_last_30 (by decide) (fun c_30 => ?_) (fun c_30 => ?_)
      · refine wt_iconst (pc := 166) (v := (-1 : Int32)) hc dX11_last_166 (by decide) ?_
        exact wt_iret (pc := 167) hc hok dX11_last_167 (rfl) (fun H hZ => ⟨rfl, _, hD, hZ⟩)
      · exact absurd hv1 c_30
  rw [if_neg hv1]
  by_cases hv2 : M 11 (4 * p) = M 11 (4 * p + 1)
  · rw [if_pos hv2]
    refine wt_enter [some (.ref (S.2.1 1)), some (.ref (q (30 + p))), none, none, none, none, none] (by decide +kernel) rfl (Nat.le_of_ble_eq_true rfl) (fun X hc hok => ?_)
    refine wt_aload_0 (pc := 0) hc dX11_last_0 ?_
    refine wt_aload_1 (pc := 1) hc dX11_last_1 ?_
    refine wt_gofn (wt_invV (pc := 2) 1 hc (ct_X11_home hX p hE hN hW hY hp hR) dX11_last_2 rfl (fun s H => cz_recv cP3 (hW.n) s H) q678 q648 q649 q143 q650 (by decide +kernel) rfl (by first | decide | omega) (by decide) (Nat.le_of_ble_eq_true rfl) rfl) ?_
    refine wt_istore_2 (pc := 5) hc dX11_last_5 rfl ?_
    refine wt_iconst (pc := 6) (v := nI 0) hc dX11_last_6 (by decide) ?_
    refine wt_istore_3 (pc := 7) hc dX11_last_7 rfl ?_
    refine wt_iload_3 (pc := 8) hc dX11_last_8 ?_
    refine wt_aload_0 (pc := 9) hc dX11_last_9 ?_
    refine cv_getr (pc := 10) (b := q 0) 11 hc cP3 (hW.n) dX11_last_10 q497 (by decide) (Or.inl rfl) (fun _ _ _ => rfl) (hW.rx) ?_
    refine cv_getrN (pc := 13) (b := q 1) 0 hc cP0 (hY.kx) dX11_last_13 q241 (by decide) (Or.inl rfl) (fun _ _ _ => rfl) (hY.xc) ?_
    refine cv_getrN (pc := 16) (b := q 4) 2 hc cP1 (hY.c) dX11_last_16 q199 (by decide) (Or.inl rfl) (fun _ _ _ => rfl) (hY.co) ?_
    refine wt_gofn (wt_invF (pc := 19) 0 hc cP11 (hY.os) (ct_sL (hY.ol _)) dX11_last_19 rfl q528 q318 q320 q115 q322 (hX.F_J2_size) (by decide +kernel) rfl (by first | decide | omega) (by decide) (Nat.le_of_ble_eq_true rfl) rfl) ?_
    refine wt_nicmp_ge (pc := 24) 166 (0) (ow) hc dX11_last_24 (by decide) (by omega) (by omega) (fun c_24 => ?_) (fun c_24 => ?_)
    · refine wt_iconst (pc := 166) (v := (-1 : Int32)) hc dX11_last_166 (by decide) ?_
      exact wt_iret (pc := 167) hc hok dX11_last_167 (rfl) (fun H hZ => ⟨rfl, _, hD, hZ⟩)
    · refine wt_iload_2 (pc := 27) hc dX11_last_27 ?_
      refine wt_ldc (pc := 28) (v := nI 1000000) hc dX11_last_28 q659 ?_
      refine wt_icmp_ge (pc := 30) 166 hc dX11_last_30 (by decide) (fun c_30 => ?_) (fun c_30 => ?_)
      · refine wt_iconst (pc := 166) (v := (-1 : Int32)) hc dX11_last_166 (by decide) ?_
        exact wt_iret (pc := 167) hc hok dX11_last_167 (rfl) (fun H hZ => ⟨rfl, _, hD, hZ⟩)
      · refine wt_aload_1 (pc := 33) hc dX11_last_33 ?_
        refine wt_iconst (pc := 34) (v := nI 0) hc dX11_last_34 (by decide) ?_
        refine cv_iald (pc := 35) (0) (M 11 (4 * p)) hc (hY.rk p (by omega)) dX11_last_35 (rfl) (by omega) (by omega) (hY.rif _ p 0 hp (by omega)) ?_
        refine wt_aload_1 (pc := 36) hc dX11_last_36 ?_
        refine wt_iconst (pc := 37) (v := nI 1) hc dX11_last_37 (by decide) ?_
        refine cv_iald (pc := 38) (1) (M 11 (4 * p + 1)) hc (hY.rk p (by omega)) dX11_last_38 (rfl) (by omega) (by omega) (hY.rif _ p 1 (by omega) (by omega)) ?_
        refine wt_icmp_eq (pc := 39) 166 hc dX11_last_39 (by decide) (fun c_39 => ?_) (fun c_39 => ?_)
        · refine wt_iconst (pc := 166) (v := (-1 : Int32)) hc dX11_last_166 (by decide) ?_
          exact wt_iret (pc := 167) hc hok dX11_last_167 (rfl) (fun H hZ => ⟨rfl, _, hD, hZ⟩)
        · exact absurd hv2 c_39
  rw [if_neg hv2]
  refine wt_enter [some (.ref (S.2.1 1)), some (.ref (q (30 + p))), none, none, none, none, none] (by decide +kernel) rfl (Nat.le_of_ble_eq_true rfl) (fun X hc hok => ?_)
  have inner : ∀ (o wl n i : Nat) (on : Bool), o < ow → wl ≤ 8 → M 9 o = nI wl → i + n = wl → ¬ (sp_rides Q p) 47 3 >>> (nI o &&& 31) &&& 1 = 1 → (sp_lI (sp_rides Q p 60) (sp_rides Q p 54) (sp_rides Q p 55) (sp_rides Q p 10) (M 11 (4 * p + 1)) (sp_soon Q p) o n i on = true → nI o = sp_lO (sp_rides Q p) (M 11 (4 * p + 1)) (sp_soon Q p) ow 0) → (sp_lI (sp_rides Q p 60) (sp_rides Q p 54) (sp_rides Q p 55) (sp_rides Q p 10) (M 11 (4 * p + 1)) (sp_soon Q p) o n i on = false → wt_V G X 160 [some (.ref (S.2.1 1)), some (.ref (q (30 + p))), some (.int (sp_soon Q p)), some (.int (nI o)), none, none, none] [] (cz G (bB S (sp_fill D 18 10 (fun j => sp_rides Q p 60 (0 + j))))) 0 0) → wt_V G X 69 [some (.ref (S.2.1 1)), some (.ref (q (30 + p))), some (.int (sp_soon Q p)), some (.int (nI o)), some (.ref (q (20 + o))), some (.int (sp_i on)), some (.int (nI i))] [] (cz G (bB S (sp_fill D 18 10 (fun j => sp_rides Q p 60 (0 + j))))) 0 0 := by
    intro o wl n
    induction n with
    | zero =>
      intro i on ho hwl e9 hi hnb ht hf
      refine wt_iload_6 (pc := 69) hc dX11_last_69 ?_
      refine wt_aload_4 (pc := 71) hc dX11_last_71 ?_
      refine wt_gofn (wt_invV (pc := 73) 0 hc (ct_X6_size hX (q (20 + o)) _ _ wl _ (hY.wo o (by omega) e9 hwl _)) dX11_last_73 rfl (fun s H => cz_recv cP2 (hY.ok o (by omega)) s H) q543 q544 q545 q129 q546 (by decide +kernel) rfl (by first | decide | omega) (by decide) (Nat.le_of_ble_eq_true rfl) rfl) ?_
      refine wt_nicmp_ge (pc := 76) 160 (i) (wl) hc dX11_last_76 (by decide) (by omega) (by omega) (fun c_76 => ?_) (fun c_76 => ?_)
      · exact wt_drop (hf rfl) ⟨rfl, rfl, rfl, rfl, trivial⟩
      · omega
    | succ n ih =>
      intro i on ho hwl e9 hi hnb ht hf
      rw [sp_lI] at ht hf
      obtain ⟨wl', x1, x2, x3⟩ := hY.way o ho
      have ew : wl' = wl := (nI_eq (by omega) (by omega)).mp (x2.symm.trans e9)
      rw [ew] at x3
      obtain ⟨r, hr, er⟩ := x3 i (by omega)
      obtain ⟨g1, g2⟩ := hout o ho hnb i (by rw [q9, e9, nn_nI (by omega)]; omega)
      have e10 : sp_rides Q p 10 (8 * o + i) = nI r := by rw [q10]; exact er
      have hs60 : sp_fill D 18 10 (fun j => sp_rides Q p 60 (0 + j)) 18 r = sp_rides Q p 60 r := (if_pos ⟨rfl, by omega⟩ : _ = sp_rides Q p 60 (0 + r)).trans (by rw [Nat.zero_add])
      rw [e10, nn_nI (by omega)] at ht hf
      refine wt_iload_6 (pc := 69) hc dX11_last_69 ?_
      refine wt_aload_4 (pc := 71) hc dX11_last_71 ?_
      refine wt_gofn (wt_invV (pc := 73) 0 hc (ct_X6_size hX (q (20 + o)) _ _ wl _ (hY.wo o (by omega) e9 hwl _)) dX11_last_73 rfl (fun s H => cz_recv cP2 (hY.ok o (by omega)) s H) q543 q544 q545 q129 q546 (by decide +kernel) rfl (by first | decide | omega) (by decide) (Nat.le_of_ble_eq_true rfl) rfl) ?_
      refine wt_nicmp_ge (pc := 76) 160 (i) (wl) hc dX11_last_76 (by decide) (by omega) (by omega) (fun c_76 => ?_) (fun c_76 => ?_)
      · omega
      · refine wt_aload_0 (pc := 79) hc dX11_last_79 ?_
        refine wt_iload_3 (pc := 80) hc dX11_last_80 ?_
        refine wt_gofn (wt_invV (pc := 81) 1 hc (ct_X11_isOut (o) hE (by omega) hW) dX11_last_81 rfl (fun s H => cz_recv cP3 (hW.n) s H) q536 q537 q538 q143 q539 (by decide +kernel) rfl (by first | decide | omega) (by decide) (Nat.le_of_ble_eq_true rfl) rfl) ?_
        refine wt_if_eq (pc := 84) 160 hc dX11_last_84 (by decide) (fun c_84 => ?_) (fun c_84 => ?_)
        · exact absurd (sp_b_0.mp c_84) (fun z => z (by rw [hD 1 (by decide), ← hR.2.2.2.1, ← sp_rides_row (M := Q) (p := p) (k := 47) (by decide)]; exact hnb))
        · have go : ∀ b : Bool, (decide (sp_rides Q p 60 r ≤ sp_rides Q p 55 (8 * o + i))) = b → ¬ (on = true ∧ nI r = M 11 (4 * p + 1) ∧ sp_rides Q p 54 (8 * o + i) = sp_soon Q p) → wt_V G X 69 [some (.ref (S.2.1 1)), some (.ref (q (30 + p))), some (.int (sp_soon Q p)), some (.int (nI o)), some (.ref (q (20 + o))), some (.int (sp_i (on || b))), some (.int (nI (i + 1)))] [] (cz G (bB S (sp_fill D 18 10 (fun j => sp_rides Q p 60 (0 + j))))) 0 0 := by
            intro b hb hno
            rw [if_neg hno, hb] at ht hf
            exact ih (i + 1) (on || b) ho hwl e9 (by omega) hnb ht hf
          cases on with
          | false =>
            refine wt_iload_5 (pc := 87) hc dX11_last_87 ?_
            refine wt_if_eq (pc := 89) 120 hc dX11_last_89 (by decide) (fun _ => ?_) (fun z => absurd z (by decide))
            refine wt_iload_5 (pc := 120) hc dX11_last_120 ?_
            refine wt_aload_0 (pc := 122) hc dX11_last_122 ?_
            refine cv_getr (pc := 123) (b := S.2.1 18) 10 hc cP3 (hW.n) dX11_last_123 q495 (by decide) (Or.inl rfl) (fun _ _ _ => rfl) (hW.rsoon) ?_
            refine wt_aload_4 (pc := 126) hc dX11_last_126 ?_
            refine wt_iload_6 (pc := 128) hc dX11_last_128 ?_
            refine wt_gofn (wt_invV (pc := 130) 1 hc (ct_X6_at hX (q (20 + o)) (i) _ _ wl _ (hY.wo o (by omega) e9 hwl _) (by omega)) dX11_last_130 rfl (fun s H => cz_recv cP2 (hY.ok o (by omega)) s H) q557 q558 q559 q129 q560 (by decide +kernel) rfl (by first | decide | omega) (by decide) (Nat.le_of_ble_eq_true rfl) rfl) ?_
            refine wt_topi (z := nI r) (er) ?_
            refine bz_iald (pc := 133) 18 (r) (sp_rides Q p 60 r) hE (by omega) hc (hW.soon) dX11_last_133 (rfl) (by omega) (by omega) (hs60) ?_
            refine wt_aload_0 (pc := 134) hc dX11_last_134 ?_
            refine cv_getr (pc := 135) (b := S.2.1 12) 9 hc cP3 (hW.n) dX11_last_135 q492 (by decide) (Or.inl rfl) (fun _ _ _ => rfl) (hW.rleaves) ?_
            refine wt_iload_3 (pc := 138) hc dX11_last_138 ?_
            refine cv_aaldr (pc := 139) (b := S.2.1 (13 + o)) (o) hc (hW.leaves) (by decide) dX11_last_139 (rfl) (by omega) (by omega) (hW.lr o (by omega)) ?_
            refine wt_iload_6 (pc := 140) hc dX11_last_140 ?_
            refine bz_iald (pc := 142) ((13 + o)) (i) (sp_rides Q p 55 (8 * o + i)) hE (by omega) hc (hW.lk o (by omega)) dX11_last_142 (rfl) (by omega) (by omega) (g2) ?_
            refine wt_icmp_gt (pc := 143) 150 hc dX11_last_143 (by decide) (fun c_143 => ?_) (fun c_143 => ?_)
            · refine wt_iconst (pc := 150) (v := nI 0) hc dX11_last_150 (by decide) ?_
              refine wt_ior (pc := 151) hc dX11_last_151 ?_
              first | refine wt_topi (cf_or false true) ?_ | refine wt_topi (cf_or false false) ?_
              refine wt_istore_5 (pc := 152) hc dX11_last_152 rfl ?_
              refine wt_iinc_6 (pc := 154) (v := nI (i + 1)) hc dX11_last_154 (nI_add i 1) rfl ?_
              refine wt_goto (pc := 157) 69 hc dX11_last_157 (by decide) ?_
              first | exact go true (decide_eq_true (Int32.not_lt.mp c_143)) (fun z => by cases z.1) | exact go false (decide_eq_false (Int32.not_le.mpr c_143)) (fun z => by cases z.1)
            · refine wt_iconst (pc := 146) (v := nI 1) hc dX11_last_146 (by decide) ?_
              refine wt_goto (pc := 147) 151 hc dX11_last_147 (by decide) ?_
              refine wt_ior (pc := 151) hc dX11_last_151 ?_
              first | refine wt_topi (cf_or false true) ?_ | refine wt_topi (cf_or false false) ?_
              refine wt_istore_5 (pc := 152) hc dX11_last_152 rfl ?_
              refine wt_iinc_6 (pc := 154) (v := nI (i + 1)) hc dX11_last_154 (nI_add i 1) rfl ?_
              refine wt_goto (pc := 157) 69 hc dX11_last_157 (by decide) ?_
              first | exact go true (decide_eq_true (Int32.not_lt.mp c_143)) (fun z => by cases z.1) | exact go false (decide_eq_false (Int32.not_le.mpr c_143)) (fun z => by cases z.1)
          | true =>
            refine wt_iload_5 (pc := 87) hc dX11_last_87 ?_
            refine wt_if_eq (pc := 89) 120 hc dX11_last_89 (by decide) (fun z => absurd z (by decide)) (fun _ => ?_)
            refine wt_aload_4 (pc := 92) hc dX11_last_92 ?_
            refine wt_iload_6 (pc := 94) hc dX11_last_94 ?_
            refine wt_gofn (wt_invV (pc := 96) 1 hc (ct_X6_at hX (q (20 + o)) (i) _ _ wl _ (hY.wo o (by omega) e9 hwl _) (by omega)) dX11_last_96 rfl (fun s H => cz_recv cP2 (hY.ok o (by omega)) s H) q557 q558 q559 q129 q560 (by decide +kernel) rfl (by first | decide | omega) (by decide) (Nat.le_of_ble_eq_true rfl) rfl) ?_
            refine wt_topi (z := nI r) (er) ?_
            refine wt_aload_1 (pc := 99) hc dX11_last_99 ?_
            refine wt_iconst (pc := 100) (v := nI 1) hc dX11_last_100 (by decide) ?_
            refine cv_iald (pc := 101) (1) (M 11 (4 * p + 1)) hc (hY.rk p (by omega)) dX11_last_101 (rfl) (by omega) (by omega) (hY.rif _ p 1 hp (by omega)) ?_
            refine wt_icmp_ne (pc := 102) 120 hc dX11_last_102 (by decide) (fun c_102 => ?_) (fun c_102 => ?_)
            · refine wt_iload_5 (pc := 120) hc dX11_last_120 ?_
              refine wt_aload_0 (pc := 122) hc dX11_last_122 ?_
              refine cv_getr (pc := 123) (b := S.2.1 18) 10 hc cP3 (hW.n) dX11_last_123 q495 (by decide) (Or.inl rfl) (fun _ _ _ => rfl) (hW.rsoon) ?_
              refine wt_aload_4 (pc := 126) hc dX11_last_126 ?_
              refine wt_iload_6 (pc := 128) hc dX11_last_128 ?_
              refine wt_gofn (wt_invV (pc := 130) 1 hc (ct_X6_at hX (q (20 + o)) (i) _ _ wl _ (hY.wo o (by omega) e9 hwl _) (by omega)) dX11_last_130 rfl (fun s H => cz_recv cP2 (hY.ok o (by omega)) s H) q557 q558 q559 q129 q560 (by decide +kernel) rfl (by first | decide | omega) (by decide) (Nat.le_of_ble_eq_true rfl) rfl) ?_
              refine wt_topi (z := nI r) (er) ?_
              refine bz_iald (pc := 133) 18 (r) (sp_rides Q p 60 r) hE (by omega) hc (hW.soon) dX11_last_133 (rfl) (by omega) (by omega) (hs60) ?_
              refine wt_aload_0 (pc := 134) hc dX11_last_134 ?_
              refine cv_getr (pc := 135) (b := S.2.1 12) 9 hc cP3 (hW.n) dX11_last_135 q492 (by decide) (Or.inl rfl) (fun _ _ _ => rfl) (hW.rleaves) ?_
              refine wt_iload_3 (pc := 138) hc dX11_last_138 ?_
              refine cv_aaldr (pc := 139) (b := S.2.1 (13 + o)) (o) hc (hW.leaves) (by decide) dX11_last_139 (rfl) (by omega) (by omega) (hW.lr o (by omega)) ?_
              refine wt_iload_6 (pc := 140) hc dX11_last_140 ?_
              refine bz_iald (pc := 142) ((13 + o)) (i) (sp_rides Q p 55 (8 * o + i)) hE (by omega) hc (hW.lk o (by omega)) dX11_last_142 (rfl) (by omega) (by omega) (g2) ?_
              refine wt_icmp_gt (pc := 143) 150 hc dX11_last_143 (by decide) (fun c_143 => ?_) (fun c_143 => ?_)
              · refine wt_iconst (pc := 150) (v := nI 0) hc dX11_last_150 (by decide) ?_
                refine wt_ior (pc := 151) hc dX11_last_151 ?_
                first | refine wt_topi (cf_or true true) ?_ | refine wt_topi (cf_or true false) ?_
                refine wt_istore_5 (pc := 152) hc dX11_last_152 rfl ?_
                refine wt_iinc_6 (pc := 154) (v := nI (i + 1)) hc dX11_last_154 (nI_add i 1) rfl ?_
                refine wt_goto (pc := 157) 69 hc dX11_last_157 (by decide) ?_
                first | exact go true (decide_eq_true (Int32.not_lt.mp c_143)) (fun z => c_102 z.2.1) | exact go false (decide_eq_false (Int32.not_le.mpr c_143)) (fun z => c_102 z.2.1) | exact go true (decide_eq_true (Int32.not_lt.mp c_143)) (fun z => c_115 z.2.2) | exact go false (decide_eq_false (Int32.not_le.mpr c_143)) (fun z => c_115 z.2.2)
              · refine wt_iconst (pc := 146) (v := nI 1) hc dX11_last_146 (by decide) ?_
                refine wt_goto (pc := 147) 151 hc dX11_last_147 (by decide) ?_
                refine wt_ior (pc := 151) hc dX11_last_151 ?_
                first | refine wt_topi (cf_or true true) ?_ | refine wt_topi (cf_or true false) ?_
                refine wt_istore_5 (pc := 152) hc dX11_last_152 rfl ?_
                refine wt_iinc_6 (pc := 154) (v := nI (i + 1)) hc dX11_last_154 (nI_add i 1) rfl ?_
                refine wt_goto (pc := 157) 69 hc dX11_last_157 (by decide) ?_
                first | exact go true (decide_eq_true (Int32.not_lt.mp c_143)) (fun z => c_102 z.2.1) | exact go false (decide_eq_false (Int32.not_le.mpr c_143)) (fun z => c_102 z.2.1) | exact go true (decide_eq_true (Int32.not_lt.mp c_143)) (fun z => c_115 z.2.2) | exact go false (decide_eq_false (Int32.not_le.mpr c_143)) (fun z => c_115 z.2.2)
            · refine wt_aload_0 (pc := 105) hc dX11_last_105 ?_
              refine cv_getr (pc := 106) (b := S.2.1 6) 8 hc cP3 (hW.n) dX11_last_106 q489 (by decide) (Or.inl rfl) (fun _ _ _ => rfl) (hW.rcomes) ?_
              refine wt_iload_3 (pc := 109) hc dX11_last_109 ?_
              refine cv_aaldr (pc := 110) (b := S.2.1 (7 + o)) (o) hc (hW.comes) (by decide) dX11_last_110 (rfl) (by omega) (by omega) (hW.cr o (by omega)) ?_
              refine wt_iload_6 (pc := 111) hc dX11_last_111 ?_
              refine bz_iald (pc := 113) ((7 + o)) (i) (sp_rides Q p 54 (8 * o + i)) hE (by omega) hc (hW.ck o (by omega)) dX11_last_113 (rfl) (by omega) (by omega) (g1) ?_
              refine wt_iload_2 (pc := 114) hc dX11_last_114 ?_
              refine wt_icmp_ne (pc := 115) 120 hc dX11_last_115 (by decide) (fun c_115 => ?_) (fun c_115 => ?_)
              · refine wt_iload_5 (pc := 120) hc dX11_last_120 ?_
                refine wt_aload_0 (pc := 122) hc dX11_last_122 ?_
                refine cv_getr (pc := 123) (b := S.2.1 18) 10 hc cP3 (hW.n) dX11_last_123 q495 (by decide) (Or.inl rfl) (fun _ _ _ => rfl) (hW.rsoon) ?_
                refine wt_aload_4 (pc := 126) hc dX11_last_126 ?_
                refine wt_iload_6 (pc := 128) hc dX11_last_128 ?_
                refine wt_gofn (wt_invV (pc := 130) 1 hc (ct_X6_at hX (q (20 + o)) (i) _ _ wl _ (hY.wo o (by omega) e9 hwl _) (by omega)) dX11_last_130 rfl (fun s H => cz_recv cP2 (hY.ok o (by omega)) s H) q557 q558 q559 q129 q560 (by decide +kernel) rfl (by first | decide | omega) (by decide) (Nat.le_of_ble_eq_true rfl) rfl) ?_
                refine wt_topi (z := nI r) (er) ?_
                refine bz_iald (pc := 133) 18 (r) (sp_rides Q p 60 r) hE (by omega) hc (hW.soon) dX11_last_133 (rfl) (by omega) (by omega) (hs60) ?_
                refine wt_aload_0 (pc := 134) hc dX11_last_134 ?_
                refine cv_getr (pc := 135) (b := S.2.1 12) 9 hc cP3 (hW.n) dX11_last_135 q492 (by decide) (Or.inl rfl) (fun _ _ _ => rfl) (hW.rleaves) ?_
                refine wt_iload_3 (pc := 138) hc dX11_last_138 ?_
                refine cv_aaldr (pc := 139) (b := S.2.1 (13 + o)) (o) hc (hW.leaves) (by decide) dX11_last_139 (rfl) (by omega) (by omega) (hW.lr o (by omega)) ?_
                refine wt_iload_6 (pc := 140) hc dX11_last_140 ?_
                refine bz_iald (pc := 142) ((13 + o)) (i) (sp_rides Q p 55 (8 * o + i)) hE (by omega) hc (hW.lk o (by omega)) dX11_last_142 (rfl) (by omega) (by omega) (g2) ?_
                refine wt_icmp_gt (pc := 143) 150 hc dX11_last_143 (by decide) (fun c_143 => ?_) (fun c_143 => ?_)
                · refine wt_iconst (pc := 150) (v := nI 0) hc dX11_last_150 (by decide) ?_
                  refine wt_ior (pc := 151) hc dX11_last_151 ?_
                  first | refine wt_topi (cf_or true true) ?_ | refine wt_topi (cf_or true false) ?_
                  refine wt_istore_5 (pc := 152) hc dX11_last_152 rfl ?_
                  refine wt_iinc_6 (pc := 154) (v := nI (i + 1)) hc dX11_last_154 (nI_add i 1) rfl ?_
                  refine wt_goto (pc := 157) 69 hc dX11_last_157 (by decide) ?_
                  first | exact go true (decide_eq_true (Int32.not_lt.mp c_143)) (fun z => c_102 z.2.1) | exact go false (decide_eq_false (Int32.not_le.mpr c_143)) (fun z => c_102 z.2.1) | exact go true (decide_eq_true (Int32.not_lt.mp c_143)) (fun z => c_115 z.2.2) | exact go false (decide_eq_false (Int32.not_le.mpr c_143)) (fun z => c_115 z.2.2)
                · refine wt_iconst (pc := 146) (v := nI 1) hc dX11_last_146 (by decide) ?_
                  refine wt_goto (pc := 147) 151 hc dX11_last_147 (by decide) ?_
                  refine wt_ior (pc := 151) hc dX11_last_151 ?_
                  first | refine wt_topi (cf_or true true) ?_ | refine wt_topi (cf_or true false) ?_
                  refine wt_istore_5 (pc := 152) hc dX11_last_152 rfl ?_
                  refine wt_iinc_6 (pc := 154) (v := nI (i + 1)) hc dX11_last_154 (nI_add i 1) rfl ?_
                  refine wt_goto (pc := 157) 69 hc dX11_last_157 (by decide) ?_
                  first | exact go true (decide_eq_true (Int32.not_lt.mp c_143)) (fun z => c_102 z.2.1) | exact go false (decide_eq_false (Int32.not_le.mpr c_143)) (fun z => c_102 z.2.1) | exact go true (decide_eq_true (Int32.not_lt.mp c_143)) (fun z => c_115 z.2.2) | exact go false (decide_eq_false (Int32.not_le.mpr c_143)) (fun z => c_115 z.2.2)
              · refine wt_iload_3 (pc := 118) hc dX11_last_118 ?_
                exact wt_iret (pc := 119) hc hok dX11_last_119 (rfl) (fun H hZ => ⟨by rw [ht (if_pos ⟨rfl, c_102, c_115⟩)], _, hD, hZ⟩)
  have outer : ∀ (n o : Nat), o + n = ow → sp_lO (sp_rides Q p) (M 11 (4 * p + 1)) (sp_soon Q p) ow 0 = sp_lO (sp_rides Q p) (M 11 (4 * p + 1)) (sp_soon Q p) n o → wt_V G X 8 [some (.ref (S.2.1 1)), some (.ref (q (30 + p))), some (.int (sp_soon Q p)), some (.int (nI o)), none, none, none] [] (cz G (bB S (sp_fill D 18 10 (fun j => sp_rides Q p 60 (0 + j))))) 0 0 := by
    intro n
    induction n with
    | zero =>
      intro o hi hv
      refine wt_iload_3 (pc := 8) hc dX11_last_8 ?_
      refine wt_aload_0 (pc := 9) hc dX11_last_9 ?_
      refine cv_getr (pc := 10) (b := q 0) 11 hc cP3 (hW.n) dX11_last_10 q497 (by decide) (Or.inl rfl) (fun _ _ _ => rfl) (hW.rx) ?_
      refine cv_getrN (pc := 13) (b := q 1) 0 hc cP0 (hY.kx) dX11_last_13 q241 (by decide) (Or.inl rfl) (fun _ _ _ => rfl) (hY.xc) ?_
      refine cv_getrN (pc := 16) (b := q 4) 2 hc cP1 (hY.c) dX11_last_16 q199 (by decide) (Or.inl rfl) (fun _ _ _ => rfl) (hY.co) ?_
      refine wt_gofn (wt_invF (pc := 19) 0 hc cP11 (hY.os) (ct_sL (hY.ol _)) dX11_last_19 rfl q528 q318 q320 q115 q322 (hX.F_J2_size) (by decide +kernel) rfl (by first | decide | omega) (by decide) (Nat.le_of_ble_eq_true rfl) rfl) ?_
      refine wt_nicmp_ge (pc := 24) 166 (o) (ow) hc dX11_last_24 (by decide) (by omega) (by omega) (fun c_24 => ?_) (fun c_24 => ?_)
      · refine wt_iconst (pc := 166) (v := (-1 : Int32)) hc dX11_last_166 (by decide) ?_
        exact wt_iret (pc := 167) hc hok dX11_last_167 (rfl) (fun H hZ => ⟨by rw [hv]; rfl, _, hD, hZ⟩)
      · omega
    | succ n ih =>
      intro o hi hv
      rw [sp_lO] at hv
      obtain ⟨wl, hwl, e9, -⟩ := hY.way o (by omega)
      have e9r : nn (sp_rides Q p 9 o) = wl := by rw [q9, e9, nn_nI (by omega)]
      rw [e9r] at hv
      have enb : sp_nb (sp_rides Q p) o = decide (sp_rides Q p 47 3 >>> (nI o &&& 31) &&& 1 = 1) := rfl
      refine wt_iload_3 (pc := 8) hc dX11_last_8 ?_
      refine wt_aload_0 (pc := 9) hc dX11_last_9 ?_
      refine cv_getr (pc := 10) (b := q 0) 11 hc cP3 (hW.n) dX11_last_10 q497 (by decide) (Or.inl rfl) (fun _ _ _ => rfl) (hW.rx) ?_
      refine cv_getrN (pc := 13) (b := q 1) 0 hc cP0 (hY.kx) dX11_last_13 q241 (by decide) (Or.inl rfl) (fun _ _ _ => rfl) (hY.xc) ?_
      refine cv_getrN (pc := 16) (b := q 4) 2 hc cP1 (hY.c) dX11_last_16 q199 (by decide) (Or.inl rfl) (fun _ _ _ => rfl) (hY.co) ?_
      refine wt_gofn (wt_invF (pc := 19) 0 hc cP11 (hY.os) (ct_sL (hY.ol _)) dX11_last_19 rfl q528 q318 q320 q115 q322 (hX.F_J2_size) (by decide +kernel) rfl (by first | decide | omega) (by decide) (Nat.le_of_ble_eq_true rfl) rfl) ?_
      refine wt_nicmp_ge (pc := 24) 166 (o) (ow) hc dX11_last_24 (by decide) (by omega) (by omega) (fun c_24 => ?_) (fun c_24 => ?_)
      · omega
      · refine wt_iload_2 (pc := 27) hc dX11_last_27 ?_
        refine wt_ldc (pc := 28) (v := nI 1000000) hc dX11_last_28 q659 ?_
        refine wt_icmp_ge (pc := 30) 166 hc dX11_last_30 (by decide) (fun c_30 => ?_) (fun c_30 => ?_)
        · exact absurd c_30 hv1
        · refine wt_aload_1 (pc := 33) hc dX11_last_33 ?_
          refine wt_iconst (pc := 34) (v := nI 0) hc dX11_last_34 (by decide) ?_
          refine cv_iald (pc := 35) (0) (M 11 (4 * p)) hc (hY.rk p (by omega)) dX11_last_35 (rfl) (by omega) (by omega) (hY.rif _ p 0 hp (by omega)) ?_
          refine wt_aload_1 (pc := 36) hc dX11_last_36 ?_
          refine wt_iconst (pc := 37) (v := nI 1) hc dX11_last_37 (by decide) ?_
          refine cv_iald (pc := 38) (1) (M 11 (4 * p + 1)) hc (hY.rk p (by omega)) dX11_last_38 (rfl) (by omega) (by omega) (hY.rif _ p 1 (by omega) (by omega)) ?_
          refine wt_icmp_eq (pc := 39) 166 hc dX11_last_39 (by decide) (fun c_39 => ?_) (fun c_39 => ?_)
          · exact absurd c_39 hv2
          · refine wt_aload_0 (pc := 42) hc dX11_last_42 ?_
            refine cv_getr (pc := 43) (b := q 0) 11 hc cP3 (hW.n) dX11_last_43 q497 (by decide) (Or.inl rfl) (fun _ _ _ => rfl) (hW.rx) ?_
            refine cv_getrN (pc := 46) (b := q 1) 0 hc cP0 (hY.kx) dX11_last_46 q241 (by decide) (Or.inl rfl) (fun _ _ _ => rfl) (hY.xc) ?_
            refine cv_getrN (pc := 49) (b := q 4) 2 hc cP1 (hY.c) dX11_last_49 q199 (by decide) (Or.inl rfl) (fun _ _ _ => rfl) (hY.co) ?_
            refine wt_iload_3 (pc := 52) hc dX11_last_52 ?_
            refine wt_gofr (wt_invF (pc := 53) 1 hc cP11 (hY.os) (ct_gL (hY.ol _) (by omega)) dX11_last_53 rfl q530 q449 q451 q115 q453 (hX.F_J2_get) (by decide +kernel) rfl (by first | decide | omega) (by decide) (Nat.le_of_ble_eq_true rfl) rfl) ?_
            refine cv_castS (pc := 58) hc cP2 (hY.ok o (by omega)) dX11_last_58 q531 ?_
            refine wt_astore_4 (pc := 61) hc dX11_last_61 rfl ?_
            refine wt_iconst (pc := 63) (v := nI 0) hc dX11_last_63 (by decide) ?_
            refine wt_istore_5 (pc := 64) hc dX11_last_64 rfl ?_
            refine wt_iconst (pc := 66) (v := nI 0) hc dX11_last_66 (by decide) ?_
            refine wt_istore_6 (pc := 67) hc dX11_last_67 rfl ?_
            by_cases hnb : sp_rides Q p 47 3 >>> (nI o &&& 31) &&& 1 = 1
            · rw [if_neg (fun z => by rw [enb, decide_eq_true hnb] at z; cases z.1)] at hv
              have ih' := ih (o + 1) (by omega) hv
              refine wt_iload_6 (pc := 69) hc dX11_last_69 ?_
              refine wt_aload_4 (pc := 71) hc dX11_last_71 ?_
              refine wt_gofn (wt_invV (pc := 73) 0 hc (ct_X6_size hX (q (20 + o)) _ _ wl _ (hY.wo o (by omega) e9 hwl _)) dX11_last_73 rfl (fun s H => cz_recv cP2 (hY.ok o (by omega)) s H) q543 q544 q545 q129 q546 (by decide +kernel) rfl (by first | decide | omega) (by decide) (Nat.le_of_ble_eq_true rfl) rfl) ?_
              refine wt_nicmp_ge (pc := 76) 160 (0) (wl) hc dX11_last_76 (by decide) (by omega) (by omega) (fun c_76 => ?_) (fun c_76 => ?_)
              · refine wt_iinc_3 (pc := 160) (v := nI (o + 1)) hc dX11_last_160 (nI_add o 1) rfl ?_
                refine wt_goto (pc := 163) 8 hc dX11_last_163 (by decide) ?_
                exact wt_drop ih' ⟨rfl, rfl, rfl, rfl, trivial⟩
              · refine wt_aload_0 (pc := 79) hc dX11_last_79 ?_
                refine wt_iload_3 (pc := 80) hc dX11_last_80 ?_
                refine wt_gofn (wt_invV (pc := 81) 1 hc (ct_X11_isOut (o) hE (by omega) hW) dX11_last_81 rfl (fun s H => cz_recv cP3 (hW.n) s H) q536 q537 q538 q143 q539 (by decide +kernel) rfl (by first | decide | omega) (by decide) (Nat.le_of_ble_eq_true rfl) rfl) ?_
                refine wt_if_eq (pc := 84) 160 hc dX11_last_84 (by decide) (fun c_84 => ?_) (fun c_84 => ?_)
                · refine wt_iinc_3 (pc := 160) (v := nI (o + 1)) hc dX11_last_160 (nI_add o 1) rfl ?_
                  refine wt_goto (pc := 163) 8 hc dX11_last_163 (by decide) ?_
                  exact wt_drop ih' ⟨rfl, rfl, rfl, rfl, trivial⟩
                · exact absurd (sp_b_n0 c_84) (fun z => z (by rw [hD 1 (by decide), ← hR.2.2.2.1, ← sp_rides_row (M := Q) (p := p) (k := 47) (by decide)]; exact hnb))
            · refine inner o wl wl 0 false (by omega) hwl e9 (by omega) hnb (fun h => ?_) (fun h => ?_)
              · rw [hv, if_pos ⟨by rw [enb, decide_eq_false hnb], h⟩]
              · rw [if_neg (fun z => by rw [h] at z; cases z.2)] at hv
                have ih' := ih (o + 1) (by omega) hv
                refine wt_iinc_3 (pc := 160) (v := nI (o + 1)) hc dX11_last_160 (nI_add o 1) rfl ?_
                refine wt_goto (pc := 163) 8 hc dX11_last_163 (by decide) ?_
                exact wt_drop ih' ⟨rfl, rfl, rfl, rfl, trivial⟩
  refine wt_aload_0 (pc := 0) hc dX11_last_0 ?_
  refine wt_aload_1 (pc := 1) hc dX11_last_1 ?_
  refine wt_gofn (wt_invV (pc := 2) 1 hc (ct_X11_home hX p hE hN hW hY hp hR) dX11_last_2 rfl (fun s H => cz_recv cP3 (hW.n) s H) q678 q648 q649 q143 q650 (by decide +kernel) rfl (by first | decide | omega) (by decide) (Nat.le_of_ble_eq_true rfl) rfl) ?_
  refine wt_istore_2 (pc := 5) hc dX11_last_5 rfl ?_
  refine wt_iconst (pc := 6) (v := nI 0) hc dX11_last_6 (by decide) ?_
  refine wt_istore_3 (pc := 7) hc dX11_last_7 rfl ?_
  exact outer ow 0 (by omega) rfl
end NE
