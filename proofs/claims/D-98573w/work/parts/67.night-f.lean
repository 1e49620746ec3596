/-! CLASSES: a night: the fewest rides -/
set_option maxRecDepth 100000
theorem cRq.r6 {D M Q Q' : wt_It} {ow : Nat} (h : cRq D M Q ow) (hQ : sp_R6 Q Q') : cRq D M Q' ow := by
  refine h.q (fun k hk => hQ k (by omega) (by omega) (by omega))
theorem sp_cp_at {M : wt_It} {a b n j : Nat} (h : j < n) : sp_cp M a b n b j = M a j := if_pos ⟨rfl, h⟩
section NF
variable {l : Launch} {G : wt_G} {X : wt_X} {S : bS} {D M Q : wt_It} {NB ro ow ri ru : Nat} {q : Nat → Nat} {Ze : Heap → Prop}
theorem cf_rides (hc : wt_Cx l G X yX11_rides cX11_rides 6 6) (hX : cX G) (p pa pb : Nat) (hok : wt_ok G X (some .int) (wt_fn (if (sp_oF 11 0 p (sp_waits Q p 60)).1 = -1 then nI 1000000 else (sp_oF 11 0 p (sp_waits Q p 60)).1) Ze)) (hE : bE G S NB) (hN : 19 ≤ NB) (hpa : pa < NB) (hpb : pb < NB) (ga : 19 ≤ pa) (gb : 19 ≤ pb) (hab : pa ≠ pb) (Ka : S.1 (S.2.1 pa) = some (.inr (0, 10))) (Kb : S.1 (S.2.1 pb) = some (.inr (0, 10))) (hW : cW S (q 0)) (hY : cYS S M q ro ow ri ru) (hp : p < ri) (hR : cRq D M Q ow) (hend : ∀ D' H, (∀ k, k ≠ pa → k ≠ pb → D' k = D k) → cz G (bB S D') H → Ze H) : wt_V G X 10 [some (.ref (S.2.1 1)), some (.ref (q (30 + p))), some (.ref (S.2.1 pa)), some (.ref (S.2.1 pb)), none, none] [] (cz G (bB S D)) 0 0 := by
  have how := hY.b5
  have hro := hY.b10
  have hri := hY.b8
  obtain ⟨⟨a, ha, ea⟩, b, hb, eb⟩ := hY.rid p hp
  have ea' : Q 11 (4 * p) = nI a := by rw [hR.2.2.1]; exact ea
  have eb' : Q 11 (4 * p + 1) = nI b := by rw [hR.2.2.1]; exact eb
  have e6 : Q 0 6 = M 0 6 := hR.2.2.2.2.1 6 (by decide)
  have e3 : Q 0 3 = nI ow := (hR.2.2.2.2.1 3 (by decide)).trans hY.eow
  generalize hv0 : (sp_oF 11 0 p (sp_waits Q p 60)).1 = v0 at hok
  have cp1 : ∀ (D0 : wt_It) (i n r : Nat), r + n = 10 → (wt_V G X 71 [some (.ref (S.2.1 1)), some (.ref (q (30 + p))), some (.ref (S.2.1 pa)), some (.ref (S.2.1 pb)), some (.int (nI i)), none] [] (cz G (bB S (sp_fill D0 pb 10 (fun j => D0 pa j)))) 0 0) → wt_V G X 50 [some (.ref (S.2.1 1)), some (.ref (q (30 + p))), some (.ref (S.2.1 pa)), some (.ref (S.2.1 pb)), some (.int (nI i)), some (.int (nI r))] [] (cz G (bB S (sp_fill D0 pb r (fun j => D0 pa j)))) 0 0 := by
    intro D0 i n
    induction n with
    | zero =>
      intro r hr hend
      obtain rfl : r = 10 := by omega
      refine wt_iload_5 (pc := 50) hc dX11_rides_50 ?_
      refine wt_bipush (pc := 52) (v := nI 10) hc dX11_rides_52 (by decide) ?_
      refine wt_nicmp_ge (pc := 54) 71 (10) (10) hc dX11_rides_54 (by decide) (by omega) (by omega) (fun c_54 => ?_) (fun c_54 => ?_)
      · exact wt_drop hend ⟨rfl, rfl, rfl, rfl, rfl, trivial⟩
      · omega
    | succ n ih =>
      intro r hr hend
      refine wt_iload_5 (pc := 50) hc dX11_rides_50 ?_
      refine wt_bipush (pc := 52) (v := nI 10) hc dX11_rides_52 (by decide) ?_
      refine wt_nicmp_ge (pc := 54) 71 (r) (10) hc dX11_rides_54 (by decide) (by omega) (by omega) (fun c_54 => ?_) (fun c_54 => ?_)
      · omega
      · refine wt_aload_3 (pc := 57) hc dX11_rides_57 ?_
        refine wt_iload_5 (pc := 58) hc dX11_rides_58 ?_
        refine wt_aload_2 (pc := 60) hc dX11_rides_60 ?_
        refine wt_iload_5 (pc := 61) hc dX11_rides_61 ?_
        refine bz_iald (pc := 63) pa (r) (D0 pa r) hE (by omega) hc (Ka) dX11_rides_63 (rfl) (by omega) (by omega) (congrFun (sp_fill_row hab) r) ?_
        refine bz_iast (pc := 64) pb (r) hE (by omega) hc (Kb) dX11_rides_64 (rfl) (by omega) (by omega) ?_
        refine bz_eq (D := sp_fill D0 pb (r + 1) (fun j => D0 pa j)) (sp_fill_to rfl) ?_
        refine wt_iinc_5 (pc := 65) (v := nI (r + 1)) hc dX11_rides_65 (nI_add r 1) rfl ?_
        refine wt_goto (pc := 68) 50 hc dX11_rides_68 (by decide) ?_
        exact ih (r + 1) (by omega) hend
  have cp2 : ∀ (D0 : wt_It) (i n r : Nat), r + n = 10 → (wt_V G X 133 [some (.ref (S.2.1 1)), some (.ref (q (30 + p))), some (.ref (S.2.1 pa)), some (.ref (S.2.1 pb)), some (.int (nI i)), none] [] (cz G (bB S (sp_fill D0 pa 10 (fun j => D0 pb j)))) 0 0) → wt_V G X 112 [some (.ref (S.2.1 1)), some (.ref (q (30 + p))), some (.ref (S.2.1 pa)), some (.ref (S.2.1 pb)), some (.int (nI i)), some (.int (nI r))] [] (cz G (bB S (sp_fill D0 pa r (fun j => D0 pb j)))) 0 0 := by
    intro D0 i n
    induction n with
    | zero =>
      intro r hr hend
      obtain rfl : r = 10 := by omega
      refine wt_iload_5 (pc := 112) hc dX11_rides_112 ?_
      refine wt_bipush (pc := 114) (v := nI 10) hc dX11_rides_114 (by decide) ?_
      refine wt_nicmp_ge (pc := 116) 133 (10) (10) hc dX11_rides_116 (by decide) (by omega) (by omega) (fun c_116 => ?_) (fun c_116 => ?_)
      · exact wt_drop hend ⟨rfl, rfl, rfl, rfl, rfl, trivial⟩
      · omega
    | succ n ih =>
      intro r hr hend
      refine wt_iload_5 (pc := 112) hc dX11_rides_112 ?_
      refine wt_bipush (pc := 114) (v := nI 10) hc dX11_rides_114 (by decide) ?_
      refine wt_nicmp_ge (pc := 116) 133 (r) (10) hc dX11_rides_116 (by decide) (by omega) (by omega) (fun c_116 => ?_) (fun c_116 => ?_)
      · omega
      · refine wt_aload_2 (pc := 119) hc dX11_rides_119 ?_
        refine wt_iload_5 (pc := 120) hc dX11_rides_120 ?_
        refine wt_aload_3 (pc := 122) hc dX11_rides_122 ?_
        refine wt_iload_5 (pc := 123) hc dX11_rides_123 ?_
        refine bz_iald (pc := 125) pb (r) (D0 pb r) hE (by omega) hc (Kb) dX11_rides_125 (rfl) (by omega) (by omega) (congrFun (sp_fill_row (Ne.symm hab)) r) ?_
        refine bz_iast (pc := 126) pa (r) hE (by omega) hc (Ka) dX11_rides_126 (rfl) (by omega) (by omega) ?_
        refine bz_eq (D := sp_fill D0 pa (r + 1) (fun j => D0 pb j)) (sp_fill_to rfl) ?_
        refine wt_iinc_5 (pc := 127) (v := nI (r + 1)) hc dX11_rides_127 (nI_add r 1) rfl ?_
        refine wt_goto (pc := 130) 112 hc dX11_rides_130 (by decide) ?_
        exact ih (r + 1) (by omega) hend
  have pass : ∀ (D0 : wt_It) (i n o : Nat) (Q' : wt_It), o + n = ow → cRq D0 M Q' ow → (∀ j, j < 10 → D0 pa j = Q' 61 (0 + j)) → (wt_V G X 109 [some (.ref (S.2.1 1)), some (.ref (q (30 + p))), some (.ref (S.2.1 pa)), some (.ref (S.2.1 pb)), some (.int (nI i)), none] [] (cz G (bB S (sp_fill D0 pb 10 (fun j => sp_os n o Q' 60 (0 + j))))) 0 0) → wt_V G X 74 [some (.ref (S.2.1 1)), some (.ref (q (30 + p))), some (.ref (S.2.1 pa)), some (.ref (S.2.1 pb)), some (.int (nI i)), some (.int (nI o))] [] (cz G (bB S (sp_fill D0 pb 10 (fun j => Q' 60 (0 + j))))) 0 0 := by
    intro D0 i n
    induction n with
    | zero =>
      intro o Q' ho hR' h61 hend
      refine wt_iload_5 (pc := 74) hc dX11_rides_74 ?_
      refine wt_aload_0 (pc := 76) hc dX11_rides_76 ?_
      refine cv_getr (pc := 77) (b := q 0) 11 hc cP3 (hW.n) dX11_rides_77 q497 (by decide) (Or.inl rfl) (fun _ _ _ => rfl) (hW.rx) ?_
      refine cv_getrN (pc := 80) (b := q 1) 0 hc cP0 (hY.kx) dX11_rides_80 q241 (by decide) (Or.inl rfl) (fun _ _ _ => rfl) (hY.xc) ?_
      refine cv_getrN (pc := 83) (b := q 4) 2 hc cP1 (hY.c) dX11_rides_83 q199 (by decide) (Or.inl rfl) (fun _ _ _ => rfl) (hY.co) ?_
      refine wt_gofn (wt_invF (pc := 86) 0 hc cP11 (hY.os) (ct_sL (hY.ol _)) dX11_rides_86 rfl q528 q318 q320 q115 q322 (hX.F_J2_size) (by decide +kernel) rfl (by first | decide | omega) (by decide) (Nat.le_of_ble_eq_true rfl) rfl) ?_
      refine wt_nicmp_ge (pc := 91) 109 (o) (ow) hc dX11_rides_91 (by decide) (by omega) (by omega) (fun c_91 => ?_) (fun c_91 => ?_)
      · exact wt_drop hend ⟨rfl, rfl, rfl, rfl, rfl, trivial⟩
      · omega
    | succ n ih =>
      intro o Q' ho hR' h61 hend
      rw [sp_os] at hend
      have hR2 : cRq (sp_fill D0 pb 10 (fun j => Q' 60 (0 + j))) M Q' ow := hR'.d how (fun k hk => sp_fill_row (by omega))
      refine wt_iload_5 (pc := 74) hc dX11_rides_74 ?_
      refine wt_aload_0 (pc := 76) hc dX11_rides_76 ?_
      refine cv_getr (pc := 77) (b := q 0) 11 hc cP3 (hW.n) dX11_rides_77 q497 (by decide) (Or.inl rfl) (fun _ _ _ => rfl) (hW.rx) ?_
      refine cv_getrN (pc := 80) (b := q 1) 0 hc cP0 (hY.kx) dX11_rides_80 q241 (by decide) (Or.inl rfl) (fun _ _ _ => rfl) (hY.xc) ?_
      refine cv_getrN (pc := 83) (b := q 4) 2 hc cP1 (hY.c) dX11_rides_83 q199 (by decide) (Or.inl rfl) (fun _ _ _ => rfl) (hY.co) ?_
      refine wt_gofn (wt_invF (pc := 86) 0 hc cP11 (hY.os) (ct_sL (hY.ol _)) dX11_rides_86 rfl q528 q318 q320 q115 q322 (hX.F_J2_size) (by decide +kernel) rfl (by first | decide | omega) (by decide) (Nat.le_of_ble_eq_true rfl) rfl) ?_
      refine wt_nicmp_ge (pc := 91) 109 (o) (ow) hc dX11_rides_91 (by decide) (by omega) (by omega) (fun c_91 => ?_) (fun c_91 => ?_)
      · omega
      · refine wt_aload_0 (pc := 94) hc dX11_rides_94 ?_
        refine wt_iload_5 (pc := 95) hc dX11_rides_95 ?_
        refine wt_aload_2 (pc := 97) hc dX11_rides_97 ?_
        refine wt_aload_3 (pc := 98) hc dX11_rides_98 ?_
        refine wt_gofn (wt_invV (pc := 99) 3 hc (ct_X11_ride hX 61 0 60 0 o pa pb hE hN hW hY (by omega) hR2 hpa hpb (by omega) Ka Kb (fun i j hi hj => ⟨fun z => absurd z.1 (by decide), fun z => absurd z.1 hab⟩) (fun j hj => (congrFun (sp_fill_row hab) j).trans (h61 j hj)) (fun j hj => if_pos ⟨rfl, hj⟩) (by decide)) dX11_rides_99 rfl (fun s H => cz_recv cP3 (hW.n) s H) q660 q662 qs13 q143 q663 (by decide +kernel) rfl (by first | decide | omega) (by decide) (Nat.le_of_ble_eq_true rfl) rfl) ?_
        refine bz_eq cf_ff ?_
        refine wt_pop (pc := 102) hc dX11_rides_102 rfl ?_
        refine wt_iinc_5 (pc := 103) (v := nI (o + 1)) hc dX11_rides_103 (nI_add o 1) rfl ?_
        refine wt_goto (pc := 106) 74 hc dX11_rides_106 (by decide) ?_
        exact ih (o + 1) (sp_takes Q' 61 0 60 0 o).1 (by omega) (hR'.r6 (sp_R6.takes Q' 61 0 60 0 o (Or.inl rfl))) (fun j hj => (h61 j hj).trans (congrFun (sp_takes_row (by decide)).symm (0 + j))) hend
  have outer : ∀ (n i : Nat) (Q' D' : wt_It), i + n = 11 → sp_R6 Q Q' → (∀ k, k ≠ pa → k ≠ pb → D' k = D k) → (∀ j, j < 10 → D' pa j = Q' 60 j) → v0 = (sp_oF n i p Q').1 → wt_V G X 19 [some (.ref (S.2.1 1)), some (.ref (q (30 + p))), some (.ref (S.2.1 pa)), some (.ref (S.2.1 pb)), some (.int (nI i)), none] [] (cz G (bB S D')) 0 0 := by
    intro n
    induction n with
    | zero =>
      intro i Q' D' hi hQ hD h60 hv
      obtain rfl : i = 11 := by omega
      refine wt_iload_4 (pc := 19) hc dX11_rides_19 ?_
      refine wt_bipush (pc := 21) (v := nI 10) hc dX11_rides_21 (by decide) ?_
      refine wt_nicmp_gt (pc := 23) 139 (11) (10) hc dX11_rides_23 (by decide) (by omega) (by omega) (fun c_23 => ?_) (fun c_23 => ?_)
      · refine wt_ldc (pc := 139) (v := nI 1000000) hc dX11_rides_139 q659 ?_
        exact wt_iret (pc := 141) hc hok dX11_rides_141 (rfl) (fun H hZ => ⟨by rw [hv]; rfl, hend D' H hD hZ⟩)
      · omega
    | succ n ih =>
      intro i Q' D' hi hQ hD h60 hv
      rw [sp_oF] at hv
      have hR' : cRq D' M Q' ow := (hR.r6 hQ).d how (fun k hk => hD k (by omega) (by omega))
      have q6 : Q' 0 6 = M 0 6 := (congrFun (hQ 0 (by decide) (by decide) (by decide)) 6).trans e6
      have q11 : Q' 11 (4 * p + 1) = nI b := by rw [hQ 11 (by decide) (by decide) (by decide)]; exact eb'
      have q3 : Q' 0 3 = nI ow := (congrFun (hQ 0 (by decide) (by decide) (by decide)) 3).trans e3
      rw [q6, q11, nn_nI (by omega), q3, nn_nI (by omega)] at hv
      refine wt_iload_4 (pc := 19) hc dX11_rides_19 ?_
      refine wt_bipush (pc := 21) (v := nI 10) hc dX11_rides_21 (by decide) ?_
      refine wt_nicmp_gt (pc := 23) 139 (i) (10) hc dX11_rides_23 (by decide) (by omega) (by omega) (fun c_23 => ?_) (fun c_23 => ?_)
      · omega
      · refine wt_aload_2 (pc := 26) hc dX11_rides_26 ?_
        refine wt_aload_1 (pc := 27) hc dX11_rides_27 ?_
        refine wt_iconst (pc := 28) (v := nI 1) hc dX11_rides_28 (by decide) ?_
        refine cv_iald (pc := 29) (1) (nI b) hc (hY.rk p (by omega)) dX11_rides_29 (rfl) (by omega) (by omega) ((hY.rif _ p 1 hp (by omega)).trans eb) ?_
        refine bz_iald (pc := 30) pa (b) (Q' 60 b) hE (by omega) hc (Ka) dX11_rides_30 (rfl) (by omega) (by omega) (h60 b (by omega)) ?_
        refine wt_aload_0 (pc := 31) hc dX11_rides_31 ?_
        refine cv_getr (pc := 32) (b := q 0) 11 hc cP3 (hW.n) dX11_rides_32 q497 (by decide) (Or.inl rfl) (fun _ _ _ => rfl) (hW.rx) ?_
        refine cv_getrN (pc := 35) (b := q 1) 0 hc cP0 (hY.kx) dX11_rides_35 q241 (by decide) (Or.inl rfl) (fun _ _ _ => rfl) (hY.xc) ?_
        refine cv_getiN (pc := 38) 7 (M 0 6) hc cP1 (hY.c) dX11_rides_38 q218 (by decide) (Or.inl rfl) (fun _ _ _ => rfl) (hY.da _) ?_
        refine wt_icmp_gt (pc := 41) 47 hc dX11_rides_41 (by decide) (fun c_41 => ?_) (fun c_41 => ?_)
        · rw [if_neg (Int32.not_le.mpr c_41)] at hv
          refine wt_iconst (pc := 47) (v := nI 0) hc dX11_rides_47 (by decide) ?_
          refine wt_istore_5 (pc := 48) hc dX11_rides_48 rfl ?_
          refine bz_eq (sp_fill_0 D' pb (fun j => D' pa j)).symm ?_
          refine cp1 D' i 10 0 (by omega) ?_
          refine wt_iconst (pc := 71) (v := nI 0) hc dX11_rides_71 (by decide) ?_
          refine wt_istore_5 (pc := 72) hc dX11_rides_72 rfl ?_
          have hQ1 : sp_R6 Q' (sp_cp Q' 60 61 10) := fun k _ h _ => sp_cp_row h
          refine bz_eq (D := sp_fill D' pb 10 (fun j => sp_cp Q' 60 61 10 60 (0 + j))) (cf_fext (fun j hj => ?_)) ?_
          · rw [h60 j hj, Nat.zero_add, sp_cp_row (by decide)]
          refine pass D' i ow 0 (sp_cp Q' 60 61 10) (by omega) (hR'.r6 hQ1) (fun j hj => ?_) ?_
          · rw [h60 j hj, Nat.zero_add]
            exact (sp_cp_at hj).symm
          have hQ2 : sp_R6 Q (sp_os ow 0 (sp_cp Q' 60 61 10)) := hQ.tr (hQ1.tr (sp_R6.os _ _ _))
          generalize sp_os ow 0 (sp_cp Q' 60 61 10) = Q2 at hv hQ2 ⊢
          refine wt_iconst (pc := 109) (v := nI 0) hc dX11_rides_109 (by decide) ?_
          refine wt_istore_5 (pc := 110) hc dX11_rides_110 rfl ?_
          refine bz_eq (sp_fill_0 (sp_fill D' pb 10 (fun j => Q2 60 (0 + j))) pa (fun j => (sp_fill D' pb 10 (fun j => Q2 60 (0 + j))) pb j)).symm ?_
          refine cp2 (sp_fill D' pb 10 (fun j => Q2 60 (0 + j))) i 10 0 (by omega) ?_
          refine wt_iinc_4 (pc := 133) (v := nI (i + 1)) hc dX11_rides_133 (nI_add i 1) rfl ?_
          refine wt_goto (pc := 136) 19 hc dX11_rides_136 (by decide) ?_
          refine wt_drop (ih (i + 1) Q2 _ (by omega) hQ2 (fun k h1 h2 => ?_) (fun j hj => ?_) hv) ⟨rfl, rfl, rfl, rfl, rfl, trivial⟩
          · rw [sp_fill_row h1, sp_fill_row h2]
            exact hD k h1 h2
          · refine (if_pos ⟨rfl, hj⟩).trans ((if_pos ⟨rfl, hj⟩).trans ?_)
            show Q2 60 (0 + j) = _
            rw [Nat.zero_add]
        · rw [if_pos (Int32.not_lt.mp c_41)] at hv
          refine wt_iload_4 (pc := 44) hc dX11_rides_44 ?_
          exact wt_iret (pc := 46) hc hok dX11_rides_46 (rfl) (fun H hZ => ⟨by rw [hv, if_neg (sp_nI_m1 (by omega))], hend D' H hD hZ⟩)
  refine wt_aload_0 (pc := 10) hc dX11_rides_10 ?_
  refine wt_aload_2 (pc := 11) hc dX11_rides_11 ?_
  refine wt_aload_1 (pc := 12) hc dX11_rides_12 ?_
  refine wt_gov (wt_invV (pc := 13) 2 hc (ct_X11_begin (q (30 + p)) pa hE hpa Ka (hY.rk p hp) (fun E k hk => (hY.rif E p k hp hk).trans (hY.rif D p k hp hk).symm)) dX11_rides_13 rfl (fun s H => cz_recv cP3 (hW.n) s H) q655 q657 qs12 q143 q658 (by decide +kernel) rfl (by first | decide | omega) (by decide) (Nat.le_of_ble_eq_true rfl) rfl) (Nat.zero_le _) (Nat.zero_le _) ?_
  refine bz_eq (cf_waits (p := p) ea' (by omega) ((hY.rif D p 0 hp (by omega)).trans ea) ((hY.rif D p 2 hp (by omega)).trans (congrFun hR.2.2.1 _).symm) pa) ?_
  refine wt_iconst (pc := 16) (v := nI 0) hc dX11_rides_16 (by decide) ?_
  refine wt_istore_4 (pc := 17) hc dX11_rides_17 rfl ?_
  refine wt_drop (outer 11 0 (sp_waits Q p 60) _ (by omega) (sp_R6.waits Q p) (fun k h1 h2 => sp_fill_row h1) (fun j hj => (if_pos ⟨rfl, hj⟩).trans (by show sp_waits Q p 60 60 (0 + j) = _; rw [Nat.zero_add])) hv0.symm) ⟨rfl, rfl, rfl, rfl, rfl, trivial⟩
end NF
