/-! CLASSES: a night: the cheapest journey -/
set_option maxRecDepth 100000
/-- the class counts up to 27 -/
def cf_ck (dawn : Int32) (h ow : Nat) : Nat → Nat → wt_It → Int32
  | 0, _, _ => nI 1000000
  | n + 1, fur, M => if M 62 (10 * fur + h) ≤ dawn then nI fur else if n = 0 then nI 1000000 else cf_ck dawn h ow n (fur + 1) (sp_co fur ow 0 (sp_c10 M fur 10))
theorem sp_tk_lo (k1 o1 k2 o2 o x : Nat) (hx : x < o2) : ∀ (n i : Nat) (on any : Bool) (M : wt_It), (sp_tk k1 o1 k2 o2 o n i on any M).1 k2 x = M k2 x := by
  intro n
  induction n with
  | zero => intro i on any M; rfl
  | succ n ih =>
    intro i on any M
    rw [sp_tk]
    split
    · rw [ih, wt_up2_ne (fun z => absurd z.2 (by omega))]
    · rw [ih]
theorem sp_takes_lo {M : wt_It} {k1 o1 k2 o2 o x : Nat} (hx : x < o2) : (sp_takes M k1 o1 k2 o2 o).1 k2 x = M k2 x := by
  unfold sp_takes
  split
  · rfl
  · exact sp_tk_lo _ _ _ _ _ _ hx _ _ _ _ _
theorem sp_co_lo (fur x : Nat) (hx : x < 10 * fur + 10) : ∀ (n o : Nat) (M : wt_It), sp_co fur n o M 62 x = M 62 x := by
  intro n
  induction n with
  | zero => intro o M; rfl
  | succ n ih =>
    intro o M
    rw [sp_co, ih]
    split
    · exact sp_takes_lo hx
    · rfl
theorem sp_c10_lo {M : wt_It} {fur x : Nat} (hx : x < 10 * fur + 10) : sp_c10 M fur 10 62 x = M 62 x := if_neg (fun z => absurd z.2.1 (by omega))
theorem sp_c10_at {M : wt_It} {fur j : Nat} (hj : j < 10) : sp_c10 M fur 10 62 (10 * fur + 10 + j) = M 62 (10 * fur + j) := by
  refine (if_pos ⟨rfl, by omega, by omega⟩).trans ?_
  rw [show 10 * fur + 10 + j - 10 = 10 * fur + j by omega]
section NH
variable {l : Launch} {G : wt_G} {X : wt_X} {S : bS} {D M Q : wt_It} {NB ro ow ri ru : Nat} {q : Nat → Nat} {Ze : Heap → Prop}
theorem cf_cheap (hc : wt_Cx l G X yX11_cheapest cX11_cheapest 5 6) (hX : cX G) (p c0 : Nat) (v0 : Int32) (hok : wt_ok G X (some .int) (wt_fn v0 Ze)) (hE : bE G S NB) (hN : 19 ≤ NB) (hc0 : 19 ≤ c0) (hcN : c0 + 29 ≤ NB) (K0 : S.1 (S.2.1 c0) = some (.inr (4, 28))) (Kr : ∀ c, c < 28 → S.1 (S.2.1 (c0 + 1 + c)) = some (.inr (0, 10)) ∧ S.2.2.2.2.1 (S.2.1 c0) c = some (S.2.1 (c0 + 1 + c))) (hW : cW S (q 0)) (hY : cYS S M q ro ow ri ru) (hkd : sp_kd M ow) (hp : p < ri) (b : Nat) (hb : b < ro) (eb : M 11 (4 * p + 1) = nI b) (hR : cRq D M Q ow) (hv0 : v0 = cf_ck (M 0 6) b ow 28 0 (sp_cp0 Q p)) (q8 : Q 8 = M 8) (hend : ∀ D' H, (∀ k, k < c0 → D' k = D k) → cz G (bB S D') H → Ze H) : wt_V G X 9 [some (.ref (S.2.1 1)), some (.ref (q (30 + p))), some (.ref (S.2.1 c0)), none, none] [] (cz G (bB S D)) 0 0 := by
  have how := hY.b5
  have hro := hY.b10
  have hri := hY.b8
  obtain ⟨⟨a, ha, ea⟩, -⟩ := hY.rid p hp
  have ea' : Q 11 (4 * p) = nI a := by rw [hR.2.2.1]; exact ea
  have copy : ∀ (D0 : wt_It) (c n r : Nat), 0 < c → c < 28 → r + n = 10 → (wt_V G X 59 [some (.ref (S.2.1 1)), some (.ref (q (30 + p))), some (.ref (S.2.1 c0)), some (.int (nI c)), none] [] (cz G (bB S (sp_fill D0 (c0 + 1 + c) 10 (fun j => D0 (c0 + 1 + (c - 1)) j)))) 0 0) → wt_V G X 28 [some (.ref (S.2.1 1)), some (.ref (q (30 + p))), some (.ref (S.2.1 c0)), some (.int (nI c)), some (.int (nI r))] [] (cz G (bB S (sp_fill D0 (c0 + 1 + c) r (fun j => D0 (c0 + 1 + (c - 1)) j)))) 0 0 := by
    intro D0 c n
    induction n with
    | zero =>
      intro r hc1 hc2 hr hend
      obtain rfl : r = 10 := by omega
      refine wt_iload_4 (pc := 28) hc dX11_cheapest_28 ?_
      refine wt_bipush (pc := 30) (v := nI 10) hc dX11_cheapest_30 (by decide) ?_
      refine wt_nicmp_ge (pc := 32) 59 (10) (10) hc dX11_cheapest_32 (by decide) (by omega) (by omega) (fun c_32 => ?_) (fun c_32 => ?_)
      · exact wt_drop hend ⟨rfl, rfl, rfl, rfl, trivial⟩
      · omega
    | succ n ih =>
      intro r hc1 hc2 hr hend
      refine wt_iload_4 (pc := 28) hc dX11_cheapest_28 ?_
      refine wt_bipush (pc := 30) (v := nI 10) hc dX11_cheapest_30 (by decide) ?_
      refine wt_nicmp_ge (pc := 32) 59 (r) (10) hc dX11_cheapest_32 (by decide) (by omega) (by omega) (fun c_32 => ?_) (fun c_32 => ?_)
      · omega
      · refine wt_iload_3 (pc := 35) hc dX11_cheapest_35 ?_
        refine wt_if_le (pc := 36) 59 hc dX11_cheapest_36 (by decide) (fun c_36 => ?_) (fun c_36 => ?_)
        · exact absurd c_36 (by intro z; exact absurd z (nI_ge (a := 0) hc1 (by omega)))
        · refine wt_aload_2 (pc := 39) hc dX11_cheapest_39 ?_
          refine wt_iload_3 (pc := 40) hc dX11_cheapest_40 ?_
          refine cv_aaldr (pc := 41) (b := S.2.1 (c0 + 1 + c)) (c) hc (K0) (by decide) dX11_cheapest_41 (rfl) (by omega) (by omega) ((Kr c (by omega)).2) ?_
          refine wt_iload_4 (pc := 42) hc dX11_cheapest_42 ?_
          refine wt_aload_2 (pc := 44) hc dX11_cheapest_44 ?_
          refine wt_iload_3 (pc := 45) hc dX11_cheapest_45 ?_
          refine wt_iconst (pc := 46) (v := nI 1) hc dX11_cheapest_46 (by decide) ?_
          refine wt_isub (pc := 47) hc dX11_cheapest_47 ?_
          rw [pk_sub (a := c) (b := 1) (by omega)]
          refine cv_aaldr (pc := 48) (b := S.2.1 (c0 + 1 + (c - 1))) (c - 1) hc (K0) (by decide) dX11_cheapest_48 (rfl) (by omega) (by omega) ((Kr (c - 1) (by omega)).2) ?_
          refine wt_iload_4 (pc := 49) hc dX11_cheapest_49 ?_
          refine bz_iald (pc := 51) ((c0 + 1 + (c - 1))) (r) (D0 (c0 + 1 + (c - 1)) r) hE (by omega) hc ((Kr ((c - 1)) (by omega)).1) dX11_cheapest_51 (rfl) (by omega) (by omega) (congrFun (sp_fill_row (by omega)) r) ?_
          refine bz_iast (pc := 52) ((c0 + 1 + c)) (r) hE (by omega) hc ((Kr c (by omega)).1) dX11_cheapest_52 (rfl) (by omega) (by omega) ?_
          refine bz_eq (D := sp_fill D0 (c0 + 1 + c) (r + 1) (fun j => D0 (c0 + 1 + (c - 1)) j)) (sp_fill_to rfl) ?_
          refine wt_iinc_4 (pc := 53) (v := nI (r + 1)) hc dX11_cheapest_53 (nI_add r 1) rfl ?_
          refine wt_goto (pc := 56) 28 hc dX11_cheapest_56 (by decide) ?_
          exact ih (r + 1) hc1 hc2 (by omega) hend
  have pass : ∀ (D0 : wt_It) (c n o : Nat) (Q' : wt_It), c < 28 → o + n = ow → cRq D0 M Q' ow → Q' 8 = M 8 → (∀ c', c' < c → ∀ j, j < 10 → D0 (c0 + 1 + c') j = Q' 62 (10 * c' + j)) → (wt_V G X 152 [some (.ref (S.2.1 1)), some (.ref (q (30 + p))), some (.ref (S.2.1 c0)), some (.int (nI c)), none] [] (cz G (bB S (sp_fill D0 (c0 + 1 + c) 10 (fun j => (if c = 0 then Q' else sp_co (c - 1) n o Q') 62 (10 * c + j))))) 0 0) → wt_V G X 62 [some (.ref (S.2.1 1)), some (.ref (q (30 + p))), some (.ref (S.2.1 c0)), some (.int (nI c)), some (.int (nI o))] [] (cz G (bB S (sp_fill D0 (c0 + 1 + c) 10 (fun j => Q' 62 (10 * c + j))))) 0 0 := by
    intro D0 c n
    induction n with
    | zero =>
      intro o Q' hc28 ho hR' h8 hrow hend
      rw [show (if c = 0 then Q' else sp_co (c - 1) 0 o Q') = Q' from by split <;> rfl] at hend
      refine wt_iload_4 (pc := 62) hc dX11_cheapest_62 ?_
      refine wt_aload_0 (pc := 64) hc dX11_cheapest_64 ?_
      refine cv_getr (pc := 65) (b := q 0) 11 hc cP3 (hW.n) dX11_cheapest_65 q497 (by decide) (Or.inl rfl) (fun _ _ _ => rfl) (hW.rx) ?_
      refine cv_getrN (pc := 68) (b := q 1) 0 hc cP0 (hY.kx) dX11_cheapest_68 q241 (by decide) (Or.inl rfl) (fun _ _ _ => rfl) (hY.xc) ?_
      refine cv_getrN (pc := 71) (b := q 4) 2 hc cP1 (hY.c) dX11_cheapest_71 q199 (by decide) (Or.inl rfl) (fun _ _ _ => rfl) (hY.co) ?_
      refine wt_gofn (wt_invF (pc := 74) 0 hc cP11 (hY.os) (ct_sL (hY.ol _)) dX11_cheapest_74 rfl q528 q318 q320 q115 q322 (hX.F_J2_size) (by decide +kernel) rfl (by first | decide | omega) (by decide) (Nat.le_of_ble_eq_true rfl) rfl) ?_
      refine wt_nicmp_ge (pc := 79) 152 (o) (ow) hc dX11_cheapest_79 (by decide) (by omega) (by omega) (fun c_79 => ?_) (fun c_79 => ?_)
      · exact wt_drop hend ⟨rfl, rfl, rfl, rfl, trivial⟩
      · omega
    | succ n ih =>
      intro o Q' hc28 ho hR' h8 hrow hend
      obtain ⟨k, hk, ek⟩ := hkd o (by omega)
      obtain ⟨wl, hwl, e9, -⟩ := hY.way o (by omega)
      have ek' : Q' 8 o = nI k := by rw [h8]; exact ek
      refine wt_iload_4 (pc := 62) hc dX11_cheapest_62 ?_
      refine wt_aload_0 (pc := 64) hc dX11_cheapest_64 ?_
      refine cv_getr (pc := 65) (b := q 0) 11 hc cP3 (hW.n) dX11_cheapest_65 q497 (by decide) (Or.inl rfl) (fun _ _ _ => rfl) (hW.rx) ?_
      refine cv_getrN (pc := 68) (b := q 1) 0 hc cP0 (hY.kx) dX11_cheapest_68 q241 (by decide) (Or.inl rfl) (fun _ _ _ => rfl) (hY.xc) ?_
      refine cv_getrN (pc := 71) (b := q 4) 2 hc cP1 (hY.c) dX11_cheapest_71 q199 (by decide) (Or.inl rfl) (fun _ _ _ => rfl) (hY.co) ?_
      refine wt_gofn (wt_invF (pc := 74) 0 hc cP11 (hY.os) (ct_sL (hY.ol _)) dX11_cheapest_74 rfl q528 q318 q320 q115 q322 (hX.F_J2_size) (by decide +kernel) rfl (by first | decide | omega) (by decide) (Nat.le_of_ble_eq_true rfl) rfl) ?_
      refine wt_nicmp_ge (pc := 79) 152 (o) (ow) hc dX11_cheapest_79 (by decide) (by omega) (by omega) (fun c_79 => ?_) (fun c_79 => ?_)
      · omega
      · refine wt_aload_0 (pc := 82) hc dX11_cheapest_82 ?_
        refine cv_getr (pc := 83) (b := q 0) 11 hc cP3 (hW.n) dX11_cheapest_83 q497 (by decide) (Or.inl rfl) (fun _ _ _ => rfl) (hW.rx) ?_
        refine cv_getrN (pc := 86) (b := q 1) 0 hc cP0 (hY.kx) dX11_cheapest_86 q241 (by decide) (Or.inl rfl) (fun _ _ _ => rfl) (hY.xc) ?_
        refine cv_getrN (pc := 89) (b := q 4) 2 hc cP1 (hY.c) dX11_cheapest_89 q199 (by decide) (Or.inl rfl) (fun _ _ _ => rfl) (hY.co) ?_
        refine wt_iload_4 (pc := 92) hc dX11_cheapest_92 ?_
        refine wt_gofr (wt_invF (pc := 94) 1 hc cP11 (hY.os) (ct_gL (hY.ol _) (by omega)) dX11_cheapest_94 rfl q530 q449 q451 q115 q453 (hX.F_J2_get) (by decide +kernel) rfl (by first | decide | omega) (by decide) (Nat.le_of_ble_eq_true rfl) rfl) ?_
        refine cv_castS (pc := 99) hc cP2 (hY.ok o (by omega)) dX11_cheapest_99 q531 ?_
        refine wt_gofn (wt_invV (pc := 102) 0 hc (ct_X6_fare (q (20 + o)) _ _ wl _ (hY.wo o (by omega) e9 hwl _)) dX11_cheapest_102 rfl (fun s H => cz_recv cP2 (hY.ok o (by omega)) s H) q1435 q1436 q1437 q129 q1438 (by decide +kernel) rfl (by first | decide | omega) (by decide) (Nat.le_of_ble_eq_true rfl) rfl) ?_
        refine wt_topi (z := nI (k + 1)) (by rw [ek]; exact nI_add k 1) ?_
        refine wt_iload_3 (pc := 105) hc dX11_cheapest_105 ?_
        refine wt_nicmp_gt (pc := 106) 146 (k + 1) (c) hc dX11_cheapest_106 (by decide) (by omega) (by omega) (fun c_106 => ?_) (fun c_106 => ?_)
        · have e : (if c = 0 then Q' else sp_co (c - 1) (n + 1) o Q') = (if c = 0 then Q' else sp_co (c - 1) n (o + 1) Q') := by
            by_cases h0 : c = 0
            · rw [if_pos h0, if_pos h0]
            · rw [if_neg h0, if_neg h0, sp_co, ek', if_neg (nI_ge (by omega) (by omega))]
          rw [e] at hend
          refine wt_iinc_4 (pc := 146) (v := nI (o + 1)) hc dX11_cheapest_146 (nI_add o 1) rfl ?_
          refine wt_goto (pc := 149) 62 hc dX11_cheapest_149 (by decide) ?_
          exact ih (o + 1) Q' hc28 (by omega) hR' h8 hrow hend
        · have h0 : ¬ c = 0 := by omega
          have e : (if c = 0 then Q' else sp_co (c - 1) (n + 1) o Q') = sp_co (c - 1) n (o + 1) (sp_takes Q' 62 (10 * (c - 1 - k)) 62 (10 * c) o).1 := by
            rw [if_neg h0, sp_co, ek', if_pos (nI_le (by omega) (by omega)), nn_nI (by omega), show 10 * (c - 1) + 10 = 10 * c by omega]
          rw [e] at hend
          have hR2 : cRq (sp_fill D0 (c0 + 1 + c) 10 (fun j => Q' 62 (10 * c + j))) M Q' ow := hR'.d how (fun k hk => sp_fill_row (by omega))
          refine wt_aload_0 (pc := 109) hc dX11_cheapest_109 ?_
          refine wt_iload_4 (pc := 110) hc dX11_cheapest_110 ?_
          refine wt_aload_2 (pc := 112) hc dX11_cheapest_112 ?_
          refine wt_iload_3 (pc := 113) hc dX11_cheapest_113 ?_
          refine wt_aload_0 (pc := 114) hc dX11_cheapest_114 ?_
          refine cv_getr (pc := 115) (b := q 0) 11 hc cP3 (hW.n) dX11_cheapest_115 q497 (by decide) (Or.inl rfl) (fun _ _ _ => rfl) (hW.rx) ?_
          refine cv_getrN (pc := 118) (b := q 1) 0 hc cP0 (hY.kx) dX11_cheapest_118 q241 (by decide) (Or.inl rfl) (fun _ _ _ => rfl) (hY.xc) ?_
          refine cv_getrN (pc := 121) (b := q 4) 2 hc cP1 (hY.c) dX11_cheapest_121 q199 (by decide) (Or.inl rfl) (fun _ _ _ => rfl) (hY.co) ?_
          refine wt_iload_4 (pc := 124) hc dX11_cheapest_124 ?_
          refine wt_gofr (wt_invF (pc := 126) 1 hc cP11 (hY.os) (ct_gL (hY.ol _) (by omega)) dX11_cheapest_126 rfl q530 q449 q451 q115 q453 (hX.F_J2_get) (by decide +kernel) rfl (by first | decide | omega) (by decide) (Nat.le_of_ble_eq_true rfl) rfl) ?_
          refine cv_castS (pc := 131) hc cP2 (hY.ok o (by omega)) dX11_cheapest_131 q531 ?_
          refine wt_gofn (wt_invV (pc := 134) 0 hc (ct_X6_fare (q (20 + o)) _ _ wl _ (hY.wo o (by omega) e9 hwl _)) dX11_cheapest_134 rfl (fun s H => cz_recv cP2 (hY.ok o (by omega)) s H) q1435 q1436 q1437 q129 q1438 (by decide +kernel) rfl (by first | decide | omega) (by decide) (Nat.le_of_ble_eq_true rfl) rfl) ?_
          refine wt_topi (z := nI (k + 1)) (by rw [ek]; exact nI_add k 1) ?_
          refine wt_isub (pc := 137) hc dX11_cheapest_137 ?_
          rw [pk_sub (a := c) (b := k + 1) (by omega)]
          refine cv_aaldr (pc := 138) (b := S.2.1 (c0 + 1 + (c - (k + 1)))) (c - (k + 1)) hc (K0) (by decide) dX11_cheapest_138 (rfl) (by omega) (by omega) ((Kr (c - (k + 1)) (by omega)).2) ?_
          refine wt_aload_2 (pc := 139) hc dX11_cheapest_139 ?_
          refine wt_iload_3 (pc := 140) hc dX11_cheapest_140 ?_
          refine cv_aaldr (pc := 141) (b := S.2.1 (c0 + 1 + c)) (c) hc (K0) (by decide) dX11_cheapest_141 (rfl) (by omega) (by omega) ((Kr c (by omega)).2) ?_
          refine wt_gofn (wt_invV (pc := 142) 3 hc (ct_X11_ride hX 62 (10 * (c - 1 - k)) 62 (10 * c) o (c0 + 1 + (c - (k + 1))) (c0 + 1 + c) hE hN hW hY (by omega) hR2 (by omega) (by omega) (by omega) (Kr _ (by omega)).1 (Kr c hc28).1 (fun i j hi hj => ⟨fun z => by omega, fun z => by omega⟩) (fun j hj => (congrFun (sp_fill_row (by omega)) j).trans ((hrow _ (by omega) j hj).trans (by rw [show c - (k + 1) = c - 1 - k by omega]))) (fun j hj => if_pos ⟨rfl, hj⟩) (by decide)) dX11_cheapest_142 rfl (fun s H => cz_recv cP3 (hW.n) s H) q660 q662 qs13 q143 q663 (by decide +kernel) rfl (by first | decide | omega) (by decide) (Nat.le_of_ble_eq_true rfl) rfl) ?_
          refine bz_eq cf_ff ?_
          refine wt_pop (pc := 145) hc dX11_cheapest_145 rfl ?_
          refine wt_iinc_4 (pc := 146) (v := nI (o + 1)) hc dX11_cheapest_146 (nI_add o 1) rfl ?_
          refine wt_goto (pc := 149) 62 hc dX11_cheapest_149 (by decide) ?_
          refine ih (o + 1) (sp_takes Q' 62 (10 * (c - 1 - k)) 62 (10 * c) o).1 hc28 (by omega) (hR'.r6 (sp_R6.takes Q' _ _ _ _ o (Or.inr rfl))) ((sp_takes_row (by decide)).trans h8) (fun c' hc' j hj => (hrow c' hc' j hj).trans (sp_takes_lo (by omega)).symm) ?_
          rw [if_neg h0]
          exact hend
  have step : ∀ (c n : Nat) (Q' D' : wt_It), c + n = 27 → cRq D' M Q' ow → Q' 8 = M 8 → (∀ k, k < c0 → D' k = D k) → (∀ c', c' < c → ∀ j, j < 10 → D' (c0 + 1 + c') j = Q' 62 (10 * c' + j)) → (c = 0 → ∀ j, j < 10 → Q' 62 (10 * c + j) = sp_waits Q p 60 60 (0 + j)) → v0 = cf_ck (M 0 6) b ow (n + 1) c (if c = 0 then Q' else sp_co (c - 1) ow 0 (sp_c10 Q' (c - 1) 10)) → (∀ Q2 D2, n ≠ 0 → cRq D2 M Q2 ow → Q2 8 = M 8 → (∀ k, k < c0 → D2 k = D k) → (∀ c', c' < c + 1 → ∀ j, j < 10 → D2 (c0 + 1 + c') j = Q2 62 (10 * c' + j)) → v0 = cf_ck (M 0 6) b ow n (c + 1) (sp_co c ow 0 (sp_c10 Q2 c 10)) → wt_V G X 11 [some (.ref (S.2.1 1)), some (.ref (q (30 + p))), some (.ref (S.2.1 c0)), some (.int (nI (c + 1))), none] [] (cz G (bB S D2)) 0 0) → wt_V G X 11 [some (.ref (S.2.1 1)), some (.ref (q (30 + p))), some (.ref (S.2.1 c0)), some (.int (nI c)), none] [] (cz G (bB S D')) 0 0 := by
    intro c n Q' D' hn hR' h8 hD hrow h00 hv hnext
    have hc28 : c < 28 := by omega
    refine wt_iload_3 (pc := 11) hc dX11_cheapest_11 ?_
    refine wt_bipush (pc := 12) (v := nI 27) hc dX11_cheapest_12 (by decide) ?_
    refine wt_nicmp_gt (pc := 14) 180 (c) (27) hc dX11_cheapest_14 (by decide) (by omega) (by omega) (fun c_14 => ?_) (fun c_14 => ?_)
    · omega
    refine wt_aload_0 (pc := 17) hc dX11_cheapest_17 ?_
    refine wt_aload_2 (pc := 18) hc dX11_cheapest_18 ?_
    refine wt_iload_3 (pc := 19) hc dX11_cheapest_19 ?_
    refine cv_aaldr (pc := 20) (b := S.2.1 (c0 + 1 + c)) (c) hc (K0) (by decide) dX11_cheapest_20 (rfl) (by omega) (by omega) ((Kr c (by omega)).2) ?_
    refine wt_aload_1 (pc := 21) hc dX11_cheapest_21 ?_
    refine wt_gov (wt_invV (pc := 22) 2 hc (ct_X11_begin (q (30 + p)) (c0 + 1 + c) hE (by omega) (Kr c hc28).1 (hY.rk p hp) (fun E k hk => (hY.rif E p k hp hk).trans (hY.rif _ p k hp hk).symm)) dX11_cheapest_22 rfl (fun s H => cz_recv cP3 (hW.n) s H) q655 q657 qs12 q143 q658 (by decide +kernel) rfl (by first | decide | omega) (by decide) (Nat.le_of_ble_eq_true rfl) rfl) (Nat.zero_le _) (Nat.zero_le _) ?_
    refine bz_eq (cf_waits (p := p) ea' (by omega) ((hY.rif _ p 0 hp (by omega)).trans ea) ((hY.rif _ p 2 hp (by omega)).trans (congrFun hR.2.2.1 _).symm) (c0 + 1 + c)) ?_
    refine wt_iconst (pc := 25) (v := nI 0) hc dX11_cheapest_25 (by decide) ?_
    refine wt_istore_4 (pc := 26) hc dX11_cheapest_26 rfl ?_
    generalize hD1 : sp_fill D' (c0 + 1 + c) 10 (fun j => sp_waits Q p 60 60 (0 + j)) = D1
    have d1 : ∀ k, k ≠ c0 + 1 + c → D1 k = D' k := fun k hk => by rw [← hD1]; exact sp_fill_row hk
    have hR1 : cRq D1 M Q' ow := hR'.d how (fun k hk => d1 k (by omega))
    -- the rides of this fare, and what is then
    have rest : ∀ Qp : wt_It, cRq D1 M Qp ow → Qp 8 = M 8 → (∀ c', c' < c → ∀ j, j < 10 → Qp 62 (10 * c' + j) = Q' 62 (10 * c' + j)) → (v0 = cf_ck (M 0 6) b ow (n + 1) c (if c = 0 then Qp else sp_co (c - 1) ow 0 Qp)) → wt_V G X 62 [some (.ref (S.2.1 1)), some (.ref (q (30 + p))), some (.ref (S.2.1 c0)), some (.int (nI c)), some (.int (nI 0))] [] (cz G (bB S (sp_fill D1 (c0 + 1 + c) 10 (fun j => Qp 62 (10 * c + j))))) 0 0 := by
      intro Qp hRp h8p hlo hw
      have hrp : ∀ c', c' < c → ∀ j, j < 10 → D1 (c0 + 1 + c') j = Qp 62 (10 * c' + j) := fun c' hc' j hj => by
        rw [d1 _ (by omega), hlo c' hc' j hj]
        exact hrow c' hc' j hj
      refine pass D1 c ow 0 Qp hc28 (by omega) hRp h8p hrp ?_
      have hRc : cRq D1 M (if c = 0 then Qp else sp_co (c - 1) ow 0 Qp) ow := by
        by_cases h0 : c = 0
        · rw [if_pos h0]; exact hRp
        · rw [if_neg h0]; exact hRp.r6 (sp_R6.co _ _ _ _)
      have h8c : (if c = 0 then Qp else sp_co (c - 1) ow 0 Qp) 8 = M 8 := by
        by_cases h0 : c = 0
        · rw [if_pos h0]; exact h8p
        · rw [if_neg h0]; exact (sp_R6.co _ _ _ _ 8 (by decide) (by decide) (by decide)).trans h8p
      have hloc : ∀ c', c' < c → ∀ j, j < 10 → (if c = 0 then Qp else sp_co (c - 1) ow 0 Qp) 62 (10 * c' + j) = Qp 62 (10 * c' + j) := fun c' hc' j hj => by
        rw [if_neg (by omega)]
        exact sp_co_lo _ _ (by omega) _ _ _
      generalize (if c = 0 then Qp else sp_co (c - 1) ow 0 Qp) = Qc at hw hRc h8c hloc ⊢
      have hrc : ∀ c', c' < c + 1 → ∀ j, j < 10 → sp_fill D1 (c0 + 1 + c) 10 (fun j => Qc 62 (10 * c + j)) (c0 + 1 + c') j = Qc 62 (10 * c' + j) := fun c' hc' j hj => by
        by_cases e : c' = c
        · rw [e]; exact if_pos ⟨rfl, hj⟩
        · rw [sp_fill_row (by omega), hloc c' (by omega) j hj]
          exact hrp c' (by omega) j hj
      have hDc : ∀ k, k < c0 → sp_fill D1 (c0 + 1 + c) 10 (fun j => Qc 62 (10 * c + j)) k = D k := fun k hk => by
        rw [sp_fill_row (by omega), d1 k (by omega)]
        exact hD k hk
      have hRd : cRq (sp_fill D1 (c0 + 1 + c) 10 (fun j => Qc 62 (10 * c + j))) M Qc ow := hRc.d how (fun k hk => sp_fill_row (by omega))
      rw [cf_ck] at hw
      refine wt_aload_2 (pc := 152) hc dX11_cheapest_152 ?_
      refine wt_iload_3 (pc := 153) hc dX11_cheapest_153 ?_
      refine cv_aaldr (pc := 154) (b := S.2.1 (c0 + 1 + c)) (c) hc (K0) (by decide) dX11_cheapest_154 (rfl) (by omega) (by omega) ((Kr c (by omega)).2) ?_
      refine wt_aload_1 (pc := 155) hc dX11_cheapest_155 ?_
      refine wt_iconst (pc := 156) (v := nI 1) hc dX11_cheapest_156 (by decide) ?_
      refine cv_iald (pc := 157) (1) (nI b) hc (hY.rk p (by omega)) dX11_cheapest_157 (rfl) (by omega) (by omega) ((hY.rif _ p 1 hp (by omega)).trans eb) ?_
      refine bz_iald (pc := 158) ((c0 + 1 + c)) (b) (Qc 62 (10 * c + b)) hE (by omega) hc ((Kr c (by omega)).1) dX11_cheapest_158 (rfl) (by omega) (by omega) (hrc c (by omega) b (by omega)) ?_
      refine wt_aload_0 (pc := 159) hc dX11_cheapest_159 ?_
      refine cv_getr (pc := 160) (b := q 0) 11 hc cP3 (hW.n) dX11_cheapest_160 q497 (by decide) (Or.inl rfl) (fun _ _ _ => rfl) (hW.rx) ?_
      refine cv_getrN (pc := 163) (b := q 1) 0 hc cP0 (hY.kx) dX11_cheapest_163 q241 (by decide) (Or.inl rfl) (fun _ _ _ => rfl) (hY.xc) ?_
      refine cv_getiN (pc := 166) 7 (M 0 6) hc cP1 (hY.c) dX11_cheapest_166 q218 (by decide) (Or.inl rfl) (fun _ _ _ => rfl) (hY.da _) ?_
      refine wt_icmp_gt (pc := 169) 174 hc dX11_cheapest_169 (by decide) (fun c_169 => ?_) (fun c_169 => ?_)
      · rw [if_neg (Int32.not_le.mpr c_169)] at hw
        by_cases hn0 : n = 0
        · rw [if_pos hn0] at hw
          obtain rfl : c = 27 := by omega
          refine wt_iinc_3 (pc := 174) (v := nI 28) hc dX11_cheapest_174 (by decide) rfl ?_
          refine wt_goto (pc := 177) 11 hc dX11_cheapest_177 (by decide) ?_
          refine wt_iload_3 (pc := 11) hc dX11_cheapest_11 ?_
          refine wt_bipush (pc := 12) (v := nI 27) hc dX11_cheapest_12 (by decide) ?_
          refine wt_nicmp_gt (pc := 14) 180 (28) (27) hc dX11_cheapest_14 (by decide) (by omega) (by omega) (fun c_14 => ?_) (fun c_14 => ?_)
          · refine wt_ldc (pc := 180) (v := nI 1000000) hc dX11_cheapest_180 q659 ?_
            exact wt_iret (pc := 182) hc hok dX11_cheapest_182 (rfl) (fun H hZ => ⟨by rw [hw], hend _ H hDc hZ⟩)
          · omega
        · rw [if_neg hn0] at hw
          refine wt_iinc_3 (pc := 174) (v := nI (c + 1)) hc dX11_cheapest_174 (nI_add c 1) rfl ?_
          refine wt_goto (pc := 177) 11 hc dX11_cheapest_177 (by decide) ?_
          exact wt_drop (hnext Qc _ hn0 hRd h8c hDc hrc hw) ⟨rfl, rfl, rfl, rfl, trivial⟩
      · rw [if_pos (Int32.not_lt.mp c_169)] at hw
        refine wt_iload_3 (pc := 172) hc dX11_cheapest_172 ?_
        exact wt_iret (pc := 173) hc hok dX11_cheapest_173 (rfl) (fun H hZ => ⟨by rw [hw], hend _ H hDc hZ⟩)
    by_cases h0 : c = 0
    · rw [if_pos h0] at hv
      subst h0
      refine wt_iload_4 (pc := 28) hc dX11_cheapest_28 ?_
      refine wt_bipush (pc := 30) (v := nI 10) hc dX11_cheapest_30 (by decide) ?_
      refine wt_nicmp_ge (pc := 32) 59 (0) (10) hc dX11_cheapest_32 (by decide) (by omega) (by omega) (fun c_32 => ?_) (fun c_32 => ?_)
      · omega
      refine wt_iload_3 (pc := 35) hc dX11_cheapest_35 ?_
      refine wt_if_le (pc := 36) 59 hc dX11_cheapest_36 (by decide) (fun _ => ?_) (fun z => absurd z (by decide))
      refine wt_iconst (pc := 59) (v := nI 0) hc dX11_cheapest_59 (by decide) ?_
      refine wt_istore_4 (pc := 60) hc dX11_cheapest_60 rfl ?_
      refine bz_eq (D := sp_fill D1 (c0 + 1 + 0) 10 (fun j => Q' 62 (10 * 0 + j))) ?_ (rest Q' hR1 h8 (fun _ _ _ _ => rfl) (by rw [if_pos rfl]; exact hv))
      rw [← hD1, cf_ff]
      exact cf_fext (fun j hj => (h00 rfl j hj).symm)
    · rw [if_neg h0] at hv
      refine bz_eq (sp_fill_0 D1 (c0 + 1 + c) (fun j => D1 (c0 + 1 + (c - 1)) j)).symm ?_
      refine copy D1 c 10 0 (by omega) hc28 (by omega) ?_
      refine wt_iconst (pc := 59) (v := nI 0) hc dX11_cheapest_59 (by decide) ?_
      refine wt_istore_4 (pc := 60) hc dX11_cheapest_60 rfl ?_
      have hcr : sp_R6 Q' (sp_c10 Q' (c - 1) 10) := fun k _ _ h => sp_c10_row h
      refine bz_eq (D := sp_fill D1 (c0 + 1 + c) 10 (fun j => sp_c10 Q' (c - 1) 10 62 (10 * c + j))) (cf_fext (fun j hj => ?_)) (rest (sp_c10 Q' (c - 1) 10) (hR1.r6 hcr) ((sp_c10_row (by decide)).trans h8) (fun c' hc' j hj => sp_c10_lo (by omega)) (by rw [if_neg h0]; exact hv))
      rw [d1 _ (by omega), hrow (c - 1) (by omega) j hj, show 10 * c + j = 10 * (c - 1) + 10 + j by omega]
      exact (sp_c10_at hj).symm
  have outer : ∀ (n c : Nat) (Q' D' : wt_It), c + 1 + n = 27 → cRq D' M Q' ow → Q' 8 = M 8 → (∀ k, k < c0 → D' k = D k) → (∀ c', c' < c + 1 → ∀ j, j < 10 → D' (c0 + 1 + c') j = Q' 62 (10 * c' + j)) → v0 = cf_ck (M 0 6) b ow (n + 1) (c + 1) (sp_co c ow 0 (sp_c10 Q' c 10)) → wt_V G X 11 [some (.ref (S.2.1 1)), some (.ref (q (30 + p))), some (.ref (S.2.1 c0)), some (.int (nI (c + 1))), none] [] (cz G (bB S D')) 0 0 := by
    intro n
    induction n with
    | zero => intro c Q' D' hc h1 h2 h3 h4 hv; exact step (c + 1) 0 Q' D' (by omega) h1 h2 h3 h4 (fun z => by omega) (by rw [if_neg (by omega)]; exact hv) (fun _ _ z => absurd rfl z)
    | succ n ih => intro c Q' D' hc h1 h2 h3 h4 hv; exact step (c + 1) (n + 1) Q' D' (by omega) h1 h2 h3 h4 (fun z => by omega) (by rw [if_neg (by omega)]; exact hv) (fun Q2 D2 _ g1 g2 g3 g4 g5 => ih (c + 1) Q2 D2 (by omega) g1 g2 g3 g4 g5)
  have hcp : sp_R6 Q (sp_cp0 Q p) := (sp_R6.waits Q p).tr (fun k _ _ h => sp_fill_row h)
  refine wt_iconst (pc := 9) (v := nI 0) hc dX11_cheapest_9 (by decide) ?_
  refine wt_istore_3 (pc := 10) hc dX11_cheapest_10 rfl ?_
  exact step 0 27 (sp_cp0 Q p) D (by omega) (hR.r6 hcp) ((hcp 8 (by decide) (by decide) (by decide)).trans q8) (fun _ _ => rfl) (fun c' h => by omega) (fun _ j hj => (if_pos ⟨rfl, by omega⟩).trans (by rw [show 10 * 0 + j = 0 + j by omega])) (by rw [if_pos rfl]; exact hv0) (fun Q2 D2 _ g1 g2 g3 g4 g5 => outer 26 0 Q2 D2 (by omega) g1 g2 g3 g4 g5)
theorem ct_X11_cheapest (hX : cX G) (hAO : cAO G) (p : Nat) (hF : bF G S NB) (hN : 19 ≤ NB) (hW : cW S (q 0)) (hY : cYS S M q ro ow ri ru) (hkd : sp_kd M ow) (hp : p < ri) (b : Nat) (hb : b < ro) (eb : M 11 (4 * p + 1) = nI b) (hR : cRq D M Q ow) (q8 : Q 8 = M 8) : wt_Ct l G yX11_cheapest cX11_cheapest 5 (some .int) 6 29 308 [.ref (S.2.1 1), .ref (q (30 + p))] (cz G (bB S D)) (wt_fn (cf_ck (M 0 6) b ow 28 0 (sp_cp0 Q p)) (cz G (bB S D))) := by
  have how := hY.b5
  refine wt_enter [some (.ref (S.2.1 1)), some (.ref (q (30 + p))), none, none, none] (by decide +kernel) rfl (Nat.le_of_ble_eq_true rfl) (fun X hc hok => ?_)
  refine wt_bipush (pc := 0) (v := nI 28) hc dX11_cheapest_0 (by decide) ?_
  refine wt_bipush (pc := 2) (v := nI 10) hc dX11_cheapest_2 (by decide) ?_
  refine bz_multi (pc := 4) hF hc hAO dX11_cheapest_4 q473 (by decide) (by decide) (by decide) (by decide) (fun a ha hf => ?_)
  have hF1 := bM_F (n := 28) (k := 10) hF ha hf
  refine wt_astore_2 (pc := 8) hc dX11_cheapest_8 rfl ?_
  have e1 : (bM S NB a 28 10).2.1 1 = S.2.1 1 := if_neg (by omega)
  have ea : (bM S NB a 28 10).2.1 NB = a := (if_pos (Nat.le_refl _)).trans (by omega)
  have er : ∀ c, (bM S NB a 28 10).2.1 (NB + 1 + c) = a + 1 + c := fun c => (if_pos (by omega)).trans (by omega)
  have hW2 := hW.m (n := 28) (k := 10) hF hN hf
  have hY2 := hY.mm (n := 28) (k := 10) (N := NB) (by omega) hf
  have hD2 : ∀ k, k < NB → bMD D NB 28 k = D k := fun k hk => if_neg (by omega)
  have key := cf_cheap (D := bMD D NB 28) (Q := Q) hc hX p NB _ hok hF1.1 (by omega) hN (by omega) (by rw [ea]; exact if_pos rfl) (fun c hcc => ⟨by rw [er]; exact (if_neg (by omega)).trans (if_pos ⟨by omega, by omega⟩), by rw [ea, er]; exact (congrFun (if_pos rfl : (bM S NB a 28 10).2.2.2.2.1 a = _) c).trans (if_pos hcc)⟩) hW2 hY2 hkd hp b hb eb (hR.d how (fun k hk => hD2 k (by omega))) rfl q8 (fun D' H hD hz => ?_)
  · rw [e1, ea] at key
    exact wt_less (Nat.zero_le _) (Nat.zero_le _) key
  · have hz1 := bM_forget hf hz
    rw [bB_ext hF.1 (fun j hj => (hD j (by omega)).trans (hD2 j hj))] at hz1
    exact hz1
end NH
