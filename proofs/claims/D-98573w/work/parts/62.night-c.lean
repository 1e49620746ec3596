/-! CLASSES: a night is run, owls are ridden -/
set_option maxRecDepth 100000
/-- what a night is behind its run: Q the reference's memory behind its own, D the ints ahead of it -/
def cRn (D D' Q : wt_It) (ro ow : Nat) : Prop := (∀ r, r < ro → D' 3 r = Q 56 r) ∧ (∀ o, o < ow → D' 4 o = Q 57 o) ∧ (∀ o, o < ow → ¬ Q 47 3 >>> (nI o &&& 31) &&& 1 = 1 → ∀ i, i < nn (Q 9 o) → D' (7 + o) i = Q 54 (8 * o + i) ∧ D' (13 + o) i = Q 55 (8 * o + i)) ∧ ∀ k, k = 1 ∨ k = 2 ∨ 18 ≤ k → D' k = D k
def cI2 (D0 D' M : wt_It) (o : Nat) : Prop := (∀ k, k ≠ 4 → k ≠ 5 → (k < 7 ∨ 12 ≤ k) → D' k = D0 k) ∧ ∀ o', o' < o → D' 4 o' = nI 0 ∧ D' 5 o' = nI 0 ∧ D' (7 + o') 0 = M 47 (14 + o')
theorem cI2.step {D0 D' M : wt_It} {o : Nat} (h : cI2 D0 D' M o) (ho : o < 5) : cI2 D0 (wt_up2 (wt_up2 (wt_up2 D' 5 o (nI 0)) 4 o (nI 0)) (7 + o) 0 (M 47 (14 + o))) M (o + 1) := by
  obtain ⟨h1, h2⟩ := h
  refine ⟨fun k k4 k5 k7 => ?_, fun o' ho' => ?_⟩
  · rw [wt_up2_row (by omega), wt_up2_row k4, wt_up2_row k5]
    exact h1 k k4 k5 k7
  · by_cases e : o' = o
    · subst e
      refine ⟨?_, ?_, wt_up2_self _ _ _ _⟩
      · rw [wt_up2_ne (fun z => absurd z.1 (by omega)), wt_up2_self]
      · rw [wt_up2_ne (fun z => absurd z.1 (by omega)), wt_up2_ne (fun z => absurd z.1 (by omega)), wt_up2_self]
    · obtain ⟨g1, g2, g3⟩ := h2 o' (by omega)
      refine ⟨?_, ?_, ?_⟩
      · rw [wt_up2_ne (fun z => absurd z.1 (by omega)), wt_up2_ne (fun z => e z.2), wt_up2_ne (fun z => absurd z.1 (by omega))]; exact g1
      · rw [wt_up2_ne (fun z => absurd z.1 (by omega)), wt_up2_ne (fun z => absurd z.1 (by omega)), wt_up2_ne (fun z => e z.2)]; exact g2
      · rw [wt_up2_ne (fun z => e (by omega)), wt_up2_ne (fun z => absurd z.1 (by omega)), wt_up2_ne (fun z => absurd z.1 (by omega))]; exact g3
theorem cLi.nok {D Q : wt_It} {ro ow : Nat} (h : cLi D Q ro ow) : sp_nok Q ow := by
  intro o ho
  obtain ⟨wl, h1, h2, h3⟩ := h.2.2 o ho
  rcases h3 with ⟨-, h4⟩ | ⟨-, a, h4, -, h5, -⟩
  · exact ⟨wl, wl, Nat.le_refl _, h1, h4, h2⟩
  · exact ⟨a, wl, h4, h1, h5, h2⟩
theorem sp_bs_none {M : wt_It} : ∀ n, n < 2 ^ 31 → sp_bs M n = -1 → ∀ o, o < n → M 9 o ≤ M 58 o := by
  intro n
  induction n with
  | zero => intro _ _ o h; omega
  | succ n ih =>
    intro hn31 h o ho
    rw [sp_bs] at h
    split at h
    · exact absurd h (sp_nI_m1 (by omega))
    · rename_i hn
      by_cases e : o = n
      · subst e
        exact Decidable.byContradiction fun z => hn ⟨z, Or.inl h⟩
      · exact ih (by omega) h o (by omega)
/-- a heap of a kind with some ints -/
theorem wt_exD {G : wt_G} {X : wt_X} {pc : Nat} {L : List (Option Value)} {st : List Value} {kc ks : Nat} {S : bS} {P : wt_It → Prop} (k : ∀ D, P D → wt_V G X pc L st (cz G (bB S D)) kc ks) : wt_V G X pc L st (fun H => ∃ D, P D ∧ cz G (bB S D) H) kc ks := by
  refine wt_ex (S := {D : wt_It // P D}) (Z' := fun u => cz G (bB S u.1)) (fun H h => ?_) (fun u => k u.1 u.2)
  obtain ⟨D, h1, h2⟩ := h
  exact ⟨⟨D, h1⟩, h2⟩
section NC
variable {l : Launch} {G : wt_G} {Z : Heap → Prop} {S : bS} {D M Q : wt_It} {NB ro ow ri ru : Nat} {q : Nat → Nat}
theorem ct_X11_run (hX : cX G) (hSt : cSt G) (hE : bE G S NB) (hN : 19 ≤ NB) (hW : cW S (q 0)) (hY : cYS S M q ro ow ri ru) (hF : cHu S M q ru) (hs : cSet D M Q ro ow ru) : wt_Ct l G yX11_run cX11_run 2 (some (.object "WingTrams$Night")) 103 0 0 [.ref (S.2.1 1)] (cz G (bB S D)) (wt_fr (S.2.1 1) (fun H => ∃ D', cRn D D' (sp_night Q) ro ow ∧ cz G (bB S D') H)) := by
  have how := hY.b5
  have hro := hY.b10
  have hs0 := hs
  obtain ⟨⟨s0, s1, s2, s3, s4, s5⟩, sg, sm, sz, sk⟩ := hs
  have ero : Q 0 1 = nI ro := (sz 1 (by decide)).trans hY.ero
  have eow : Q 0 3 = nI ow := (sz 3 (by decide)).trans hY.eow
  have eM : sp_ni Q = sp_n0 (sp_fill Q 56 ro (fun r => nI 2 * Q 47 (4 + r))) ow := by
    unfold sp_ni
    rw [ero, eow, nn_nI (by omega), nn_nI (by omega)]
  refine wt_enter [some (.ref (S.2.1 1)), none] (by decide +kernel) rfl (Nat.le_of_ble_eq_true rfl) (fun X hc hok => ?_)
  have main : ∀ (n : Nat) (D' Q' : wt_It), cLi D' Q' ro ow → cSet D' M Q' ro ow ru → sp_left Q' ow < n → Q' 0 3 = nI ow → Q' 9 = Q 9 → Q' 47 = Q 47 → (∀ k, k = 1 ∨ k = 2 ∨ 18 ≤ k → D' k = D k) → sp_nl n Q' = sp_night Q → wt_V G X 125 [some (.ref (S.2.1 1)), some (.int (sp_bs Q' ow))] [] (cz G (bB S D')) 0 0 := by
    intro n
    induction n with
    | zero => intro D' Q' _ _ h; omega
    | succ n ih =>
      intro D' Q' hL hs' hlt e03 e9q e47 hk hv
      rw [sp_nl, e03, nn_nI (by omega)] at hv
      rcases sp_bs_or Q' ow with hb | ⟨b, hb1, hb2, hb3⟩
      · rw [if_pos hb] at hv
        have hfin : cRn D D' Q' ro ow := by
          refine ⟨hL.1, hL.2.1, fun o ho hno i hi => ?_, hk⟩
          obtain ⟨wl, w1, w2, w3⟩ := hL.2.2 o ho
          rcases w3 with ⟨w4, -⟩ | ⟨-, a, w4, -, w5, -, w6⟩
          · exact absurd w4 hno
          · have h9 := sp_bs_none ow (by omega) hb o ho
            rw [w2, w5] at h9
            have : wl ≤ a := by
              rcases Nat.lt_or_ge a wl with z | z
              · exact absurd h9 (nI_ge z (by omega))
              · exact z
            rw [w2, nn_nI (by omega)] at hi
            exact w6 i (by omega)
        rw [hv] at hfin
        refine wt_iload_1 (pc := 125) hc dX11_run_125 ?_
        refine wt_iconst (pc := 126) (v := (-1 : Int32)) hc dX11_run_126 (by decide) ?_
        refine wt_icmp_eq (pc := 127) 143 hc dX11_run_127 (by decide) (fun c_127 => ?_) (fun c_127 => ?_)
        · refine wt_aload_0 (pc := 143) hc dX11_run_143 ?_
          exact wt_aret (pc := 144) hc hok dX11_run_144 (Or.inl ⟨_, rfl⟩) (fun H hZ => ⟨rfl, D', hfin, hZ⟩)
        · exact absurd hb c_127
      · rw [hb2, if_neg (sp_nI_m1 (by omega)), nn_nI (by omega)] at hv
        obtain ⟨wl, w1, w2, w3⟩ := hL.2.2 b hb1
        rcases w3 with ⟨w4, w5⟩ | ⟨w4, a, w5, w6, w7, w8, w9⟩
        · exact absurd (by rw [w2, w5]; exact Int32.le_refl _) hb3
        have halt : a < wl := by
          rcases Nat.lt_or_ge a wl with z | z
          · exact z
          · exact absurd (by rw [w2, w7]; exact nI_le z (by omega)) hb3
        have sk' := hs'.2.2.2.2
        have e9 : M 9 b = nI wl := by rw [← sk' 9 (by decide) (by decide) (by decide)]; exact w2
        obtain ⟨wl2, x1, x2, x3⟩ := hY.way b hb1
        have ew : wl2 = wl := (nI_eq (by omega) (by omega)).mp (x2.symm.trans e9)
        rw [ew] at x3
        obtain ⟨r, hr, er⟩ := x3 a halt
        have e10 : Q' 10 (8 * b + a) = nI r := by rw [sk' 10 (by decide) (by decide) (by decide)]; exact er
        rw [w7, nn_nI (by omega), e10, nn_nI (by omega)] at hv
        have hsm := sp_ns_same Q' b a r
        have hL' := hL.step how hb1 hr w1 halt w2 w4 w7
        have hs'' : cSet (cf_come D' Q' b a r) M (sp_ns Q' b a r) ro ow ru := hs'.step hsm ((cf_c2_row (by decide) (by omega) (by omega)).trans (cf_c1_row (by decide) (by decide) (by decide))) ((cf_c2_row (by decide) (by omega) (by omega)).trans (cf_c1_row (by decide) (by decide) (by decide)))
        have h9' := hsm 9 (by decide) (by decide) (by decide) (by decide) (by decide) (by decide) (by decide) (by decide)
        have h58' := sp_ns_58 Q' b a r
        have hlt' : sp_left (sp_ns Q' b a r) ow < sp_left Q' ow := sp_left_lt halt w1 w7 w2 (by rw [h58', if_pos rfl]) (by rw [h9']; exact w2) ow hb1 (fun o _ ho => ⟨congrFun h9' o, by rw [h58', if_neg ho]⟩)
        rw [hb2]
        refine wt_iload_1 (pc := 125) hc dX11_run_125 ?_
        refine wt_iconst (pc := 126) (v := (-1 : Int32)) hc dX11_run_126 (by decide) ?_
        refine wt_icmp_eq (pc := 127) 143 hc dX11_run_127 (by decide) (fun c_127 => ?_) (fun c_127 => ?_)
        · exact absurd c_127 (sp_nI_m1 (by omega))
        · refine wt_aload_0 (pc := 130) hc dX11_run_130 ?_
          refine wt_iload_1 (pc := 131) hc dX11_run_131 ?_
          refine wt_gov (wt_invV (pc := 132) 1 hc (ct_X11_come hX hSt b a wl r hE hN hW hY hF hs' hb1 w1 e9 halt hr er (hL.1 r hr) w7 w6 (w8 halt)) dX11_run_132 rfl (fun s H => cz_recv cP3 (hW.n) s H) q549 q551 qs8 q143 q552 (by decide +kernel) rfl (by first | decide | omega) (by decide) (Nat.le_of_ble_eq_true rfl) rfl) (Nat.zero_le _) (Nat.zero_le _) ?_
          refine wt_aload_0 (pc := 135) hc dX11_run_135 ?_
          refine wt_gofn (wt_invV (pc := 136) 0 hc (ct_X11_first hX hE hN hW hY hs'' hL') dX11_run_136 rfl (fun s H => cz_recv cP3 (hW.n) s H) q532 q534 qs7 q143 q535 (by decide +kernel) rfl (by first | decide | omega) (by decide) (Nat.le_of_ble_eq_true rfl) rfl) ?_
          refine wt_istore_1 (pc := 139) hc dX11_run_139 rfl ?_
          refine wt_goto (pc := 140) 125 hc dX11_run_140 (by decide) ?_
          exact ih _ _ hL' hs'' (by omega) ((congrFun (hsm 0 (by decide) (by decide) (by decide) (by decide) (by decide) (by decide) (by decide) (by decide)) 3).trans e03) (h9'.trans e9q) ((hsm 47 (by decide) (by decide) (by decide) (by decide) (by decide) (by decide) (by decide) (by decide)).trans e47) (fun k hk2 => ((cf_c2_row (by omega) (by omega) (by omega)).trans (cf_c1_row (by omega) (by omega) (by omega))).trans (hk k hk2)) hv
  have loop2 : ∀ (n o : Nat) (D1 D' : wt_It), (D1 = sp_fill D 3 ro (fun r => nI 2 * Q 47 (4 + r))) → cI2 D1 D' M o → o ≤ ow → ow - o < n → wt_V G X 51 [some (.ref (S.2.1 1)), some (.int (nI o))] [] (cz G (bB S D')) 0 0 := by
    intro n
    induction n with
    | zero => intro o D1 D' _ _ _ h; omega
    | succ n ih =>
      intro o D1 D' e1 hI ho hn
      refine wt_iload_1 (pc := 51) hc dX11_run_51 ?_
      refine wt_aload_0 (pc := 52) hc dX11_run_52 ?_
      refine cv_getr (pc := 53) (b := q 0) 11 hc cP3 (hW.n) dX11_run_53 q497 (by decide) (Or.inl rfl) (fun _ _ _ => rfl) (hW.rx) ?_
      refine cv_getrN (pc := 56) (b := q 1) 0 hc cP0 (hY.kx) dX11_run_56 q241 (by decide) (Or.inl rfl) (fun _ _ _ => rfl) (hY.xc) ?_
      refine cv_getrN (pc := 59) (b := q 4) 2 hc cP1 (hY.c) dX11_run_59 q199 (by decide) (Or.inl rfl) (fun _ _ _ => rfl) (hY.co) ?_
      refine wt_gofn (wt_invF (pc := 62) 0 hc cP11 (hY.os) (ct_sL (hY.ol _)) dX11_run_62 rfl q528 q318 q320 q115 q322 (hX.F_J2_size) (by decide +kernel) rfl (by first | decide | omega) (by decide) (Nat.le_of_ble_eq_true rfl) rfl) ?_
      refine wt_nicmp_ge (pc := 67) 120 (o) (ow) hc dX11_run_67 (by decide) (by omega) (by omega) (fun c_67 => ?_) (fun c_67 => ?_)
      · obtain rfl : ow = o := by omega
        have hsame : sp_same Q (sp_ni Q) := by
          rw [eM]
          intro k _ _ _ _ h56 h57 h58 h59
          unfold sp_n0
          rw [sp_fill_row h59, sp_fill_row h58, sp_fill_row h57, sp_fill_row h56]
        have hD : ∀ k, k = 1 ∨ k = 2 ∨ 18 ≤ k → D' k = D k := fun k hk => by
          rw [hI.1 k (by omega) (by omega) (by omega), e1, sp_fill_row (by omega)]
        have n9 := hsame 9 (by decide) (by decide) (by decide) (by decide) (by decide) (by decide) (by decide) (by decide)
        have n47 := hsame 47 (by decide) (by decide) (by decide) (by decide) (by decide) (by decide) (by decide) (by decide)
        have hLi : cLi D' (sp_ni Q) ro ow := by
          refine ⟨fun r hr => ?_, fun x hx => ?_, fun x hx => ?_⟩
          · rw [hI.1 3 (by decide) (by decide) (by decide), e1, eM]
            have l1 : sp_fill D 3 ro (fun r => nI 2 * Q 47 (4 + r)) 3 r = nI 2 * Q 47 (4 + r) := if_pos ⟨rfl, hr⟩
            rw [l1]
            unfold sp_n0
            rw [sp_fill_row (by decide), sp_fill_row (by decide), sp_fill_row (by decide)]
            exact (if_pos (c := 56 = 56 ∧ r < ro) ⟨rfl, hr⟩).symm
          · rw [(hI.2 x hx).1, eM]
            unfold sp_n0
            rw [sp_fill_row (by decide), sp_fill_row (by decide)]
            exact (if_pos (c := 57 = 57 ∧ x < ow) ⟨rfl, hx⟩).symm
          · obtain ⟨wl, w1, w2, -⟩ := hY.way x hx
            have w3 : Q 9 x = nI wl := by rw [sk 9 (by decide) (by decide) (by decide)]; exact w2
            have e58 : sp_ni Q 58 x = if Q 47 3 >>> (nI x &&& 31) &&& 1 = 1 then Q 9 x else nI 0 := by
              rw [eM]
              unfold sp_n0
              rw [sp_fill_row (by decide)]
              exact if_pos ⟨rfl, hx⟩
            have e59 : sp_ni Q 59 x = Q 47 (14 + x) := by
              rw [eM]
              exact if_pos ⟨rfl, hx⟩
            refine ⟨wl, w1, by rw [n9]; exact w3, ?_⟩
            rw [n47, e58]
            by_cases hb : Q 47 3 >>> (nI x &&& 31) &&& 1 = 1
            · exact Or.inl ⟨hb, by rw [if_pos hb]; exact w3⟩
            · refine Or.inr ⟨hb, 0, Nat.zero_le _, (hI.2 x hx).2.1, by rw [if_neg hb], fun _ => ?_, fun i hi => absurd hi (Nat.not_lt_zero _)⟩
              rw [(hI.2 x hx).2.2, e59, sm x hx]
        have hs' : cSet D' M (sp_ni Q) ro ow ru := hs0.step hsame (hD 1 (Or.inl rfl)) (hD 2 (Or.inr (Or.inl rfl)))
        refine wt_aload_0 (pc := 120) hc dX11_run_120 ?_
        refine wt_gofn (wt_invV (pc := 121) 0 hc (ct_X11_first hX hE hN hW hY hs' hLi) dX11_run_121 rfl (fun s H => cz_recv cP3 (hW.n) s H) q532 q534 qs7 q143 q535 (by decide +kernel) rfl (by first | decide | omega) (by decide) (Nat.le_of_ble_eq_true rfl) rfl) ?_
        refine wt_istore_1 (pc := 124) hc dX11_run_124 rfl ?_
        refine main 41 D' (sp_ni Q) hLi hs' ?_ ((congrFun (hsame 0 (by decide) (by decide) (by decide) (by decide) (by decide) (by decide) (by decide) (by decide)) 3).trans eow) n9 n47 hD rfl
        have := sp_left_le (sp_ni Q) ow hLi.nok
        omega
      · refine wt_aload_0 (pc := 70) hc dX11_run_70 ?_
        refine cv_getr (pc := 71) (b := S.2.1 5) 7 hc cP3 (hW.n) dX11_run_71 q488 (by decide) (Or.inl rfl) (fun _ _ _ => rfl) (hW.rnext) ?_
        refine wt_iload_1 (pc := 74) hc dX11_run_74 ?_
        refine wt_iconst (pc := 75) (v := nI 0) hc dX11_run_75 (by decide) ?_
        refine bz_iast (pc := 76) 5 (o) hE (by omega) hc (hW.next) dX11_run_76 (rfl) (by omega) (by omega) ?_
        refine wt_aload_0 (pc := 77) hc dX11_run_77 ?_
        refine cv_getr (pc := 78) (b := S.2.1 4) 6 hc cP3 (hW.n) dX11_run_78 q486 (by decide) (Or.inl rfl) (fun _ _ _ => rfl) (hW.rcaught) ?_
        refine wt_iload_1 (pc := 81) hc dX11_run_81 ?_
        refine wt_iconst (pc := 82) (v := nI 0) hc dX11_run_82 (by decide) ?_
        refine bz_iast (pc := 83) 4 (o) hE (by omega) hc (hW.caught) dX11_run_83 (rfl) (by omega) (by omega) ?_
        refine wt_aload_0 (pc := 84) hc dX11_run_84 ?_
        refine cv_getr (pc := 85) (b := S.2.1 6) 8 hc cP3 (hW.n) dX11_run_85 q489 (by decide) (Or.inl rfl) (fun _ _ _ => rfl) (hW.rcomes) ?_
        refine wt_iload_1 (pc := 88) hc dX11_run_88 ?_
        refine cv_aaldr (pc := 89) (b := S.2.1 (7 + o)) (o) hc (hW.comes) (by decide) dX11_run_89 (rfl) (by omega) (by omega) (hW.cr o (by omega)) ?_
        refine wt_iconst (pc := 90) (v := nI 0) hc dX11_run_90 (by decide) ?_
        refine wt_aload_0 (pc := 91) hc dX11_run_91 ?_
        refine cv_getr (pc := 92) (b := q 0) 11 hc cP3 (hW.n) dX11_run_92 q497 (by decide) (Or.inl rfl) (fun _ _ _ => rfl) (hW.rx) ?_
        refine cv_getrN (pc := 95) (b := q 1) 0 hc cP0 (hY.kx) dX11_run_95 q241 (by decide) (Or.inl rfl) (fun _ _ _ => rfl) (hY.xc) ?_
        refine cv_getrN (pc := 98) (b := q 4) 2 hc cP1 (hY.c) dX11_run_98 q199 (by decide) (Or.inl rfl) (fun _ _ _ => rfl) (hY.co) ?_
        refine wt_iload_1 (pc := 101) hc dX11_run_101 ?_
        refine wt_gofr (wt_invF (pc := 102) 1 hc cP11 (hY.os) (ct_gL (hY.ol _) (by omega)) dX11_run_102 rfl q530 q449 q451 q115 q453 (hX.F_J2_get) (by decide +kernel) rfl (by first | decide | omega) (by decide) (Nat.le_of_ble_eq_true rfl) rfl) ?_
        refine cv_castS (pc := 107) hc cP2 (hY.ok o (by omega)) dX11_run_107 q531 ?_
        refine cv_getiN (pc := 110) 1 (M 47 (14 + o)) hc cP2 (hY.ok o (by omega)) dX11_run_110 q1038 (by decide) (Or.inl rfl) (fun _ _ _ => rfl) (hY.mt _ o (by omega)) ?_
        refine bz_iast (pc := 113) ((7 + o)) (0) hE (by omega) hc (hW.ck o (by omega)) dX11_run_113 (rfl) (by omega) (by omega) ?_
        refine wt_iinc_1 (pc := 114) (v := nI (o + 1)) hc dX11_run_114 (nI_add o 1) rfl ?_
        refine wt_goto (pc := 117) 51 hc dX11_run_117 (by decide) ?_
        exact ih (o + 1) D1 _ e1 (hI.step (by omega)) (by omega) (by omega)
  have loop1 : ∀ n r : Nat, r ≤ ro → ro - r < n → wt_V G X 2 [some (.ref (S.2.1 1)), some (.int (nI r))] [] (cz G (bB S (sp_fill D 3 r (fun r => nI 2 * Q 47 (4 + r))))) 0 0 := by
    intro n
    induction n with
    | zero => intro r _ h; omega
    | succ n ih =>
      intro r hr hn
      refine wt_iload_1 (pc := 2) hc dX11_run_2 ?_
      refine wt_aload_0 (pc := 3) hc dX11_run_3 ?_
      refine cv_getr (pc := 4) (b := q 0) 11 hc cP3 (hW.n) dX11_run_4 q497 (by decide) (Or.inl rfl) (fun _ _ _ => rfl) (hW.rx) ?_
      refine cv_getrN (pc := 7) (b := q 1) 0 hc cP0 (hY.kx) dX11_run_7 q241 (by decide) (Or.inl rfl) (fun _ _ _ => rfl) (hY.xc) ?_
      refine cv_getiN (pc := 10) 5 (nI ro) hc cP1 (hY.c) dX11_run_10 q211 (by decide) (Or.inl rfl) (fun _ _ _ => rfl) (hY.nro _) ?_
      refine wt_nicmp_ge (pc := 13) 49 (r) (ro) hc dX11_run_13 (by decide) (by omega) (by omega) (fun c_13 => ?_) (fun c_13 => ?_)
      · have e : r = ro := by omega
        subst e
        refine wt_iconst (pc := 49) (v := nI 0) hc dX11_run_49 (by decide) ?_
        refine wt_istore_1 (pc := 50) hc dX11_run_50 rfl ?_
        exact loop2 (ow + 1) 0 _ _ rfl ⟨fun _ _ _ _ => rfl, fun o ho => absurd ho (Nat.not_lt_zero _)⟩ (by omega) (by omega)
      · refine wt_aload_0 (pc := 16) hc dX11_run_16 ?_
        refine cv_getr (pc := 17) (b := S.2.1 3) 5 hc cP3 (hW.n) dX11_run_17 q484 (by decide) (Or.inl rfl) (fun _ _ _ => rfl) (hW.rmice) ?_
        refine wt_iload_1 (pc := 20) hc dX11_run_20 ?_
        refine wt_iconst (pc := 21) (v := nI 2) hc dX11_run_21 (by decide) ?_
        refine wt_aload_0 (pc := 22) hc dX11_run_22 ?_
        refine cv_getr (pc := 23) (b := q 0) 11 hc cP3 (hW.n) dX11_run_23 q497 (by decide) (Or.inl rfl) (fun _ _ _ => rfl) (hW.rx) ?_
        refine cv_getrN (pc := 26) (b := q 1) 0 hc cP0 (hY.kx) dX11_run_26 q241 (by decide) (Or.inl rfl) (fun _ _ _ => rfl) (hY.xc) ?_
        refine cv_getrN (pc := 29) (b := q 2) 0 hc cP1 (hY.c) dX11_run_29 q190 (by decide) (Or.inl rfl) (fun _ _ _ => rfl) (hY.cg) ?_
        refine wt_iload_1 (pc := 32) hc dX11_run_32 ?_
        refine cv_iald (pc := 33) (r) (M 47 (4 + r)) hc (hY.g) dX11_run_33 (rfl) (by omega) (by omega) (hY.gr _ r (by omega)) ?_
        refine wt_aload_0 (pc := 34) hc dX11_run_34 ?_
        refine cv_getr (pc := 35) (b := S.2.1 2) 4 hc cP3 (hW.n) dX11_run_35 q482 (by decide) (Or.inl rfl) (fun _ _ _ => rfl) (hW.rmore) ?_
        refine wt_iload_1 (pc := 38) hc dX11_run_38 ?_
        refine bz_iald (pc := 39) 2 (r) (D 2 r) hE (by omega) hc (hW.more) dX11_run_39 (rfl) (by omega) (by omega) (congrFun (sp_fill_row (by decide)) r) ?_
        refine wt_iadd (pc := 40) hc dX11_run_40 ?_
        refine wt_imul (pc := 41) hc dX11_run_41 ?_
        refine bz_iast (pc := 42) 3 (r) hE (by omega) hc (hW.mice) dX11_run_42 (rfl) (by omega) (by omega) ?_
        refine bz_eq (D := sp_fill D 3 (r + 1) (fun r => nI 2 * Q 47 (4 + r))) (by rw [← sp_fill_up, sg r (by omega)]) ?_
        refine wt_iinc_1 (pc := 43) (v := nI (r + 1)) hc dX11_run_43 (nI_add r 1) rfl ?_
        refine wt_goto (pc := 46) 2 hc dX11_run_46 (by decide) ?_
        exact ih (r + 1) (by omega) (by omega)
  refine wt_iconst (pc := 0) (v := nI 0) hc dX11_run_0 (by decide) ?_
  refine wt_istore_1 (pc := 1) hc dX11_run_1 rfl ?_
  refine bz_eq (sp_fill_0 D 3 (fun r => nI 2 * Q 47 (4 + r))).symm ?_
  exact loop1 (ro + 1) 0 (by omega) (by omega)
end NC
