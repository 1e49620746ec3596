/-! CLASSES: nights that are set anew: best, bright, worth -/
set_option maxRecDepth 100000
theorem cSet.d {D D' M P : wt_It} {ro ow ru : Nat} (h : cSet D M P ro ow ru) (h1 : D' 1 = D 1) (h2 : D' 2 = D 2) : cSet D' M P ro ow ru := by
  unfold cSet at h ⊢
  rw [h1, h2]
  exact h
theorem cSet.put {D D' M P P' : wt_It} {ro ow ru : Nat} (h : cSet D M P ro ow ru) (h2 : D' 2 = D 2) (hP : ∀ k, k ≠ 47 → P' k = P k) (hP4 : ∀ j, 4 ≤ j → P' 47 j = P 47 j) (h1 : P' 47 0 = D' 1 0 ∧ P' 47 1 = D' 1 1 ∧ P' 47 2 = D' 1 3 ∧ P' 47 3 = D' 1 2 ∧ (D' 1 3 = nI 0 ∨ D' 1 3 = nI 1) ∧ (D' 1 0 = -1 ∨ ∃ f, f < ru ∧ D' 1 0 = nI f)) : cSet D' M P' ro ow ru := by
  obtain ⟨-, a2, a3, a4, a5⟩ := h
  exact ⟨h1, fun r hr => by rw [hP4 _ (by omega), h2]; exact a2 r hr, fun o ho => by rw [hP4 _ (by omega)]; exact a3 o ho, fun j hj => by rw [hP 0 (by decide)]; exact a4 j hj, fun k h0 h47 hk => by rw [hP k h47]; exact a5 k h0 h47 hk⟩
theorem cSet.rule {D M P : wt_It} {ro ow ru : Nat} {v : Int32} (h : cSet D M P ro ow ru) (hv : v = -1 ∨ ∃ f, f < ru ∧ v = nI f) : cSet (wt_up2 D 1 0 v) M (wt_up2 P 47 0 v) ro ow ru := by
  obtain ⟨a1, a2, a3, a4, a5, -⟩ := h.1
  refine h.put (wt_up2_row (by decide)) (fun k hk => wt_up2_row hk) (fun j hj => wt_up2_ne (fun z => absurd z.2 (by omega))) ⟨by rw [wt_up2_self, wt_up2_self], ?_, ?_, ?_, ?_, by rw [wt_up2_self]; exact hv⟩
  all_goals rw [wt_up2_ne (fun z => absurd z.2 (by decide))]
  · rw [wt_up2_ne (fun z => absurd z.2 (by decide))]; exact a2
  · rw [wt_up2_ne (fun z => absurd z.2 (by decide))]; exact a3
  · rw [wt_up2_ne (fun z => absurd z.2 (by decide))]; exact a4
  · exact a5
theorem cSet.moon {D M P : wt_It} {ro ow ru : Nat} {v : Int32} (h : cSet D M P ro ow ru) : cSet (wt_up2 D 1 1 v) M (wt_up2 P 47 1 v) ro ow ru := by
  obtain ⟨a1, a2, a3, a4, a5, a6⟩ := h.1
  refine h.put (wt_up2_row (by decide)) (fun k hk => wt_up2_row hk) (fun j hj => wt_up2_ne (fun z => absurd z.2 (by omega))) ⟨?_, by rw [wt_up2_self, wt_up2_self], ?_, ?_, ?_, ?_⟩
  all_goals rw [wt_up2_ne (fun z => absurd z.2 (by decide))]
  · rw [wt_up2_ne (fun z => absurd z.2 (by decide))]; exact a1
  · rw [wt_up2_ne (fun z => absurd z.2 (by decide))]; exact a3
  · rw [wt_up2_ne (fun z => absurd z.2 (by decide))]; exact a4
  · exact a5
  · exact a6
theorem cSet.nests {D M P : wt_It} {ro ow ru : Nat} {v : Int32} (h : cSet D M P ro ow ru) : cSet (wt_up2 D 1 2 v) M (wt_up2 P 47 3 v) ro ow ru := by
  obtain ⟨a1, a2, a3, a4, a5, a6⟩ := h.1
  refine h.put (wt_up2_row (by decide)) (fun k hk => wt_up2_row hk) (fun j hj => wt_up2_ne (fun z => absurd z.2 (by omega))) ⟨?_, ?_, ?_, by rw [wt_up2_self, wt_up2_self], ?_, ?_⟩
  all_goals rw [wt_up2_ne (fun z => absurd z.2 (by decide))]
  · rw [wt_up2_ne (fun z => absurd z.2 (by decide))]; exact a1
  · rw [wt_up2_ne (fun z => absurd z.2 (by decide))]; exact a2
  · rw [wt_up2_ne (fun z => absurd z.2 (by decide))]; exact a3
  · exact a5
  · exact a6
theorem cSet.wet {D M P : wt_It} {ro ow ru : Nat} {v : Int32} (h : cSet D M P ro ow ru) (hv : v = nI 0 ∨ v = nI 1) : cSet (wt_up2 D 1 3 v) M (wt_up2 P 47 2 v) ro ow ru := by
  obtain ⟨a1, a2, a3, a4, a5, a6⟩ := h.1
  refine h.put (wt_up2_row (by decide)) (fun k hk => wt_up2_row hk) (fun j hj => wt_up2_ne (fun z => absurd z.2 (by omega))) ⟨?_, ?_, by rw [wt_up2_self, wt_up2_self], ?_, by rw [wt_up2_self]; exact hv, ?_⟩
  all_goals rw [wt_up2_ne (fun z => absurd z.2 (by decide))]
  · rw [wt_up2_ne (fun z => absurd z.2 (by decide))]; exact a1
  · rw [wt_up2_ne (fun z => absurd z.2 (by decide))]; exact a2
  · rw [wt_up2_ne (fun z => absurd z.2 (by decide))]; exact a4
  · exact a6
theorem sp_hm_nat : ∀ (n p a : Nat) (M : wt_It), ∃ b, a ≤ b ∧ b ≤ a + n ∧ (sp_hm n p (nI a) M).1 = nI b := by
  intro n
  induction n with
  | zero => intro p a M; exact ⟨a, Nat.le_refl _, Nat.le_refl _, rfl⟩
  | succ n ih =>
    intro p a M
    rw [sp_hm]
    by_cases h : nI 1000000 ≤ sp_soon M p
    · rw [if_pos h, show nI a + nI 0 = nI (a + 0) from nI_add a 0]
      obtain ⟨b, h1, h2, h3⟩ := ih (p + 1) (a + 0) (sp_rides M p)
      exact ⟨b, by omega, by omega, h3⟩
    · rw [if_neg h, show nI a + nI 1 = nI (a + 1) from nI_add a 1]
      obtain ⟨b, h1, h2, h3⟩ := ih (p + 1) (a + 1) (sp_rides M p)
      exact ⟨b, by omega, by omega, h3⟩
theorem sp_hv_nat {P : wt_It} {ri : Nat} (h : P 0 4 = nI ri) (hr : ri ≤ 8) : ∃ b, b ≤ 8 ∧ sp_hv P = nI b := by
  unfold sp_hv sp_homes
  rw [h, nn_nI (by omega)]
  obtain ⟨b, h1, h2, h3⟩ := sp_hm_nat ri 0 0 (sp_night P)
  exact ⟨b, by omega, h3⟩
theorem cVr_ae {B : cB} {v : Nat} {f : Nat → Int32} (hv : B.1 v = some (.inr (0, 7))) : cAe B (cVr B v f) := by
  intro a k ha hk
  have hav : a ≠ v := fun z => hk (by rw [z, hv] at ha; exact (Option.some.inj ha).symm)
  exact ⟨ha, if_neg hav, rfl⟩
theorem cN0.vr {G : wt_G} {B : cB} {M : wt_It} {q : Nat → Nat} {v ro ow ri ru : Nat} (h : cN0 G B M q v ro ow ri ru) (f : Nat → Int32) : cN0 G (cVr B v f) M q v ro ow ri ru := by
  obtain ⟨a1, a2, a3, a4, a5, a6, a7, a8, a9⟩ := h
  have hxv : q 0 ≠ v := fun z => by have := a2.1; rw [z, a4] at this; cases this
  refine ⟨a1, a2.ext (cVr_ae a4), a3, a4, a5, fun g hg => ?_, ?_, a8, a9⟩
  · obtain ⟨n, φ, hn, hfo, hk⟩ := a6 g hg
    exact ⟨n, φ, hn, hfo.ext (cVr_ae a4), hk⟩
  · rw [show (cVr B v f).2.1 (q 0) = B.2.1 (q 0) from if_neg hxv]
    exact a7
theorem xa.tr {G : wt_G} {B : cB} {v : Nat} {f : Nat → Int32} {H : Heap} (h : xa G (cVr B v f) v H) : xa G B v H := by
  obtain ⟨g, hg⟩ := h
  refine ⟨g, ?_⟩
  have e : cVr (cVr B v f) v g = cVr B v g := by
    have : (fun a => if a = v then g else (cVr B v f).2.1 a) = fun a => if a = v then g else B.2.1 a := by
      funext a
      by_cases h : a = v
      · rw [if_pos h, if_pos h]
      · rw [if_neg h, if_neg h]
        exact if_neg h
    show (B.1, (fun a => if a = v then g else (cVr B v f).2.1 a), B.2.2.1, B.2.2.2) = _
    rw [this]
    rfl
  rw [e] at hg
  exact hg
theorem wt_exF {G : wt_G} {X : wt_X} {pc : Nat} {L : List (Option Value)} {st : List Value} {kc ks v : Nat} {B : cB} (k : ∀ f, wt_V G X pc L st (cz G (cVr B v f)) kc ks) : wt_V G X pc L st (xa G B v) kc ks := wt_ex (S := Nat → Int32) (Z' := fun f => cz G (cVr B v f)) (fun H h => h) k
theorem cf_nest {s o : Nat} (hs : s < 32) (ho : o < 5) (h : nI s >>> (nI o &&& 31) &&& 1 = 1) : nI s ||| nI 1 <<< (nI o &&& 31) = nI s := by
  have : ∀ s : Fin 32, ∀ o : Fin 5, nI s.val >>> (nI o.val &&& 31) &&& 1 = 1 → nI s.val ||| nI 1 <<< (nI o.val &&& 31) = nI s.val := by decide +kernel
  exact this ⟨s, hs⟩ ⟨o, ho⟩ h
section AE
variable {l : Launch} {G : wt_G} {B : cB} {M P : wt_It} {q : Nat → Nat} {v ro ow ri ru : Nat} {Z : Heap → Prop} {S : bS} {D : wt_It}
variable {X : wt_X} {y : MethodName} {cc : ByteArray} {nL fr pc kc ks : Nat} {L : List (Option Value)} {st : List Value}
/-- new Night() -/
theorem cf_nn (hc : wt_Cx l G X y cc nL fr) (hy : y.cls = "WingTrams") (hAO : cAO G) (h : cN0 G B M q v ro ow ri ru) (d0 : decode cc pc = .ok (.new 100, 3)) (d3 : decode cc (pc + 3) = .ok (.dup, 1)) (d4 : decode cc (pc + 4) = .ok (.aload_n 0, 1)) (d5 : decode cc (pc + 5) = .ok (.invokespecial 102, 3)) (h1 : 18 ≤ kc) (h2 : 142 ≤ ks) (hfr : 2 < fr) (hw : (st.map fun v => v.category).sum ≤ 7) (hL : (some (.ref (q 0)) :: L).length = nL)
    (kk : ∀ S D, cNt G B M M q v ro ow ri ru S D → wt_V G X (pc + 8) (some (.ref (q 0)) :: L) (.ref (S.2.1 1) :: st) (cz G (bB S D)) (kc - 18) (ks - 142)) : wt_V G X pc (some (.ref (q 0)) :: L) st (cz G B) kc ks := by
  have h0 := h
  obtain ⟨a1, a2, a3, a4, a5, a6, ⟨a71, a72, a73, a74⟩, a8, a9⟩ := h
  have hF0 := bV_F a1 a4
  have hxv : q 0 ≠ v := fun z => by have := a2.1; rw [z, a4] at this; cases this
  rw [← bV_B B v]
  refine bz_newo (pc := pc) (n := 12) hF0 hc cP3 d0 (by rw [hy]; exact q467) q468 q143 (by omega) (by omega) (by decide) (fun a ha hf => ?_)
  have hF1 := bN_F (x := .inl 3) hF0 ha hf
  have hBa : B.1 a = none := hf a (Nat.le_refl _)
  have hva : v ≠ a := fun z => by rw [← z, a4] at hBa; cases hBa
  have hxa : q 0 ≠ a := fun z => by have := a2.1; rw [z, hBa] at this; cases this
  have e1 : (bN (bV B v) 1 a (.inl 3)).2.1 1 = a := bN_new
  have hx1 : ∀ D k, (bB (bN (bV B v) 1 a (.inl 3)) D).2.1 (q 0) k = B.2.1 (q 0) k := fun D k => by
    rw [ov_out (show (bN (bV B v) 1 a (.inl 3)).2.2.1 (q 0) = none from (if_neg hxa).trans (if_neg hxv))]
    rfl
  have hi := ct_X11_init (l := l) (S := bN (bV B v) 1 a (.inl 3)) (D := wt_rw (fun _ => B.2.1 v) 1 0) hAO (q 0) (M 47 0) (M 47 1) (M 47 3) (M 47 2) hF1 ((if_neg hva).trans a4) ((congrArg _ e1).trans (if_pos rfl)) ((if_neg hxa).trans a2.1) (fun D => (hx1 D 2).trans a71) (fun D => (hx1 D 3).trans a72) (fun D => (hx1 D 4).trans a73) (fun D => (hx1 D 5).trans a74) a8
  rw [e1] at hi
  refine wt_dup (pc := pc + 3) hc d3 rfl ?_
  refine wt_aload_0 (pc := pc + 4) hc d4 ?_
  refine wt_gov (wt_invIN (pc := pc + 5) (rest := .ref a :: st) 1 hc hi d5 rfl (by rw [hy]; exact q469) q470 q143 q471 rfl (by decide +kernel) rfl hfr (by decide) (by rw [List.map_cons, List.sum_cons, show (Value.ref a).category = 1 from rfl]; omega) hL) (by omega) (by omega) ?_
  refine wt_exSD (fun S D hw => ?_)
  have hG0 : bG B (bN (bV B v) 1 a (.inl 3)) v := (bV_G B v).n hf
  obtain ⟨hT, e2⟩ := cNw.t h0 hBa hG0 (bN_old (by decide)) hw
  have hk := kk S D hT
  rw [e2] at hk
  exact wt_less (by omega) (by omega) hk
/-- n.run().homes() -/
theorem cf_rh (hc : wt_Cx l G X y cc nL fr) (hy : y.cls = "WingTrams") (hX : cX G) (hSt : cSt G) (hE : bE G S 19) (hW : cW S (q 0)) (hY : cYS S M q ro ow ri ru) (hF : cHu S M q ru) (hs : cSet D M P ro ow ru) (d0 : decode cc pc = .ok (.invokevirtual 105, 3)) (d3 : decode cc (pc + 3) = .ok (.invokevirtual 131, 3)) (hfr : 103 < fr) (hw : (st.map fun v => v.category).sum ≤ 8) (hL : L.length = nL)
    (kk : ∀ D2, (∀ k, k = 1 ∨ k = 2 → D2 k = D k) → wt_V G X (pc + 6) L (.int (sp_hv P) :: st) (cz G (bB S D2)) kc ks) : wt_V G X pc L (.ref (S.2.1 1) :: st) (cz G (bB S D)) kc ks := by
  refine wt_gofr (wt_invV (pc := pc) (rest := st) 0 hc (ct_X11_run hX hSt hE (Nat.le_refl _) hW hY hF hs) d0 rfl (fun s H => cz_recv cP3 hW.n s H) (by rw [hy]; exact q523) q524 q525 q143 q526 (by decide +kernel) rfl hfr (by decide) hw hL) ?_
  refine wt_exD (fun D1 hR => ?_)
  have hRq := hR.rq hs
  have e4 : P 0 4 = nI ri := (hs.2.2.2.1 4 (by decide)).trans hY.eri
  have ev : (sp_hm ri 0 (nI 0) (sp_night P)).1 = sp_hv P := by
    unfold sp_hv sp_homes
    rw [e4, nn_nI (by have := hY.b8; omega)]
  have hh := ct_X11_homes (l := l) (D := D1) (Q := sp_night P) hX hE (Nat.le_refl _) hW hY hRq.1
  rw [ev] at hh
  refine wt_gofn (wt_invV (pc := pc + 3) (rest := st) 0 hc hh d3 rfl (fun s H => cz_recv cP3 hW.n s H) (by rw [hy]; exact q673) q674 q675 q143 q676 (by decide +kernel) rfl (by omega) (by decide) hw hL) ?_
  refine wt_exD (fun D2 hD2 => ?_)
  exact kk D2 (fun k hk => (hD2 k (by omega)).trans (hR.2.2.2 k (by omega)))
theorem ct_X1_worthOf (hEv : cEv l G) (h : cN0 G B M q v ro ow ri ru) (o : Int32) : wt_Ct l G yX1_worthOf cX1_worthOf 4 (some .int) 104 18 142 [.ref (q 0), .int o] (cz G B) (wt_fn (sp_hv M - sp_hv (wt_up2 M 47 3 (M 47 3 ||| nI 1 <<< (o &&& 31)))) (xa G B v)) := by
  have hX := hEv.1
  have hY := h.2.1
  refine wt_enter [some (.ref (q 0)), some (.int o), none, none] (by decide +kernel) rfl (Nat.le_of_ble_eq_true rfl) (fun X hc hok => ?_)
  refine cf_nn (pc := 0) hc rfl hEv.2.1.2.1 h dX1_worthOf_0 dX1_worthOf_3 dX1_worthOf_4 dX1_worthOf_5 (by decide) (by decide) (by decide) (by decide) rfl (fun S D hT => ?_)
  obtain ⟨t1, t2, t3, t4, t5, t6, t7⟩ := hT
  have hE := t1.1
  refine wt_astore_2 (pc := 8) hc dX1_worthOf_8 rfl ?_
  refine wt_aload_2 (pc := 9) hc dX1_worthOf_9 ?_
  refine cf_rh (pc := 10) hc rfl hX hEv.2.1.1 hE t2 t3 t4 t7 dX1_worthOf_10 dX1_worthOf_13 (by decide) (by decide) rfl (fun D2 hD2 => ?_)
  have s2 := t7.d (hD2 1 (Or.inl rfl)) (hD2 2 (Or.inr rfl))
  have e12 : D2 1 2 = M 47 3 := s2.1.2.2.2.1.symm
  refine wt_istore_3 (pc := 16) hc dX1_worthOf_16 rfl ?_
  refine wt_aload_2 (pc := 17) hc dX1_worthOf_17 ?_
  refine wt_dup (pc := 18) hc dX1_worthOf_18 rfl ?_
  refine bz_getiN (pc := 19) 1 2 (M 47 3) hE (by omega) hc cP3 (t2.n) dX1_worthOf_19 q479 (by decide) (Or.inl rfl) (fun _ _ _ => rfl) (e12) ?_
  refine wt_iconst (pc := 22) (v := nI 1) hc dX1_worthOf_22 (by decide) ?_
  refine wt_iload_1 (pc := 23) hc dX1_worthOf_23 ?_
  refine wt_ishl (pc := 24) hc dX1_worthOf_24 ?_
  refine wt_ior (pc := 25) hc dX1_worthOf_25 ?_
  refine bz_putNi (pc := 26) 1 2 hE (by omega) hc cP3 (t2.n) dX1_worthOf_26 q479 (by decide) (fun _ _ _ => rfl) (Or.inl rfl) rfl rfl rfl ?_
  refine wt_iload_3 (pc := 29) hc dX1_worthOf_29 ?_
  refine wt_aload_2 (pc := 30) hc dX1_worthOf_30 ?_
  refine cf_rh (pc := 31) hc rfl hX hEv.2.1.1 hE t2 t3 t4 (s2.nests (v := M 47 3 ||| nI 1 <<< (o &&& 31))) dX1_worthOf_31 dX1_worthOf_34 (by decide) (Nat.le_of_ble_eq_true rfl) rfl (fun D3 _ => ?_)
  refine wt_isub (pc := 37) hc dX1_worthOf_37 ?_
  exact wt_iret (pc := 38) hc hok dX1_worthOf_38 (rfl) (fun H hZ => ⟨rfl, t5.back hE (by decide) t6 hZ⟩)
theorem cf_wv {s o : Nat} (hs : s < 32) (es : M 47 3 = nI s) (ho : o < 5) : sp_hv M - sp_hv (wt_up2 M 47 3 (M 47 3 ||| nI 1 <<< (nI o &&& 31))) = sp_wv M o := by
  unfold sp_wv sp_nb
  by_cases h : M 47 3 >>> (nI o &&& 31) &&& 1 = 1
  · rw [if_pos (decide_eq_true h)]
    have e : wt_up2 M 47 3 (M 47 3 ||| nI 1 <<< (nI o &&& 31)) = M := by
      rw [es] at h ⊢
      rw [cf_nest hs ho h]
      funext a b
      by_cases hab : a = 47 ∧ b = 3
      · rw [hab.1, hab.2, wt_up2_self, es]
      · rw [wt_up2_ne hab]
    rw [e]
    exact Int32.sub_self _
  · rw [if_neg (by rw [decide_eq_true_eq]; exact h)]
theorem ct_X1_worth (hEv : cEv l G) (h : cN0 G B M q v ro ow ri ru) (s : Nat) (hs : s < 32) (es : M 47 3 = nI s) (o : Int32) : xt_Ct l G yX1_worth cX1_worth 2 (some .int) 105 19 148 [.ref (q 0), .int o] (cz G B) (xt_pi (0 ≤ o ∧ o < nI ow) (sp_wv M (nn o)) (xa G B v)) (xt_PB xNSE (fun H => ¬ (0 ≤ o ∧ o < nI ow) ∧ cz G B H)) := by
  have hX := hEv.1
  have hY := h.2.1
  have how : ow ≤ 5 := h.2.2.2.2.1.2.2.1
  refine xt_enter [some (.ref (q 0)), some (.int o)] (by decide +kernel) rfl (Nat.le_of_ble_eq_true rfl) (fun X hc hok => ?_)
  refine wt_aload_0 (pc := 0) hc dX1_worth_0 ?_
  refine wt_iload_1 (pc := 1) hc dX1_worth_1 ?_
  refine xt_goPr hc hok (xt_invV (pc := 2) 1 hc (ct_X1_anOwl hEv hY how o) dX1_worth_2 rfl (fun s H => cz_recv cP0 (hY.kx) s H) q1342 q1344 qs44 q111 q1345 (by decide +kernel) rfl (by first | decide | omega) (by decide) (Nat.le_of_ble_eq_true rfl) rfl) (by decide) (by decide) (fun _ _ _ h => h) (fun hP => ?_)
  refine wt_pop (pc := 5) hc dX1_worth_5 rfl ?_
  obtain ⟨k, hk, rfl⟩ := cf_in hP (by omega)
  rw [nn_nI (by omega)] at hok
  refine wt_aload_0 (pc := 6) hc dX1_worth_6 ?_
  refine wt_iload_1 (pc := 7) hc dX1_worth_7 ?_
  refine wt_gofnK (wt_invV (pc := 8) 1 hc (ct_X1_worthOf hEv h (nI k)) dX1_worth_8 rfl (fun s H => cz_recv cP0 (hY.kx) s H) q669 q671 qs14 q111 q672 (by decide +kernel) rfl (by first | decide | omega) (by decide) (Nat.le_of_ble_eq_true rfl) rfl) (by decide) (by decide) ?_
  exact xt_ret hc hok (fun X hc hok => wt_iret (pc := 11) hc hok dX1_worth_11 (rfl) (fun H hZ => ⟨hP, by rw [cf_wv hs es (by omega)], hZ⟩))
theorem ct_X1_vital (hEv : cEv l G) (h : cN0 G B M q v ro ow ri ru) (s : Nat) (hs : s < 32) (es : M 47 3 = nI s) : wt_Ct l G yX1_vital cX1_vital 3 (some .int) 105 90 710 [.ref (q 0)] (cz G B) (wt_fn (sp_vi M ow) (xa G B v)) := by
  have hX := hEv.1
  have how : ow ≤ 5 := h.2.2.2.2.1.2.2.1
  refine wt_enter [some (.ref (q 0)), none, none] (by decide +kernel) rfl (Nat.le_of_ble_eq_true rfl) (fun X hc hok => ?_)
  have loop : ∀ (n o : Nat) (f : Nat → Int32), o + n = ow → wt_V G X 4 [some (.ref (q 0)), some (.int (sp_vi M o)), some (.int (nI o))] [] (cz G (cVr B v f)) (18 * n) (142 * n) := by
    intro n
    induction n with
    | zero =>
      intro o f ho
      obtain rfl : o = ow := by omega
      have hY := (h.vr f).2.1
      refine wt_iload_2 (pc := 4) hc dX1_vital_4 ?_
      refine wt_aload_0 (pc := 5) hc dX1_vital_5 ?_
      refine cv_getr (pc := 6) (b := q 1) 0 hc cP0 (hY.kx) dX1_vital_6 q242 (by decide) (Or.inl rfl) (fun _ _ _ => rfl) (hY.xc) ?_
      refine cv_getrN (pc := 9) (b := q 4) 2 hc cP1 (hY.c) dX1_vital_9 q200 (by decide) (Or.inl rfl) (fun _ _ _ => rfl) (hY.co) ?_
      refine wt_gofn (wt_invF (pc := 12) 0 hc cP11 (hY.os) (ct_sL (hY.ol)) dX1_vital_12 rfl q314 q318 q320 q115 q322 (hX.F_J2_size) (by decide +kernel) rfl (by first | decide | omega) (by decide) (Nat.le_of_ble_eq_true rfl) rfl) ?_
      refine wt_nicmp_ge (pc := 17) 40 (o) (o) hc dX1_vital_17 (by decide) (by omega) (by omega) (fun c_17 => ?_) (fun c_17 => ?_)
      · refine wt_iload_1 (pc := 40) hc dX1_vital_40 ?_
        exact wt_iret (pc := 41) hc hok dX1_vital_41 (rfl) (fun H hZ => ⟨rfl, f, hZ⟩)
      · omega
    | succ n ih =>
      intro o f ho
      have hY := (h.vr f).2.1
      have e : sp_vi M (o + 1) = sp_vi M o ||| (if sp_wv M o ≤ 0 then nI 0 else nI 1 <<< (nI o &&& 31)) := rfl
      refine wt_iload_2 (pc := 4) hc dX1_vital_4 ?_
      refine wt_aload_0 (pc := 5) hc dX1_vital_5 ?_
      refine cv_getr (pc := 6) (b := q 1) 0 hc cP0 (hY.kx) dX1_vital_6 q242 (by decide) (Or.inl rfl) (fun _ _ _ => rfl) (hY.xc) ?_
      refine cv_getrN (pc := 9) (b := q 4) 2 hc cP1 (hY.c) dX1_vital_9 q200 (by decide) (Or.inl rfl) (fun _ _ _ => rfl) (hY.co) ?_
      refine wt_gofn (wt_invF (pc := 12) 0 hc cP11 (hY.os) (ct_sL (hY.ol)) dX1_vital_12 rfl q314 q318 q320 q115 q322 (hX.F_J2_size) (by decide +kernel) rfl (by first | decide | omega) (by decide) (Nat.le_of_ble_eq_true rfl) rfl) ?_
      refine wt_nicmp_ge (pc := 17) 40 (o) (ow) hc dX1_vital_17 (by decide) (by omega) (by omega) (fun c_17 => ?_) (fun c_17 => ?_)
      · omega
      · refine wt_aload_0 (pc := 20) hc dX1_vital_20 ?_
        refine wt_iload_2 (pc := 21) hc dX1_vital_21 ?_
        refine wt_gofnK (wt_invV (pc := 22) 1 hc (ct_X1_worthOf hEv (h.vr f) (nI o)) dX1_vital_22 rfl (fun s H => cz_recv cP0 (hY.kx) s H) q669 q671 qs14 q111 q672 (by decide +kernel) rfl (by first | decide | omega) (by decide) (Nat.le_of_ble_eq_true rfl) rfl) (by omega) (by omega) ?_
        refine wt_topi (cf_wv hs es (by omega)) ?_
        refine wt_ex (S := Nat → Int32) (Z' := fun f => cz G (cVr B v f)) (fun H hz => hz.tr) (fun g => ?_)
        have ih' := wt_less (kc := 18 * (n + 1) - 18) (ks := 142 * (n + 1) - 142) (by omega) (by omega) (ih (o + 1) g (by omega))
        rw [e] at ih'
        refine wt_if_le (pc := 25) 34 hc dX1_vital_25 (by decide) (fun c_25 => ?_) (fun c_25 => ?_)
        · rw [if_pos c_25, show sp_vi M o ||| nI 0 = sp_vi M o from Int32.or_zero] at ih'
          refine wt_iinc_2 (pc := 34) (v := nI (o + 1)) hc dX1_vital_34 (nI_add o 1) rfl ?_
          refine wt_goto (pc := 37) 4 hc dX1_vital_37 (by decide) ?_
          exact ih'
        · rw [if_neg c_25] at ih'
          refine wt_iload_1 (pc := 28) hc dX1_vital_28 ?_
          refine wt_iconst (pc := 29) (v := nI 1) hc dX1_vital_29 (by decide) ?_
          refine wt_iload_2 (pc := 30) hc dX1_vital_30 ?_
          refine wt_ishl (pc := 31) hc dX1_vital_31 ?_
          refine wt_ior (pc := 32) hc dX1_vital_32 ?_
          refine wt_istore_1 (pc := 33) hc dX1_vital_33 rfl ?_
          refine wt_iinc_2 (pc := 34) (v := nI (o + 1)) hc dX1_vital_34 (nI_add o 1) rfl ?_
          refine wt_goto (pc := 37) 4 hc dX1_vital_37 (by decide) ?_
          exact ih'
  refine wt_iconst (pc := 0) (v := nI 0) hc dX1_vital_0 (by decide) ?_
  refine wt_istore_1 (pc := 1) hc dX1_vital_1 rfl ?_
  refine wt_iconst (pc := 2) (v := nI 0) hc dX1_vital_2 (by decide) ?_
  refine wt_istore_2 (pc := 3) hc dX1_vital_3 rfl ?_
  refine wt_less (by omega) (by omega) (wt_to (fun H hz => ?_) (loop ow 0 (B.2.1 v) (by omega)))
  exact (by
    have : cVr B v (B.2.1 v) = B := by
      have e : (fun a => if a = v then B.2.1 v else B.2.1 a) = B.2.1 := by
        funext a
        by_cases h : a = v
        · rw [if_pos h, h]
        · rw [if_neg h]
      show (B.1, (fun a => if a = v then B.2.1 v else B.2.1 a), B.2.2.1, B.2.2.2) = B
      rw [e]
    rw [this]; exact hz)
end AE
