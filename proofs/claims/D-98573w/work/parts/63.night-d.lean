/-! CLASSES: owls are ridden -/
set_option maxRecDepth 100000
theorem cf_or (a b : Bool) : sp_i a ||| sp_i b = sp_i (a || b) := by cases a <;> cases b <;> decide
/-- what rides see of a night: Q the reference's memory -/
def cRq (D M Q : wt_It) (ow : Nat) : Prop := Q 9 = M 9 ∧ Q 10 = M 10 ∧ Q 11 = M 11 ∧ Q 47 3 = D 1 2 ∧ (∀ j, j ≠ 0 → Q 0 j = M 0 j) ∧ ∀ o, o < ow → ¬ Q 47 3 >>> (nI o &&& 31) &&& 1 = 1 → ∀ i, i < nn (Q 9 o) → D (7 + o) i = Q 54 (8 * o + i) ∧ D (13 + o) i = Q 55 (8 * o + i)
theorem cRq.d {D D' M Q : wt_It} {ow : Nat} (h : cRq D M Q ow) (how : ow ≤ 5) (hD : ∀ k, k < 18 → D' k = D k) : cRq D' M Q ow := by
  obtain ⟨a, b, c, d, e, f⟩ := h
  refine ⟨a, b, c, by rw [hD 1 (by decide)]; exact d, e, fun o ho => ?_⟩
  rw [hD (7 + o) (by omega), hD (13 + o) (by omega)]
  exact f o ho
theorem cRq.q {D M Q Q' : wt_It} {ow : Nat} (h : cRq D M Q ow) (hQ : ∀ k, k < 60 → Q' k = Q k) : cRq D M Q' ow := by
  obtain ⟨a, b, c, d, e, f⟩ := h
  unfold cRq
  rw [hQ 9 (by decide), hQ 10 (by decide), hQ 11 (by decide), hQ 47 (by decide), hQ 0 (by decide), hQ 54 (by decide), hQ 55 (by decide)]
  exact ⟨a, b, c, d, e, f⟩
theorem cf_fup {D Q : wt_It} {p k o r : Nat} {v : Int32} (hr : r < 10) : wt_up2 (sp_fill D p 10 (fun j => Q k (o + j))) p r v = sp_fill D p 10 (fun j => wt_up2 Q k (o + r) v k (o + j)) := by
  funext a b
  by_cases h : a = p ∧ b = r
  · rw [h.1, h.2, wt_up2_self]
    refine ((if_pos ⟨rfl, hr⟩ : sp_fill D p 10 (fun j => wt_up2 Q k (o + r) v k (o + j)) p r = _).trans ?_).symm
    exact wt_up2_self _ _ _ _
  · rw [wt_up2_ne h]
    unfold sp_fill
    by_cases h2 : a = p ∧ b < 10
    · rw [if_pos h2, if_pos h2]
      exact (wt_up2_ne (fun z => h ⟨h2.1, by have := z.2; omega⟩)).symm
    · rw [if_neg h2, if_neg h2]
theorem cf_fsame {D : wt_It} {p : Nat} {f : Nat → Int32} (h : ∀ j, j < 10 → f j = D p j) : D = sp_fill D p 10 f := by
  funext a b
  unfold sp_fill
  by_cases h2 : a = p ∧ b < 10
  · rw [if_pos h2, h2.1, h b h2.2]
  · rw [if_neg h2]
theorem cf_ff {D : wt_It} {p : Nat} {f g : Nat → Int32} : sp_fill (sp_fill D p 10 f) p 10 g = sp_fill D p 10 g := by
  funext a b
  unfold sp_fill
  by_cases h2 : a = p ∧ b < 10
  · rw [if_pos h2, if_pos h2]
  · rw [if_neg h2, if_neg h2, if_neg h2]
theorem cf_fext {D : wt_It} {p : Nat} {f g : Nat → Int32} (h : ∀ j, j < 10 → f j = g j) : sp_fill D p 10 f = sp_fill D p 10 g := by
  funext a b
  unfold sp_fill
  by_cases h2 : a = p ∧ b < 10
  · rw [if_pos h2, if_pos h2, h b h2.2]
  · rw [if_neg h2, if_neg h2]
section CAST
variable {l : Launch} {G : wt_G} {X : wt_X} {y : MethodName} {cc : ByteArray} {nL fr pc : Nat} {L : List (Option Value)} {st : List Value} {B : cB} {kc ks : Nat}
/-- a cast of an array to its own class -/
theorem cv_castA {idx a : Nat} {x : wt_kd} {nm : String} (hc : wt_Cx l G X y cc nL fr) (hK : B.1 a = some x) (hn : wt_nm x = nm) (d : decode cc pc = .ok (.checkcast idx, 3)) (q : Cond.classLink y.cls idx nm ∈ lw_all)
    (kk : wt_V G X (pc + 3) L (.ref a :: st) (cz G B) kc ks) : wt_V G X pc L (.ref a :: st) (cz G B) kc ks := by
  obtain ⟨p, l', e, Rm, s, m, args, below, meth, c, Q⟩ := X
  obtain ⟨rfl, hx, hbb, hown, hts, hml, hlk, hnm, hf1, hf2, hn0, hSx⟩ := hc
  intro H locs cells slots ls hZ hS hcl hsl hl
  obtain ⟨cell, g1, g2, g3, g4, -⟩ := wt_recv hSx.1 (hZ _ _ hK)
  rw [hn] at g4
  intro T hT XX
  obtain ⟨vm', X', st'⟩ := XX.checkcastYes hx hown (hts _ q) (by rw [hT]; exact g1) g2 g4 (va_asg _ _) (g := F0 m pc ls (.ref a :: st)) rfl rfl (by rw [hbb]; exact d)
  obtain ⟨t, a1, b1⟩ := kk H locs cells slots ls hZ hS hcl hsl hl (T.setVm vm') hT X'
  exact ⟨t, st' t a1, b1⟩
end CAST
section ND
variable {l : Launch} {G : wt_G} {Z : Heap → Prop} {S : bS} {D M Q : wt_It} {NB ro ow ri ru : Nat} {q : Nat → Nat}
theorem ct_X11_ride (hX : cX G) (k1 o1 k2 o2 o p1 p2 : Nat) (hE : bE G S NB) (hN : 19 ≤ NB) (hW : cW S (q 0)) (hY : cYS S M q ro ow ri ru) (ho : o < ow) (hR : cRq D M Q ow) (hp1 : p1 < NB) (hp2 : p2 < NB) (hg2 : 18 ≤ p2) (K1 : S.1 (S.2.1 p1) = some (.inr (0, 10))) (K2 : S.1 (S.2.1 p2) = some (.inr (0, 10))) (hd : ∀ i j, i < 10 → j < 10 → ((k1 = k2 ∧ o1 + i = o2 + j) ↔ (p1 = p2 ∧ i = j))) (h1 : ∀ j, j < 10 → D p1 j = Q k1 (o1 + j)) (h2 : ∀ j, j < 10 → D p2 j = Q k2 (o2 + j)) (hk2 : 60 ≤ k2) : wt_Ct l G yX11_ride cX11_ride 9 (some .boolean) 5 0 0 [.ref (S.2.1 1), .int (nI o), .ref (S.2.1 p1), .ref (S.2.1 p2)] (cz G (bB S D)) (wt_fn (sp_i (sp_takes Q k1 o1 k2 o2 o).2) (cz G (bB S (sp_fill D p2 10 (fun j => (sp_takes Q k1 o1 k2 o2 o).1 k2 (o2 + j)))))) := by
  have how := hY.b5
  have hro := hY.b10
  obtain ⟨wl, hwl, e9, hway⟩ := hY.way o ho
  obtain ⟨q9, q10, q11, q47, q0, hout⟩ := hR
  have hD : ∀ f k, k < 18 → sp_fill D p2 10 f k = D k := fun f k hk => sp_fill_row (by omega)
  refine wt_enter [some (.ref (S.2.1 1)), some (.int (nI o)), some (.ref (S.2.1 p1)), some (.ref (S.2.1 p2)), none, none, none, none, none] (by decide +kernel) rfl (Nat.le_of_ble_eq_true rfl) (fun X hc hok => ?_)
  have loop : ∀ (n i : Nat) (on any : Bool) (Q' : wt_It), i + n = wl → (∀ k, k ≠ k2 → Q' k = Q k) → ¬ Q 47 3 >>> (nI o &&& 31) &&& 1 = 1 → (∀ j, j < 10 → sp_fill D p2 10 (fun j => Q' k2 (o2 + j)) p1 j = Q' k1 (o1 + j)) → sp_takes Q k1 o1 k2 o2 o = sp_tk k1 o1 k2 o2 o n i on any Q' → wt_V G X 30 [some (.ref (S.2.1 1)), some (.int (nI o)), some (.ref (S.2.1 p1)), some (.ref (S.2.1 p2)), some (.ref (q (20 + o))), some (.int (sp_i on)), some (.int (sp_i any)), some (.int (nI i)), none] [] (cz G (bB S (sp_fill D p2 10 (fun j => Q' k2 (o2 + j))))) 0 0 := by
    intro n
    induction n with
    | zero =>
      intro i on any Q' hi hQ hnb hp hv
      rw [sp_tk] at hv
      refine wt_iload_7 (pc := 30) hc dX11_ride_30 ?_
      refine wt_aload_4 (pc := 32) hc dX11_ride_32 ?_
      refine wt_gofn (wt_invV (pc := 34) 0 hc (ct_X6_size hX (q (20 + o)) _ _ wl _ (hY.wo o (by omega) e9 hwl _)) dX11_ride_34 rfl (fun s H => cz_recv cP2 (hY.ok o (by omega)) s H) q543 q544 q545 q129 q546 (by decide +kernel) rfl (by first | decide | omega) (by decide) (Nat.le_of_ble_eq_true rfl) rfl) ?_
      refine wt_nicmp_ge (pc := 37) 126 (i) (wl) hc dX11_ride_37 (by decide) (by omega) (by omega) (fun c_37 => ?_) (fun c_37 => ?_)
      · refine wt_iload_6 (pc := 126) hc dX11_ride_126 ?_
        exact wt_iret (pc := 128) hc hok dX11_ride_128 (by cases any <;> rfl) (fun H hZ => ⟨by rw [hv], by rw [hv]; exact hZ⟩)
      · omega
    | succ n ih =>
      intro i on any Q' hi hQ hnb hp hv
      rw [sp_tk] at hv
      obtain ⟨r, hr, er⟩ := hway i (by omega)
      have e10 : Q' 10 (8 * o + i) = nI r := by rw [hQ 10 (by omega), q10]; exact er
      rw [e10, nn_nI (by omega)] at hv
      have e9q : nn (Q 9 o) = wl := by rw [q9, e9, nn_nI (by omega)]
      obtain ⟨g1, g2⟩ := hout o ho hnb i (by omega)
      have c1 : ∀ f, sp_fill D p2 10 f (7 + o) i = Q' 54 (8 * o + i) := fun f => by rw [hD f (7 + o) (by omega), hQ 54 (by omega)]; exact g1
      have c2 : ∀ f, sp_fill D p2 10 f (13 + o) i = Q' 55 (8 * o + i) := fun f => by rw [hD f (13 + o) (by omega), hQ 55 (by omega)]; exact g2
      refine wt_iload_7 (pc := 30) hc dX11_ride_30 ?_
      refine wt_aload_4 (pc := 32) hc dX11_ride_32 ?_
      refine wt_gofn (wt_invV (pc := 34) 0 hc (ct_X6_size hX (q (20 + o)) _ _ wl _ (hY.wo o (by omega) e9 hwl _)) dX11_ride_34 rfl (fun s H => cz_recv cP2 (hY.ok o (by omega)) s H) q543 q544 q545 q129 q546 (by decide +kernel) rfl (by first | decide | omega) (by decide) (Nat.le_of_ble_eq_true rfl) rfl) ?_
      refine wt_nicmp_ge (pc := 37) 126 (i) (wl) hc dX11_ride_37 (by decide) (by omega) (by omega) (fun c_37 => ?_) (fun c_37 => ?_)
      · omega
      · refine wt_aload_0 (pc := 40) hc dX11_ride_40 ?_
        refine wt_iload_1 (pc := 41) hc dX11_ride_41 ?_
        refine wt_gofn (wt_invV (pc := 42) 1 hc (ct_X11_isOut (o) hE (by omega) hW) dX11_ride_42 rfl (fun s H => cz_recv cP3 (hW.n) s H) q536 q537 q538 q143 q539 (by decide +kernel) rfl (by first | decide | omega) (by decide) (Nat.le_of_ble_eq_true rfl) rfl) ?_
        refine wt_if_eq (pc := 45) 126 hc dX11_ride_45 (by decide) (fun c_45 => ?_) (fun c_45 => ?_)
        · exact absurd (sp_b_0.mp c_45) (fun z => z (by rw [hD _ 1 (by decide), ← q47]; exact hnb))
        · cases on with
          | false =>
            rw [if_neg (fun z => by cases z.1)] at hv
            refine wt_aload_4 (pc := 48) hc dX11_ride_48 ?_
            refine wt_iload_7 (pc := 50) hc dX11_ride_50 ?_
            refine wt_gofn (wt_invV (pc := 52) 1 hc (ct_X6_at hX (q (20 + o)) (i) _ _ wl _ (hY.wo o (by omega) e9 hwl _) (by omega)) dX11_ride_52 rfl (fun s H => cz_recv cP2 (hY.ok o (by omega)) s H) q557 q558 q559 q129 q560 (by decide +kernel) rfl (by first | decide | omega) (by decide) (Nat.le_of_ble_eq_true rfl) rfl) ?_
            refine wt_topi (z := nI r) (er) ?_
            refine wt_istore_8 (pc := 55) hc dX11_ride_55 rfl ?_
            refine wt_iload_5 (pc := 57) hc dX11_ride_57 ?_
            refine wt_if_eq (pc := 59) 94 hc dX11_ride_59 (by decide) (fun _ => ?_) (fun z => absurd z (by decide))
            refine wt_iload_5 (pc := 94) hc dX11_ride_94 ?_
            refine wt_aload_2 (pc := 96) hc dX11_ride_96 ?_
            refine wt_iload_8 (pc := 97) hc dX11_ride_97 ?_
            refine bz_iald (pc := 99) p1 (r) (Q' k1 (o1 + r)) hE (by omega) hc (K1) dX11_ride_99 (rfl) (by omega) (by omega) (hp r (by omega)) ?_
            refine wt_aload_0 (pc := 100) hc dX11_ride_100 ?_
            refine cv_getr (pc := 101) (b := S.2.1 12) 9 hc cP3 (hW.n) dX11_ride_101 q492 (by decide) (Or.inl rfl) (fun _ _ _ => rfl) (hW.rleaves) ?_
            refine wt_iload_1 (pc := 104) hc dX11_ride_104 ?_
            refine cv_aaldr (pc := 105) (b := S.2.1 (13 + o)) (o) hc (hW.leaves) (by decide) dX11_ride_105 (rfl) (by omega) (by omega) (hW.lr o (by omega)) ?_
            refine wt_iload_7 (pc := 106) hc dX11_ride_106 ?_
            refine bz_iald (pc := 108) ((13 + o)) (i) (Q' 55 (8 * o + i)) hE (by omega) hc (hW.lk o (by omega)) dX11_ride_108 (rfl) (by omega) (by omega) (c2 _) ?_
            refine wt_icmp_gt (pc := 109) 116 hc dX11_ride_109 (by decide) (fun c_109 => ?_) (fun c_109 => ?_)
            · refine wt_iconst (pc := 116) (v := nI 0) hc dX11_ride_116 (by decide) ?_
              refine wt_ior (pc := 117) hc dX11_ride_117 ?_
              first | refine wt_topi (z := sp_i (false || true)) (cf_or false true) ?_ | refine wt_topi (z := sp_i (false || false)) (cf_or false false) ?_
              refine wt_istore_5 (pc := 118) hc dX11_ride_118 rfl ?_
              refine wt_iinc_7 (pc := 120) (v := nI (i + 1)) hc dX11_ride_120 (nI_add i 1) rfl ?_
              refine wt_goto (pc := 123) 30 hc dX11_ride_123 (by decide) ?_
              first | (rw [show (false || decide (Q' k1 (o1 + r) ≤ Q' 55 (8 * o + i))) = (false || false) from by rw [decide_eq_false (Int32.not_le.mpr c_109)]] at hv; exact wt_drop (ih (i + 1) (false || false) any Q' (by omega) hQ hnb hp hv) ⟨rfl, rfl, rfl, rfl, rfl, rfl, rfl, rfl, trivial⟩) | (rw [show (false || decide (Q' k1 (o1 + r) ≤ Q' 55 (8 * o + i))) = (false || true) from by rw [decide_eq_true (Int32.not_lt.mp c_109)]] at hv; exact wt_drop (ih (i + 1) (false || true) any Q' (by omega) hQ hnb hp hv) ⟨rfl, rfl, rfl, rfl, rfl, rfl, rfl, rfl, trivial⟩)
            · refine wt_iconst (pc := 112) (v := nI 1) hc dX11_ride_112 (by decide) ?_
              refine wt_goto (pc := 113) 117 hc dX11_ride_113 (by decide) ?_
              refine wt_ior (pc := 117) hc dX11_ride_117 ?_
              first | refine wt_topi (z := sp_i (false || true)) (cf_or false true) ?_ | refine wt_topi (z := sp_i (false || false)) (cf_or false false) ?_
              refine wt_istore_5 (pc := 118) hc dX11_ride_118 rfl ?_
              refine wt_iinc_7 (pc := 120) (v := nI (i + 1)) hc dX11_ride_120 (nI_add i 1) rfl ?_
              refine wt_goto (pc := 123) 30 hc dX11_ride_123 (by decide) ?_
              first | (rw [show (false || decide (Q' k1 (o1 + r) ≤ Q' 55 (8 * o + i))) = (false || false) from by rw [decide_eq_false (Int32.not_le.mpr c_109)]] at hv; exact wt_drop (ih (i + 1) (false || false) any Q' (by omega) hQ hnb hp hv) ⟨rfl, rfl, rfl, rfl, rfl, rfl, rfl, rfl, trivial⟩) | (rw [show (false || decide (Q' k1 (o1 + r) ≤ Q' 55 (8 * o + i))) = (false || true) from by rw [decide_eq_true (Int32.not_lt.mp c_109)]] at hv; exact wt_drop (ih (i + 1) (false || true) any Q' (by omega) hQ hnb hp hv) ⟨rfl, rfl, rfl, rfl, rfl, rfl, rfl, rfl, trivial⟩)
          | true =>
            refine wt_aload_4 (pc := 48) hc dX11_ride_48 ?_
            refine wt_iload_7 (pc := 50) hc dX11_ride_50 ?_
            refine wt_gofn (wt_invV (pc := 52) 1 hc (ct_X6_at hX (q (20 + o)) (i) _ _ wl _ (hY.wo o (by omega) e9 hwl _) (by omega)) dX11_ride_52 rfl (fun s H => cz_recv cP2 (hY.ok o (by omega)) s H) q557 q558 q559 q129 q560 (by decide +kernel) rfl (by first | decide | omega) (by decide) (Nat.le_of_ble_eq_true rfl) rfl) ?_
            refine wt_topi (z := nI r) (er) ?_
            refine wt_istore_8 (pc := 55) hc dX11_ride_55 rfl ?_
            refine wt_iload_5 (pc := 57) hc dX11_ride_57 ?_
            refine wt_if_eq (pc := 59) 94 hc dX11_ride_59 (by decide) (fun z => absurd z (by decide)) (fun _ => ?_)
            refine wt_aload_0 (pc := 62) hc dX11_ride_62 ?_
            refine cv_getr (pc := 63) (b := S.2.1 6) 8 hc cP3 (hW.n) dX11_ride_63 q489 (by decide) (Or.inl rfl) (fun _ _ _ => rfl) (hW.rcomes) ?_
            refine wt_iload_1 (pc := 66) hc dX11_ride_66 ?_
            refine cv_aaldr (pc := 67) (b := S.2.1 (7 + o)) (o) hc (hW.comes) (by decide) dX11_ride_67 (rfl) (by omega) (by omega) (hW.cr o (by omega)) ?_
            refine wt_iload_7 (pc := 68) hc dX11_ride_68 ?_
            refine bz_iald (pc := 70) ((7 + o)) (i) (Q' 54 (8 * o + i)) hE (by omega) hc (hW.ck o (by omega)) dX11_ride_70 (rfl) (by omega) (by omega) (c1 _) ?_
            refine wt_aload_3 (pc := 71) hc dX11_ride_71 ?_
            refine wt_iload_8 (pc := 72) hc dX11_ride_72 ?_
            refine bz_iald (pc := 74) p2 (r) (Q' k2 (o2 + r)) hE (by omega) hc (K2) dX11_ride_74 (rfl) (by omega) (by omega) (if_pos ⟨rfl, by omega⟩) ?_
            refine wt_icmp_ge (pc := 75) 94 hc dX11_ride_75 (by decide) (fun c_75 => ?_) (fun c_75 => ?_)
            · rw [if_neg (fun z => z.2 c_75), Bool.true_or] at hv
              refine wt_iload_5 (pc := 94) hc dX11_ride_94 ?_
              refine wt_aload_2 (pc := 96) hc dX11_ride_96 ?_
              refine wt_iload_8 (pc := 97) hc dX11_ride_97 ?_
              refine bz_iald (pc := 99) p1 (r) (Q' k1 (o1 + r)) hE (by omega) hc (K1) dX11_ride_99 (rfl) (by omega) (by omega) (hp r (by omega)) ?_
              refine wt_aload_0 (pc := 100) hc dX11_ride_100 ?_
              refine cv_getr (pc := 101) (b := S.2.1 12) 9 hc cP3 (hW.n) dX11_ride_101 q492 (by decide) (Or.inl rfl) (fun _ _ _ => rfl) (hW.rleaves) ?_
              refine wt_iload_1 (pc := 104) hc dX11_ride_104 ?_
              refine cv_aaldr (pc := 105) (b := S.2.1 (13 + o)) (o) hc (hW.leaves) (by decide) dX11_ride_105 (rfl) (by omega) (by omega) (hW.lr o (by omega)) ?_
              refine wt_iload_7 (pc := 106) hc dX11_ride_106 ?_
              refine bz_iald (pc := 108) ((13 + o)) (i) (Q' 55 (8 * o + i)) hE (by omega) hc (hW.lk o (by omega)) dX11_ride_108 (rfl) (by omega) (by omega) (c2 _) ?_
              refine wt_icmp_gt (pc := 109) 116 hc dX11_ride_109 (by decide) (fun c_109 => ?_) (fun c_109 => ?_)
              · refine wt_iconst (pc := 116) (v := nI 0) hc dX11_ride_116 (by decide) ?_
                refine wt_ior (pc := 117) hc dX11_ride_117 ?_
                first | refine wt_topi (z := sp_i (true || true)) (cf_or true true) ?_ | refine wt_topi (z := sp_i (true || false)) (cf_or true false) ?_
                refine wt_istore_5 (pc := 118) hc dX11_ride_118 rfl ?_
                refine wt_iinc_7 (pc := 120) (v := nI (i + 1)) hc dX11_ride_120 (nI_add i 1) rfl ?_
                refine wt_goto (pc := 123) 30 hc dX11_ride_123 (by decide) ?_
                exact wt_drop (ih (i + 1) true any Q' (by omega) hQ hnb hp hv) ⟨rfl, rfl, rfl, rfl, rfl, rfl, rfl, rfl, trivial⟩
              · refine wt_iconst (pc := 112) (v := nI 1) hc dX11_ride_112 (by decide) ?_
                refine wt_goto (pc := 113) 117 hc dX11_ride_113 (by decide) ?_
                refine wt_ior (pc := 117) hc dX11_ride_117 ?_
                first | refine wt_topi (z := sp_i (true || true)) (cf_or true true) ?_ | refine wt_topi (z := sp_i (true || false)) (cf_or true false) ?_
                refine wt_istore_5 (pc := 118) hc dX11_ride_118 rfl ?_
                refine wt_iinc_7 (pc := 120) (v := nI (i + 1)) hc dX11_ride_120 (nI_add i 1) rfl ?_
                refine wt_goto (pc := 123) 30 hc dX11_ride_123 (by decide) ?_
                exact wt_drop (ih (i + 1) true any Q' (by omega) hQ hnb hp hv) ⟨rfl, rfl, rfl, rfl, rfl, rfl, rfl, rfl, trivial⟩
            · rw [if_pos ⟨rfl, c_75⟩] at hv
              have hp' : ∀ j, j < 10 → sp_fill D p2 10 (fun j => wt_up2 Q' k2 (o2 + r) (Q' 54 (8 * o + i)) k2 (o2 + j)) p1 j = wt_up2 Q' k2 (o2 + r) (Q' 54 (8 * o + i)) k1 (o1 + j) := by
                intro j hj
                have hpj := hp j hj
                unfold sp_fill at hpj ⊢
                by_cases e : p1 = p2
                · obtain ⟨hk, hoo⟩ := (hd j j hj hj).mpr ⟨e, rfl⟩
                  rw [if_pos ⟨e, hj⟩, hk, hoo]
                · rw [if_neg (fun z => e z.1)] at hpj ⊢
                  rw [wt_up2_ne (fun z => e ((hd j r hj (by omega)).mp ⟨z.1, z.2⟩).1)]
                  exact hpj
              refine wt_aload_3 (pc := 78) hc dX11_ride_78 ?_
              refine wt_iload_8 (pc := 79) hc dX11_ride_79 ?_
              refine wt_aload_0 (pc := 81) hc dX11_ride_81 ?_
              refine cv_getr (pc := 82) (b := S.2.1 6) 8 hc cP3 (hW.n) dX11_ride_82 q489 (by decide) (Or.inl rfl) (fun _ _ _ => rfl) (hW.rcomes) ?_
              refine wt_iload_1 (pc := 85) hc dX11_ride_85 ?_
              refine cv_aaldr (pc := 86) (b := S.2.1 (7 + o)) (o) hc (hW.comes) (by decide) dX11_ride_86 (rfl) (by omega) (by omega) (hW.cr o (by omega)) ?_
              refine wt_iload_7 (pc := 87) hc dX11_ride_87 ?_
              refine bz_iald (pc := 89) ((7 + o)) (i) (Q' 54 (8 * o + i)) hE (by omega) hc (hW.ck o (by omega)) dX11_ride_89 (rfl) (by omega) (by omega) (c1 _) ?_
              refine bz_iast (pc := 90) p2 (r) hE (by omega) hc (K2) dX11_ride_90 (rfl) (by omega) (by omega) ?_
              refine bz_eq (D := sp_fill D p2 10 (fun j => wt_up2 Q' k2 (o2 + r) (Q' 54 (8 * o + i)) k2 (o2 + j))) (cf_fup (by omega)) ?_
              refine wt_iconst (pc := 91) (v := nI 1) hc dX11_ride_91 (by decide) ?_
              refine wt_istore_6 (pc := 92) hc dX11_ride_92 rfl ?_
              refine wt_iload_5 (pc := 94) hc dX11_ride_94 ?_
              refine wt_aload_2 (pc := 96) hc dX11_ride_96 ?_
              refine wt_iload_8 (pc := 97) hc dX11_ride_97 ?_
              refine bz_iald (pc := 99) p1 (r) (wt_up2 Q' k2 (o2 + r) (Q' 54 (8 * o + i)) k1 (o1 + r)) hE (by omega) hc (K1) dX11_ride_99 (rfl) (by omega) (by omega) (hp' r (by omega)) ?_
              refine wt_aload_0 (pc := 100) hc dX11_ride_100 ?_
              refine cv_getr (pc := 101) (b := S.2.1 12) 9 hc cP3 (hW.n) dX11_ride_101 q492 (by decide) (Or.inl rfl) (fun _ _ _ => rfl) (hW.rleaves) ?_
              refine wt_iload_1 (pc := 104) hc dX11_ride_104 ?_
              refine cv_aaldr (pc := 105) (b := S.2.1 (13 + o)) (o) hc (hW.leaves) (by decide) dX11_ride_105 (rfl) (by omega) (by omega) (hW.lr o (by omega)) ?_
              refine wt_iload_7 (pc := 106) hc dX11_ride_106 ?_
              refine bz_iald (pc := 108) ((13 + o)) (i) (Q' 55 (8 * o + i)) hE (by omega) hc (hW.lk o (by omega)) dX11_ride_108 (rfl) (by omega) (by omega) (c2 _) ?_
              refine wt_icmp_gt (pc := 109) 116 hc dX11_ride_109 (by decide) (fun c_109 => ?_) (fun c_109 => ?_)
              · refine wt_iconst (pc := 116) (v := nI 0) hc dX11_ride_116 (by decide) ?_
                refine wt_ior (pc := 117) hc dX11_ride_117 ?_
                first | refine wt_topi (z := sp_i (true || true)) (cf_or true true) ?_ | refine wt_topi (z := sp_i (true || false)) (cf_or true false) ?_
                refine wt_istore_5 (pc := 118) hc dX11_ride_118 rfl ?_
                refine wt_iinc_7 (pc := 120) (v := nI (i + 1)) hc dX11_ride_120 (nI_add i 1) rfl ?_
                refine wt_goto (pc := 123) 30 hc dX11_ride_123 (by decide) ?_
                exact wt_drop (ih (i + 1) true true _ (by omega) (fun k hk => (wt_up2_row hk).trans (hQ k hk)) hnb hp' hv) ⟨rfl, rfl, rfl, rfl, rfl, rfl, rfl, rfl, trivial⟩
              · refine wt_iconst (pc := 112) (v := nI 1) hc dX11_ride_112 (by decide) ?_
                refine wt_goto (pc := 113) 117 hc dX11_ride_113 (by decide) ?_
                refine wt_ior (pc := 117) hc dX11_ride_117 ?_
                first | refine wt_topi (z := sp_i (true || true)) (cf_or true true) ?_ | refine wt_topi (z := sp_i (true || false)) (cf_or true false) ?_
                refine wt_istore_5 (pc := 118) hc dX11_ride_118 rfl ?_
                refine wt_iinc_7 (pc := 120) (v := nI (i + 1)) hc dX11_ride_120 (nI_add i 1) rfl ?_
                refine wt_goto (pc := 123) 30 hc dX11_ride_123 (by decide) ?_
                exact wt_drop (ih (i + 1) true true _ (by omega) (fun k hk => (wt_up2_row hk).trans (hQ k hk)) hnb hp' hv) ⟨rfl, rfl, rfl, rfl, rfl, rfl, rfl, rfl, trivial⟩
  refine wt_aload_0 (pc := 0) hc dX11_ride_0 ?_
  refine cv_getr (pc := 1) (b := q 0) 11 hc cP3 (hW.n) dX11_ride_1 q497 (by decide) (Or.inl rfl) (fun _ _ _ => rfl) (hW.rx) ?_
  refine cv_getrN (pc := 4) (b := q 1) 0 hc cP0 (hY.kx) dX11_ride_4 q241 (by decide) (Or.inl rfl) (fun _ _ _ => rfl) (hY.xc) ?_
  refine cv_getrN (pc := 7) (b := q 4) 2 hc cP1 (hY.c) dX11_ride_7 q199 (by decide) (Or.inl rfl) (fun _ _ _ => rfl) (hY.co) ?_
  refine wt_iload_1 (pc := 10) hc dX11_ride_10 ?_
  refine wt_gofr (wt_invF (pc := 11) 1 hc cP11 (hY.os) (ct_gL (hY.ol _) (by omega)) dX11_ride_11 rfl q530 q449 q451 q115 q453 (hX.F_J2_get) (by decide +kernel) rfl (by first | decide | omega) (by decide) (Nat.le_of_ble_eq_true rfl) rfl) ?_
  refine cv_castS (pc := 16) hc cP2 (hY.ok o (by omega)) dX11_ride_16 q531 ?_
  refine wt_astore_4 (pc := 19) hc dX11_ride_19 rfl ?_
  refine wt_iconst (pc := 21) (v := nI 0) hc dX11_ride_21 (by decide) ?_
  refine wt_istore_5 (pc := 22) hc dX11_ride_22 rfl ?_
  refine wt_iconst (pc := 24) (v := nI 0) hc dX11_ride_24 (by decide) ?_
  refine wt_istore_6 (pc := 25) hc dX11_ride_25 rfl ?_
  refine wt_iconst (pc := 27) (v := nI 0) hc dX11_ride_27 (by decide) ?_
  refine wt_istore_7 (pc := 28) hc dX11_ride_28 rfl ?_
  refine bz_eq (cf_fsame (f := fun j => Q k2 (o2 + j)) (fun j hj => (h2 j hj).symm)) ?_
  by_cases hnb : Q 47 3 >>> (nI o &&& 31) &&& 1 = 1
  · have hv : sp_takes Q k1 o1 k2 o2 o = (Q, false) := by rw [sp_takes, if_pos (by rw [sp_nb, decide_eq_true_eq]; exact hnb)]
    refine wt_iload_7 (pc := 30) hc dX11_ride_30 ?_
    refine wt_aload_4 (pc := 32) hc dX11_ride_32 ?_
    refine wt_gofn (wt_invV (pc := 34) 0 hc (ct_X6_size hX (q (20 + o)) _ _ wl _ (hY.wo o (by omega) e9 hwl _)) dX11_ride_34 rfl (fun s H => cz_recv cP2 (hY.ok o (by omega)) s H) q543 q544 q545 q129 q546 (by decide +kernel) rfl (by first | decide | omega) (by decide) (Nat.le_of_ble_eq_true rfl) rfl) ?_
    refine wt_nicmp_ge (pc := 37) 126 (0) (wl) hc dX11_ride_37 (by decide) (by omega) (by omega) (fun c_37 => ?_) (fun c_37 => ?_)
    · refine wt_iload_6 (pc := 126) hc dX11_ride_126 ?_
      exact wt_iret (pc := 128) hc hok dX11_ride_128 (rfl) (fun H hZ => ⟨by rw [hv]; rfl, by rw [hv]; exact hZ⟩)
    · refine wt_aload_0 (pc := 40) hc dX11_ride_40 ?_
      refine wt_iload_1 (pc := 41) hc dX11_ride_41 ?_
      refine wt_gofn (wt_invV (pc := 42) 1 hc (ct_X11_isOut (o) hE (by omega) hW) dX11_ride_42 rfl (fun s H => cz_recv cP3 (hW.n) s H) q536 q537 q538 q143 q539 (by decide +kernel) rfl (by first | decide | omega) (by decide) (Nat.le_of_ble_eq_true rfl) rfl) ?_
      refine wt_if_eq (pc := 45) 126 hc dX11_ride_45 (by decide) (fun c_45 => ?_) (fun c_45 => ?_)
      · refine wt_iload_6 (pc := 126) hc dX11_ride_126 ?_
        exact wt_iret (pc := 128) hc hok dX11_ride_128 (rfl) (fun H hZ => ⟨by rw [hv]; rfl, by rw [hv]; exact hZ⟩)
      · exact absurd (sp_b_n0 c_45) (fun z => z (by rw [hD _ 1 (by decide), ← q47]; exact hnb))
  · have hv : sp_takes Q k1 o1 k2 o2 o = sp_tk k1 o1 k2 o2 o wl 0 false false Q := by rw [sp_takes, if_neg (by rw [sp_nb, decide_eq_true_eq]; exact hnb), q9, e9, nn_nI (by omega)]
    refine loop wl 0 false false Q (by omega) (fun k _ => rfl) hnb (fun j hj => ?_) hv
    rw [← cf_fsame (f := fun j => Q k2 (o2 + j)) (fun j hj => (h2 j hj).symm)]
    exact h1 j hj
theorem cf_waits {D Q : wt_It} {p a : Nat} {x t : Int32} (ea : Q 11 (4 * p) = nI a) (ha : a < 10) (hx : x = nI a) (ht : t = Q 11 (4 * p + 2)) (z : Nat) : cf_beg D z x t = sp_fill D z 10 (fun j => sp_waits Q p 60 60 (0 + j)) := by
  unfold cf_beg
  refine cf_fext (fun j hj => ?_)
  unfold sp_waits
  rw [ea, nn_nI (by omega), Nat.zero_add, hx, ht]
  by_cases h : j = a
  · rw [h, wt_up2_self, if_pos rfl]
  · rw [wt_up2_ne (fun z => h z.2), if_neg (fun z => h ((nI_eq (by omega) (by omega)).mp z))]
    exact (if_pos ⟨rfl, hj⟩).symm
theorem cRq.cty {D M Q : wt_It} (h : cRq D M Q ow) (hY : cYS S M q ro ow ri ru) : sp_cty Q ro ow ri := by
  obtain ⟨a, b, c, d, e, f⟩ := h
  have hro := hY.b10
  refine ⟨hY.b10, hY.b5, hY.b8, (e 1 (by decide)).trans hY.ero, (e 3 (by decide)).trans hY.eow, (e 4 (by decide)).trans hY.eri, fun o ho => ?_, fun p hp => ?_⟩
  · obtain ⟨wl, h1, h2, h3⟩ := hY.way o ho
    refine ⟨wl, h1, by rw [a]; exact h2, fun i hi => ?_⟩
    obtain ⟨r, hr, er⟩ := h3 i hi
    exact ⟨r, by omega, by rw [b]; exact er⟩
  · obtain ⟨⟨x, hx, ex⟩, y, hy, ey⟩ := hY.rid p hp
    exact ⟨⟨x, by omega, by rw [c]; exact ex⟩, y, by omega, by rw [c]; exact ey⟩
theorem cf_mu {M : wt_It} {ro ow ri : Nat} : ∀ (n o : Nat) (more : Bool) (M : wt_It), o + n = ow → sp_cty M ro ow ri → sp_muN ((sp_ps n o more M).1 60) 10 ≤ sp_muN (M 60) 10 ∧ ((sp_ps n o more M).2 = true → more = true ∨ sp_muN ((sp_ps n o more M).1 60) 10 < sp_muN (M 60) 10) := by
  intro n
  induction n with
  | zero => intro o more M _ _; exact ⟨Nat.le_refl _, Or.inl⟩
  | succ n ih =>
    intro o more M hi hq
    obtain ⟨wl, hw⟩ := hq.2.2.2.2.2.2.1 o (by omega)
    have hc' : sp_cty (sp_takes M 60 0 60 0 o).1 ro ow ri := hq.r60 (fun k hk => sp_takes_row hk)
    obtain ⟨g1, g2⟩ := sp_takes_mu hw
    rw [sp_ps]
    obtain ⟨g3, g4⟩ := ih (o + 1) ((sp_takes M 60 0 60 0 o).2 || more) _ (by omega) hc'
    refine ⟨by omega, fun h => ?_⟩
    rcases g4 h with q | q
    · rcases (Bool.or_eq_true _ _).mp q with z | z
      · have := g2 z
        exact Or.inr (by omega)
      · exact Or.inl z
    · exact Or.inr (by omega)
theorem ct_X11_tellSoon (hX : cX G) (p : Nat) (hE : bE G S NB) (hN : 19 ≤ NB) (hW : cW S (q 0)) (hY : cYS S M q ro ow ri ru) (hp : p < ri) (hR : cRq D M Q ow) : wt_Ct l G yX11_tellSoon cX11_tellSoon 4 none 6 0 0 [.ref (S.2.1 1), .ref (q (30 + p))] (cz G (bB S D)) (wt_pv (cz G (bB S (sp_fill D 18 10 (fun j => sp_rides Q p 60 (0 + j)))))) := by
  have how := hY.b5
  have hro := hY.b10
  have hri := hY.b8
  have hcty := hR.cty hY
  obtain ⟨⟨a, ha, ea⟩, -⟩ := hY.rid p hp
  have ea' : Q 11 (4 * p) = nI a := by rw [hR.2.2.1]; exact ea
  refine wt_enter [some (.ref (S.2.1 1)), some (.ref (q (30 + p))), none, none] (by decide +kernel) rfl (Nat.le_of_ble_eq_true rfl) (fun X hc hok => ?_)
  have pass : ∀ (n o : Nat) (more : Bool) (Q' : wt_It), o + n = ow → (∀ k, k ≠ 60 → Q' k = Q k) → wt_V G X 11 [some (.ref (S.2.1 1)), some (.ref (q (30 + p))), some (.int (sp_i (sp_ps n o more Q').2)), none] [] (cz G (bB S (sp_fill D 18 10 (fun j => (sp_ps n o more Q').1 60 (0 + j))))) 0 0 → wt_V G X 19 [some (.ref (S.2.1 1)), some (.ref (q (30 + p))), some (.int (sp_i more)), some (.int (nI o))] [] (cz G (bB S (sp_fill D 18 10 (fun j => Q' 60 (0 + j))))) 0 0 := by
    intro n
    induction n with
    | zero =>
      intro o more Q' hi hQ hend
      refine wt_iload_3 (pc := 19) hc dX11_tellSoon_19 ?_
      refine wt_aload_0 (pc := 20) hc dX11_tellSoon_20 ?_
      refine cv_getr (pc := 21) (b := q 0) 11 hc cP3 (hW.n) dX11_tellSoon_21 q497 (by decide) (Or.inl rfl) (fun _ _ _ => rfl) (hW.rx) ?_
      refine cv_getrN (pc := 24) (b := q 1) 0 hc cP0 (hY.kx) dX11_tellSoon_24 q241 (by decide) (Or.inl rfl) (fun _ _ _ => rfl) (hY.xc) ?_
      refine cv_getrN (pc := 27) (b := q 4) 2 hc cP1 (hY.c) dX11_tellSoon_27 q199 (by decide) (Or.inl rfl) (fun _ _ _ => rfl) (hY.co) ?_
      refine wt_gofn (wt_invF (pc := 30) 0 hc cP11 (hY.os) (ct_sL (hY.ol _)) dX11_tellSoon_30 rfl q528 q318 q320 q115 q322 (hX.F_J2_size) (by decide +kernel) rfl (by first | decide | omega) (by decide) (Nat.le_of_ble_eq_true rfl) rfl) ?_
      refine wt_nicmp_ge (pc := 35) 60 (o) (ow) hc dX11_tellSoon_35 (by decide) (by omega) (by omega) (fun c_35 => ?_) (fun c_35 => ?_)
      · refine wt_goto (pc := 60) 11 hc dX11_tellSoon_60 (by decide) ?_
        exact wt_drop hend ⟨rfl, rfl, rfl, trivial⟩
      · omega
    | succ n ih =>
      intro o more Q' hi hQ hend
      rw [sp_ps] at hend
      have hR' : cRq (sp_fill D 18 10 (fun j => Q' 60 (0 + j))) M Q' ow := (hR.d how (fun k hk => sp_fill_row (by omega))).q (fun k hk => hQ k (by omega))
      refine wt_iload_3 (pc := 19) hc dX11_tellSoon_19 ?_
      refine wt_aload_0 (pc := 20) hc dX11_tellSoon_20 ?_
      refine cv_getr (pc := 21) (b := q 0) 11 hc cP3 (hW.n) dX11_tellSoon_21 q497 (by decide) (Or.inl rfl) (fun _ _ _ => rfl) (hW.rx) ?_
      refine cv_getrN (pc := 24) (b := q 1) 0 hc cP0 (hY.kx) dX11_tellSoon_24 q241 (by decide) (Or.inl rfl) (fun _ _ _ => rfl) (hY.xc) ?_
      refine cv_getrN (pc := 27) (b := q 4) 2 hc cP1 (hY.c) dX11_tellSoon_27 q199 (by decide) (Or.inl rfl) (fun _ _ _ => rfl) (hY.co) ?_
      refine wt_gofn (wt_invF (pc := 30) 0 hc cP11 (hY.os) (ct_sL (hY.ol _)) dX11_tellSoon_30 rfl q528 q318 q320 q115 q322 (hX.F_J2_size) (by decide +kernel) rfl (by first | decide | omega) (by decide) (Nat.le_of_ble_eq_true rfl) rfl) ?_
      refine wt_nicmp_ge (pc := 35) 60 (o) (ow) hc dX11_tellSoon_35 (by decide) (by omega) (by omega) (fun c_35 => ?_) (fun c_35 => ?_)
      · omega
      · refine wt_iload_2 (pc := 38) hc dX11_tellSoon_38 ?_
        refine wt_aload_0 (pc := 39) hc dX11_tellSoon_39 ?_
        refine wt_iload_3 (pc := 40) hc dX11_tellSoon_40 ?_
        refine wt_aload_0 (pc := 41) hc dX11_tellSoon_41 ?_
        refine cv_getr (pc := 42) (b := S.2.1 18) 10 hc cP3 (hW.n) dX11_tellSoon_42 q495 (by decide) (Or.inl rfl) (fun _ _ _ => rfl) (hW.rsoon) ?_
        refine wt_aload_0 (pc := 45) hc dX11_tellSoon_45 ?_
        refine cv_getr (pc := 46) (b := S.2.1 18) 10 hc cP3 (hW.n) dX11_tellSoon_46 q495 (by decide) (Or.inl rfl) (fun _ _ _ => rfl) (hW.rsoon) ?_
        refine wt_gofn (wt_invV (pc := 49) 3 hc (ct_X11_ride hX 60 0 60 0 o 18 18 hE hN hW hY (by omega) hR' (by omega) (by omega) (by omega) hW.soon hW.soon (fun i j hi hj => ⟨fun z => ⟨rfl, by omega⟩, fun z => ⟨rfl, by omega⟩⟩) (fun j hj => if_pos ⟨rfl, hj⟩) (fun j hj => if_pos ⟨rfl, hj⟩) (by decide)) dX11_tellSoon_49 rfl (fun s H => cz_recv cP3 (hW.n) s H) q660 q662 qs13 q143 q663 (by decide +kernel) rfl (by first | decide | omega) (by decide) (Nat.le_of_ble_eq_true rfl) rfl) ?_
        refine bz_eq cf_ff ?_
        refine wt_ior (pc := 52) hc dX11_tellSoon_52 ?_
        refine wt_topi (z := sp_i ((sp_takes Q' 60 0 60 0 o).2 || more)) ((cf_or more (sp_takes Q' 60 0 60 0 o).2).trans (by rw [Bool.or_comm])) ?_
        refine wt_istore_2 (pc := 53) hc dX11_tellSoon_53 rfl ?_
        refine wt_iinc_3 (pc := 54) (v := nI (o + 1)) hc dX11_tellSoon_54 (nI_add o 1) rfl ?_
        refine wt_goto (pc := 57) 19 hc dX11_tellSoon_57 (by decide) ?_
        exact ih (o + 1) _ _ (by omega) (fun k hk => (sp_takes_row hk).trans (hQ k hk)) hend
  have loop : ∀ (n : Nat) (Q' : wt_It), (∀ k, k ≠ 60 → Q' k = Q k) → sp_muN (Q' 60) 10 < n → sp_rl n ow Q' = sp_rides Q p → wt_V G X 11 [some (.ref (S.2.1 1)), some (.ref (q (30 + p))), some (.int (sp_i true)), none] [] (cz G (bB S (sp_fill D 18 10 (fun j => Q' 60 (0 + j))))) 0 0 := by
    intro n
    induction n with
    | zero => intro Q' _ h; omega
    | succ n ih =>
      intro Q' hQ hn hv
      rw [sp_rl] at hv
      have hq : sp_cty Q' ro ow ri := hcty.r60 hQ
      obtain ⟨g1, g2⟩ := cf_mu (M := Q') ow 0 false Q' (by omega) hq
      refine wt_iload_2 (pc := 11) hc dX11_tellSoon_11 ?_
      refine wt_if_eq (pc := 12) 63 hc dX11_tellSoon_12 (by decide) (fun z => absurd z (by decide)) (fun _ => ?_)
      refine wt_iconst (pc := 15) (v := nI 0) hc dX11_tellSoon_15 (by decide) ?_
      refine wt_istore_2 (pc := 16) hc dX11_tellSoon_16 rfl ?_
      refine wt_iconst (pc := 17) (v := nI 0) hc dX11_tellSoon_17 (by decide) ?_
      refine wt_istore_3 (pc := 18) hc dX11_tellSoon_18 rfl ?_
      refine pass ow 0 false Q' (by omega) hQ ?_
      have hQ2 : ∀ k, k ≠ 60 → (sp_ps ow 0 false Q').1 k = Q k := fun k hk => (sp_ps_row _ _ _ _ _ hk).trans (hQ k hk)
      cases hm : (sp_ps ow 0 false Q').2 with
      | true =>
        rw [if_pos hm] at hv
        have := (g2 hm).resolve_left (by decide)
        exact ih _ hQ2 (by omega) hv
      | false =>
        rw [if_neg (by rw [hm]; decide)] at hv
        refine wt_iload_2 (pc := 11) hc dX11_tellSoon_11 ?_
        refine wt_if_eq (pc := 12) 63 hc dX11_tellSoon_12 (by decide) (fun _ => ?_) (fun z => absurd z (by decide))
        exact wt_vret (pc := 63) hc hok dX11_tellSoon_63 (fun H hZ => ⟨rfl, by rw [← hv]; exact hZ⟩)
  refine wt_aload_0 (pc := 0) hc dX11_tellSoon_0 ?_
  refine wt_aload_0 (pc := 1) hc dX11_tellSoon_1 ?_
  refine cv_getr (pc := 2) (b := S.2.1 18) 10 hc cP3 (hW.n) dX11_tellSoon_2 q495 (by decide) (Or.inl rfl) (fun _ _ _ => rfl) (hW.rsoon) ?_
  refine wt_aload_1 (pc := 5) hc dX11_tellSoon_5 ?_
  refine wt_gov (wt_invV (pc := 6) 2 hc (ct_X11_begin (q (30 + p)) 18 hE (by omega) hW.soon (hY.rk p hp) (fun E k hk => (hY.rif E p k hp hk).trans (hY.rif D p k hp hk).symm)) dX11_tellSoon_6 rfl (fun s H => cz_recv cP3 (hW.n) s H) q655 q657 qs12 q143 q658 (by decide +kernel) rfl (by first | decide | omega) (by decide) (Nat.le_of_ble_eq_true rfl) rfl) (Nat.zero_le _) (Nat.zero_le _) ?_
  refine bz_eq (cf_waits (p := p) ea' (by omega) ((hY.rif D p 0 hp (by omega)).trans ea) ((hY.rif D p 2 hp (by omega)).trans (congrFun hR.2.2.1 _).symm) 18) ?_
  refine wt_iconst (pc := 9) (v := nI 1) hc dX11_tellSoon_9 (by decide) ?_
  refine wt_istore_2 (pc := 10) hc dX11_tellSoon_10 rfl ?_
  have e : sp_rides Q p = sp_rl (sp_muN (sp_waits Q p 60 60) 10 + 1) ow (sp_waits Q p 60) := by rw [sp_rides, hcty.2.2.2.2.1, nn_nI (by omega)]
  exact loop (sp_muN (sp_waits Q p 60 60) 10 + 1) (sp_waits Q p 60) (fun k hk => by unfold sp_waits; rw [wt_up2_row hk, sp_fill_row hk]) (by omega) e.symm
theorem ct_X11_home (hX : cX G) (p : Nat) (hE : bE G S NB) (hN : 19 ≤ NB) (hW : cW S (q 0)) (hY : cYS S M q ro ow ri ru) (hp : p < ri) (hR : cRq D M Q ow) : wt_Ct l G yX11_home cX11_home 2 (some .int) 7 0 0 [.ref (S.2.1 1), .ref (q (30 + p))] (cz G (bB S D)) (wt_fn (sp_soon Q p) (cz G (bB S (sp_fill D 18 10 (fun j => sp_rides Q p 60 (0 + j)))))) := by
  have how := hY.b5
  have hro := hY.b10
  have hri := hY.b8
  obtain ⟨-, b, hb, eb⟩ := hY.rid p hp
  have eb' : Q 11 (4 * p + 1) = nI b := by rw [hR.2.2.1]; exact eb
  have e6 : Q 0 6 = M 0 6 := hR.2.2.2.2.1 6 (by decide)
  refine wt_enter [some (.ref (S.2.1 1)), some (.ref (q (30 + p)))] (by decide +kernel) rfl (Nat.le_of_ble_eq_true rfl) (fun X hc hok => ?_)
  refine wt_aload_0 (pc := 0) hc dX11_home_0 ?_
  refine wt_aload_1 (pc := 1) hc dX11_home_1 ?_
  refine wt_gov (wt_invV (pc := 2) 1 hc (ct_X11_tellSoon hX p hE hN hW hY hp hR) dX11_home_2 rfl (fun s H => cz_recv cP3 (hW.n) s H) q651 q653 qs11 q143 q654 (by decide +kernel) rfl (by first | decide | omega) (by decide) (Nat.le_of_ble_eq_true rfl) rfl) (Nat.zero_le _) (Nat.zero_le _) ?_
  refine wt_aload_0 (pc := 5) hc dX11_home_5 ?_
  refine cv_getr (pc := 6) (b := S.2.1 18) 10 hc cP3 (hW.n) dX11_home_6 q495 (by decide) (Or.inl rfl) (fun _ _ _ => rfl) (hW.rsoon) ?_
  refine wt_aload_1 (pc := 9) hc dX11_home_9 ?_
  refine wt_iconst (pc := 10) (v := nI 1) hc dX11_home_10 (by decide) ?_
  refine cv_iald (pc := 11) (1) (nI b) hc (hY.rk p (by omega)) dX11_home_11 (rfl) (by omega) (by omega) ((hY.rif _ p 1 hp (by omega)).trans eb) ?_
  refine bz_iald (pc := 12) 18 (b) (sp_rides Q p 60 (0 + b)) hE (by omega) hc (hW.soon) dX11_home_12 (rfl) (by omega) (by omega) (if_pos ⟨rfl, by omega⟩) ?_
  refine wt_aload_0 (pc := 13) hc dX11_home_13 ?_
  refine cv_getr (pc := 14) (b := q 0) 11 hc cP3 (hW.n) dX11_home_14 q497 (by decide) (Or.inl rfl) (fun _ _ _ => rfl) (hW.rx) ?_
  refine cv_getrN (pc := 17) (b := q 1) 0 hc cP0 (hY.kx) dX11_home_17 q241 (by decide) (Or.inl rfl) (fun _ _ _ => rfl) (hY.xc) ?_
  refine cv_getiN (pc := 20) 7 (M 0 6) hc cP1 (hY.c) dX11_home_20 q218 (by decide) (Or.inl rfl) (fun _ _ _ => rfl) (hY.da _) ?_
  refine wt_icmp_gt (pc := 23) 37 hc dX11_home_23 (by decide) (fun c_23 => ?_) (fun c_23 => ?_)
  · refine wt_ldc (pc := 37) (v := nI 1000000) hc dX11_home_37 q659 ?_
    exact wt_iret (pc := 39) hc hok dX11_home_39 (rfl) (fun H hZ => ⟨by rw [sp_soon, eb', nn_nI (by omega), e6]; rw [Nat.zero_add] at c_23; first | rw [if_pos c_23] | (rw [if_neg c_23, Nat.zero_add]), hZ⟩)
  · refine wt_aload_0 (pc := 26) hc dX11_home_26 ?_
    refine cv_getr (pc := 27) (b := S.2.1 18) 10 hc cP3 (hW.n) dX11_home_27 q495 (by decide) (Or.inl rfl) (fun _ _ _ => rfl) (hW.rsoon) ?_
    refine wt_aload_1 (pc := 30) hc dX11_home_30 ?_
    refine wt_iconst (pc := 31) (v := nI 1) hc dX11_home_31 (by decide) ?_
    refine cv_iald (pc := 32) (1) (nI b) hc (hY.rk p (by omega)) dX11_home_32 (rfl) (by omega) (by omega) ((hY.rif _ p 1 hp (by omega)).trans eb) ?_
    refine bz_iald (pc := 33) 18 (b) (sp_rides Q p 60 (0 + b)) hE (by omega) hc (hW.soon) dX11_home_33 (rfl) (by omega) (by omega) (if_pos ⟨rfl, by omega⟩) ?_
    refine wt_goto (pc := 34) 39 hc dX11_home_34 (by decide) ?_
    exact wt_iret (pc := 39) hc hok dX11_home_39 (rfl) (fun H hZ => ⟨by rw [sp_soon, eb', nn_nI (by omega), e6]; rw [Nat.zero_add] at c_23; first | rw [if_pos c_23] | (rw [if_neg c_23, Nat.zero_add]), hZ⟩)
theorem cf_hmR {M0 Q Q' : wt_It} {D : wt_It} (hR : cRq D M0 Q ow) (h : ∀ k, k ≠ 60 → Q' k = Q k) : cRq D M0 Q' ow := hR.q (fun k hk => h k (by omega))
theorem ct_X11_homes (hX : cX G) (hE : bE G S NB) (hN : 19 ≤ NB) (hW : cW S (q 0)) (hY : cYS S M q ro ow ri ru) (hR : cRq D M Q ow) : wt_Ct l G yX11_homes cX11_homes 3 (some .int) 8 0 0 [.ref (S.2.1 1)] (cz G (bB S D)) (wt_fn (sp_hm ri 0 (nI 0) Q).1 (fun H => ∃ D', (∀ k, k ≠ 18 → D' k = D k) ∧ cz G (bB S D') H)) := by
  have how := hY.b5
  have hro := hY.b10
  have hri := hY.b8
  refine wt_enter [some (.ref (S.2.1 1)), none, none] (by decide +kernel) rfl (Nat.le_of_ble_eq_true rfl) (fun X hc hok => ?_)
  have loop : ∀ (n p : Nat) (a : Int32) (Q' D' : wt_It), p + n = ri → (∀ k, k ≠ 60 → Q' k = Q k) → (∀ k, k ≠ 18 → D' k = D k) → (sp_hm ri 0 (nI 0) Q).1 = (sp_hm n p a Q').1 → wt_V G X 4 [some (.ref (S.2.1 1)), some (.int a), some (.int (nI p))] [] (cz G (bB S D')) 0 0 := by
    intro n
    induction n with
    | zero =>
      intro p a Q' D' hi hQ hD hv
      refine wt_iload_2 (pc := 4) hc dX11_homes_4 ?_
      refine wt_aload_0 (pc := 5) hc dX11_homes_5 ?_
      refine cv_getr (pc := 6) (b := q 0) 11 hc cP3 (hW.n) dX11_homes_6 q497 (by decide) (Or.inl rfl) (fun _ _ _ => rfl) (hW.rx) ?_
      refine cv_getrN (pc := 9) (b := q 1) 0 hc cP0 (hY.kx) dX11_homes_9 q241 (by decide) (Or.inl rfl) (fun _ _ _ => rfl) (hY.xc) ?_
      refine cv_getrN (pc := 12) (b := q 5) 3 hc cP1 (hY.c) dX11_homes_12 q204 (by decide) (Or.inl rfl) (fun _ _ _ => rfl) (hY.cr) ?_
      refine wt_gofn (wt_invF (pc := 15) 0 hc cP11 (hY.rs) (ct_sL (hY.rl _)) dX11_homes_15 rfl q528 q318 q320 q115 q322 (hX.F_J2_size) (by decide +kernel) rfl (by first | decide | omega) (by decide) (Nat.le_of_ble_eq_true rfl) rfl) ?_
      refine wt_nicmp_ge (pc := 20) 60 (p) (ri) hc dX11_homes_20 (by decide) (by omega) (by omega) (fun c_20 => ?_) (fun c_20 => ?_)
      · refine wt_iload_1 (pc := 60) hc dX11_homes_60 ?_
        exact wt_iret (pc := 61) hc hok dX11_homes_61 (rfl) (fun H hZ => ⟨by rw [hv]; rfl, D', hD, hZ⟩)
      · omega
    | succ n ih =>
      intro p a Q' D' hi hQ hD hv
      rw [sp_hm] at hv
      have hR' : cRq D' M Q' ow := (hR.q (fun k hk => hQ k (by omega))).d how (fun k hk => hD k (by omega))
      have hD2 : ∀ k, k ≠ 18 → sp_fill D' 18 10 (fun j => sp_rides Q' p 60 (0 + j)) k = D k := fun k hk => (sp_fill_row hk).trans (hD k hk)
      refine wt_iload_2 (pc := 4) hc dX11_homes_4 ?_
      refine wt_aload_0 (pc := 5) hc dX11_homes_5 ?_
      refine cv_getr (pc := 6) (b := q 0) 11 hc cP3 (hW.n) dX11_homes_6 q497 (by decide) (Or.inl rfl) (fun _ _ _ => rfl) (hW.rx) ?_
      refine cv_getrN (pc := 9) (b := q 1) 0 hc cP0 (hY.kx) dX11_homes_9 q241 (by decide) (Or.inl rfl) (fun _ _ _ => rfl) (hY.xc) ?_
      refine cv_getrN (pc := 12) (b := q 5) 3 hc cP1 (hY.c) dX11_homes_12 q204 (by decide) (Or.inl rfl) (fun _ _ _ => rfl) (hY.cr) ?_
      refine wt_gofn (wt_invF (pc := 15) 0 hc cP11 (hY.rs) (ct_sL (hY.rl _)) dX11_homes_15 rfl q528 q318 q320 q115 q322 (hX.F_J2_size) (by decide +kernel) rfl (by first | decide | omega) (by decide) (Nat.le_of_ble_eq_true rfl) rfl) ?_
      refine wt_nicmp_ge (pc := 20) 60 (p) (ri) hc dX11_homes_20 (by decide) (by omega) (by omega) (fun c_20 => ?_) (fun c_20 => ?_)
      · omega
      · refine wt_aload_0 (pc := 23) hc dX11_homes_23 ?_
        refine wt_aload_0 (pc := 24) hc dX11_homes_24 ?_
        refine cv_getr (pc := 25) (b := q 0) 11 hc cP3 (hW.n) dX11_homes_25 q497 (by decide) (Or.inl rfl) (fun _ _ _ => rfl) (hW.rx) ?_
        refine cv_getrN (pc := 28) (b := q 1) 0 hc cP0 (hY.kx) dX11_homes_28 q241 (by decide) (Or.inl rfl) (fun _ _ _ => rfl) (hY.xc) ?_
        refine cv_getrN (pc := 31) (b := q 5) 3 hc cP1 (hY.c) dX11_homes_31 q204 (by decide) (Or.inl rfl) (fun _ _ _ => rfl) (hY.cr) ?_
        refine wt_iload_2 (pc := 34) hc dX11_homes_34 ?_
        refine wt_gofr (wt_invF (pc := 35) 1 hc cP11 (hY.rs) (ct_gL (hY.rl _) (by omega)) dX11_homes_35 rfl q530 q449 q451 q115 q453 (hX.F_J2_get) (by decide +kernel) rfl (by first | decide | omega) (by decide) (Nat.le_of_ble_eq_true rfl) rfl) ?_
        refine cv_castA (pc := 40) hc (hY.rk p (by omega)) (by decide +kernel) dX11_homes_40 q677 ?_
        refine wt_gofn (wt_invV (pc := 43) 1 hc (ct_X11_home hX p hE hN hW hY (by omega) hR') dX11_homes_43 rfl (fun s H => cz_recv cP3 (hW.n) s H) q678 q648 q649 q143 q650 (by decide +kernel) rfl (by first | decide | omega) (by decide) (Nat.le_of_ble_eq_true rfl) rfl) ?_
        refine wt_ldc (pc := 46) (v := nI 1000000) hc dX11_homes_46 q659 ?_
        refine wt_icmp_ge (pc := 48) 54 hc dX11_homes_48 (by decide) (fun c_48 => ?_) (fun c_48 => ?_)
        · refine wt_iinc_2 (pc := 54) (v := nI (p + 1)) hc dX11_homes_54 (nI_add p 1) rfl ?_
          refine wt_goto (pc := 57) 4 hc dX11_homes_57 (by decide) ?_
          first | (rw [if_pos c_48] at hv; exact ih (p + 1) _ _ _ (by omega) (fun k hk => (sp_rides_row hk).trans (hQ k hk)) hD2 (hv.trans (by rw [show a + nI 0 = a from Int32.add_zero a]))) | (rw [if_neg c_48] at hv; exact ih (p + 1) _ _ _ (by omega) (fun k hk => (sp_rides_row hk).trans (hQ k hk)) hD2 hv)
        · refine wt_iinc_1 (pc := 51) hc dX11_homes_51 rfl rfl ?_
          refine wt_iinc_2 (pc := 54) (v := nI (p + 1)) hc dX11_homes_54 (nI_add p 1) rfl ?_
          refine wt_goto (pc := 57) 4 hc dX11_homes_57 (by decide) ?_
          first | (rw [if_pos c_48] at hv; exact ih (p + 1) _ _ _ (by omega) (fun k hk => (sp_rides_row hk).trans (hQ k hk)) hD2 (hv.trans (by rw [show a + nI 0 = a from Int32.add_zero a]))) | (rw [if_neg c_48] at hv; exact ih (p + 1) _ _ _ (by omega) (fun k hk => (sp_rides_row hk).trans (hQ k hk)) hD2 hv)
  refine wt_iconst (pc := 0) (v := nI 0) hc dX11_homes_0 (by decide) ?_
  refine wt_istore_1 (pc := 1) hc dX11_homes_1 rfl ?_
  refine wt_iconst (pc := 2) (v := nI 0) hc dX11_homes_2 (by decide) ?_
  refine wt_istore_2 (pc := 3) hc dX11_homes_3 rfl ?_
  exact loop ri 0 (nI 0) Q D (by omega) (fun _ _ => rfl) (fun _ _ => rfl) rfl
end ND
