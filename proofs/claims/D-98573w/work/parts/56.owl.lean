/-! CLASSES: an owl -/
set_option maxRecDepth 100000
/-- a list at a: its array d of n places, c of them in use: e -/
def cL (B : cB) (a c : Nat) (e : Nat → Nat) : Prop := B.1 a = some (.inl 11) ∧ B.2.1 a 2 = nI c ∧ ∃ d n, B.1 d = some (.inr (5, n)) ∧ B.2.2.1 a 1 = some d ∧ c ≤ n ∧ n < 2 ^ 31 ∧ ∀ i, i < c → B.2.2.1 d i = some (e i)
/-- an owl at o: kind, minute, its way of wl roofs -/
def cO (B : cB) (o : Nat) (kind minute : Int32) (wl : Nat) (way : Nat → Int32) : Prop := B.1 o = some (.inl 2) ∧ B.2.1 o 0 = kind ∧ B.2.1 o 1 = minute ∧ ∃ a e, B.2.2.1 o 2 = some a ∧ cL B a wl e ∧ ∀ i, i < wl → B.1 (e i) = some (.inl 12) ∧ B.2.1 (e i) 0 = way i
section OW
variable {l : Launch} {G : wt_G} {Z : Heap → Prop} {B : cB}
theorem ct_X6_size (hX : cX G) (o : Nat) (k m : Int32) (wl : Nat) (way : Nat → Int32) (ho : cO B o k m wl way) : wt_Ct l G yX6_size cX6_size 1 (some .int) 2 0 0 [.ref o] (cz G B) (wt_fn (nI wl) (cz G B)) := by
  obtain ⟨h1, -, -, a, e, h2, ⟨h3, h4, -⟩, -⟩ := ho
  refine wt_enter [some (.ref o)] (by decide +kernel) rfl (Nat.le_of_ble_eq_true rfl) (fun X hc hok => ?_)
  refine wt_aload_0 (pc := 0) hc dX6_size_0 ?_
  refine cv_getr (pc := 1) (b := a) 2 hc cP2 (h1) dX6_size_1 q1040 (by decide) (Or.inl rfl) (fun _ _ _ => rfl) (h2) ?_
  refine wt_gofn (wt_invF (pc := 4) 0 hc cP11 (h3) (ct_J2_size a wl h3 h4) dX6_size_4 rfl q548 q318 q320 q115 q322 (hX.F_J2_size) (by decide +kernel) rfl (by first | decide | omega) (by decide) (Nat.le_of_ble_eq_true rfl) rfl) ?_
  exact wt_iret (pc := 9) hc hok dX6_size_9 (rfl) (fun H hZ => ⟨rfl, hZ⟩)
theorem ct_X6_at (hX : cX G) (o i : Nat) (k m : Int32) (wl : Nat) (way : Nat → Int32) (ho : cO B o k m wl way) (hi : i < wl) : wt_Ct l G yX6_at cX6_at 2 (some .int) 4 0 0 [.ref o, .int (nI i)] (cz G B) (wt_fn (way i) (cz G B)) := by
  obtain ⟨h1, -, -, a, e, h2, ⟨h3, h4, d, n, h5, h6, h7, h8, h9⟩, h10⟩ := ho
  obtain ⟨g1, g2⟩ := h10 i hi
  generalize hb : e i = b at g1 g2
  refine wt_enter [some (.ref o), some (.int (nI i))] (by decide +kernel) rfl (Nat.le_of_ble_eq_true rfl) (fun X hc hok => ?_)
  refine wt_aload_0 (pc := 0) hc dX6_at_0 ?_
  refine cv_getr (pc := 1) (b := a) 2 hc cP2 (h1) dX6_at_1 q1040 (by decide) (Or.inl rfl) (fun _ _ _ => rfl) (h2) ?_
  refine wt_iload_1 (pc := 4) hc dX6_at_4 ?_
  refine wt_gofr (wt_invF (pc := 5) 1 hc cP11 (h3) (ct_J2_get a d n wl i b h3 h5 h6 h4 hi h7 h8 (by rw [h9 i hi, hb])) dX6_at_5 rfl q562 q449 q451 q115 q453 (hX.F_J2_get) (by decide +kernel) rfl (by first | decide | omega) (by decide) (Nat.le_of_ble_eq_true rfl) rfl) ?_
  refine cv_castS (pc := 10) hc cP12 (g1) dX6_at_10 q563 ?_
  refine wt_gofn (wt_invV (pc := 13) 0 hc (ct_J15_intValue b g1) dX6_at_13 rfl (fun s H => cz_recv cP12 (g1) s H) q564 q565 q566 q132 q567 (by decide +kernel) rfl (by first | decide | omega) (by decide) (Nat.le_of_ble_eq_true rfl) rfl) ?_
  rw [g2]
  exact wt_iret (pc := 16) hc hok dX6_at_16 (rfl) (fun H hZ => ⟨rfl, hZ⟩)
theorem ct_X6_isLast (hX : cX G) (o i : Nat) (k m : Int32) (wl : Nat) (way : Nat → Int32) (ho : cO B o k m wl way) (hw : wl ≤ 8) (hi : i < wl) : wt_Ct l G yX6_isLast cX6_isLast 2 (some .boolean) 3 0 0 [.ref o, .int (nI i)] (cz G B) (wt_fn (sp_b (i + 1 = wl)) (cz G B)) := by
  refine wt_enter [some (.ref o), some (.int (nI i))] (by decide +kernel) rfl (Nat.le_of_ble_eq_true rfl) (fun X hc hok => ?_)
  refine wt_iload_1 (pc := 0) hc dX6_isLast_0 ?_
  refine wt_aload_0 (pc := 1) hc dX6_isLast_1 ?_
  refine wt_gofn (wt_invV (pc := 2) 0 hc (ct_X6_size hX o k m wl way ho) dX6_isLast_2 rfl (fun s H => cz_recv cP2 (ho.1) s H) q642 q544 q545 q129 q546 (by decide +kernel) rfl (by first | decide | omega) (by decide) (Nat.le_of_ble_eq_true rfl) rfl) ?_
  refine wt_iconst (pc := 5) (v := nI 1) hc dX6_isLast_5 (by decide) ?_
  refine wt_isub (pc := 6) hc dX6_isLast_6 ?_
  rw [pk_sub (a := wl) (b := 1) (by omega)]
  refine wt_nicmp_ne (pc := 7) 14 (i) (wl - 1) hc dX6_isLast_7 (by decide) (by omega) (by omega) (fun c_7 => ?_) (fun c_7 => ?_)
  · refine wt_iconst (pc := 14) (v := nI 0) hc dX6_isLast_14 (by decide) ?_
    exact wt_iret (pc := 15) hc hok dX6_isLast_15 (rfl) (fun H hZ => by first | exact sp_fnT (by omega) hZ | exact sp_fnF (by omega) hZ)
  · refine wt_iconst (pc := 10) (v := nI 1) hc dX6_isLast_10 (by decide) ?_
    refine wt_goto (pc := 11) 15 hc dX6_isLast_11 (by decide) ?_
    exact wt_iret (pc := 15) hc hok dX6_isLast_15 (rfl) (fun H hZ => by first | exact sp_fnT (by omega) hZ | exact sp_fnF (by omega) hZ)
theorem ct_X6_fare (o : Nat) (k m : Int32) (wl : Nat) (way : Nat → Int32) (ho : cO B o k m wl way) : wt_Ct l G yX6_fare cX6_fare 1 (some .int) 1 0 0 [.ref o] (cz G B) (wt_fn (k + nI 1) (cz G B)) := by
  refine wt_enter [some (.ref o)] (by decide +kernel) rfl (Nat.le_of_ble_eq_true rfl) (fun X hc hok => ?_)
  refine wt_aload_0 (pc := 0) hc dX6_fare_0 ?_
  refine cv_geti (pc := 1) 0 (k) hc cP2 (ho.1) dX6_fare_1 q1034 (by decide) (Or.inl rfl) (fun _ _ _ => rfl) (ho.2.1) ?_
  refine wt_iconst (pc := 4) (v := nI 1) hc dX6_fare_4 (by decide) ?_
  refine wt_iadd (pc := 5) hc dX6_fare_5 ?_
  exact wt_iret (pc := 6) hc hok dX6_fare_6 (rfl) (fun H hZ => ⟨rfl, hZ⟩)
end OW
