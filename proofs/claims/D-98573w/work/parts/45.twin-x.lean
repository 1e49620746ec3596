/-! THE REFERENCE: a line -/
set_option maxRecDepth 100000
def rd_rd1 (M : wt_It) (w : Int64) : wt_It × Int64 :=
  let x := rd_rn (rd_go M).1 (rd_go M).2
  (wt_up2 x.2.1 42 (4 * nn (M 0 30)) x.1, x.2.2)
def rd_rd2 (M : wt_It) (w : Int64) : wt_It × Int64 :=
  let x := rd_rn (rd_rd1 M w).1 (rd_rd1 M w).2
  (wt_up2 x.2.1 42 (4 * nn (M 0 30) + 1) x.1, x.2.2)
def rd_rd3 (M : wt_It) (w : Int64) : wt_It × Int64 :=
  let x := rd_num (rd_rd2 M w).1 (rd_rd2 M w).2 (nI 0) (nI 400)
  (wt_up2 x.2.1 42 (4 * nn (M 0 30) + 2) x.1, x.2.2)
def rd_rd4 (M : wt_It) (w : Int64) : wt_It × Int64 :=
  let x := rd_num (rd_rd3 M w).1 (rd_rd3 M w).2 (nI 0) (nI 9)
  (wt_up2 x.2.1 42 (4 * nn (M 0 30) + 3) x.1, x.2.2)
def rd_rider (M : wt_It) (w : Int64) : wt_It × Int64 :=
  if M 0 30 = nI 8 then (sp_wrong M (nI 2), w)
  else if M 0 16 = 0 then (rd_inc (rd_rd4 M w).1 30, (rd_rd4 M w).2) else (M, w)
def rd_roof (M : wt_It) (w : Int64) : wt_It × Int64 :=
  if M 0 27 = nI 10 then (sp_wrong M (nI 2), w)
  else (rd_inc (wt_up2 (rd_num (rd_go M).1 (rd_go M).2 (nI 0) (nI 9)).2.1 36 (nn (M 0 27)) (rd_num (rd_go M).1 (rd_go M).2 (nI 0) (nI 9)).1) 27, (rd_num (rd_go M).1 (rd_go M).2 (nI 0) (nI 9)).2.2)
def rd_dawn (M : wt_It) (w : Int64) : wt_It × Int64 :=
  if M 0 32 = -1 then (wt_up2 (rd_num (rd_go M).1 (rd_go M).2 (nI 60) (nI 600)).2.1 0 32 (rd_num (rd_go M).1 (rd_go M).2 (nI 60) (nI 600)).1, (rd_num (rd_go M).1 (rd_go M).2 (nI 60) (nI 600)).2.2)
  else (sp_wrong M (nI 5), w)
def rd_hu0 (M : wt_It) : wt_It := wt_up2 (wt_up2 (rd_go M).1 43 (nn (M 0 31)) (M 0 33)) 0 31 (M 0 31 + nI 1)
def rd_hunt (M : wt_It) (w : Int64) : wt_It × Int64 :=
  if M 0 31 = nI 4 then (sp_wrong M (nI 2), w) else rd_expr (rd_hu0 M) (rd_go M).2
/-- a line without its end; it is good ahead of it -/
def rd_lin1 (M : wt_It) (w : Int64) : wt_It × Int64 :=
  if sp_kw M w = nI 10 then rd_roof M w
  else if sp_kw M w = nI 11 then rd_flight M w
  else if sp_kw M w = nI 7 then rd_owl M w (nI 0)
  else if sp_kw M w = nI 8 then rd_owl M w (nI 1)
  else if sp_kw M w = nI 9 then rd_owl M w (nI 2)
  else if sp_kw M w = nI 12 then rd_rider M w
  else if sp_kw M w = nI 13 then rd_dawn M w
  else if sp_kw M w = nI 14 then rd_hunt M w
  else (sp_wrong M (nI 1), w)
def rd_line (M : wt_It) (w : Int64) : wt_It × Int64 := rd_need (rd_lin1 M w).1 (rd_lin1 M w).2 (sp_b ((rd_lin1 M w).1 0 21 = 3 ∧ (rd_lin1 M w).1 0 25 = nI 59))
/-- behind what a line says, where nothing is wrong -/
def rd_Bh (M : wt_It) (n a : Nat) : Prop := ∃ b r f o i u t, a ≤ b ∧ rd_I M n b r f o i u t ∧ t ≤ 2 * b + 1
theorem rd_Bh.of {M : wt_It} {n a r f o i u t : Nat} (h : rd_I M n a r f o i u t) (ht : t ≤ 2 * a) : rd_Bh M n a := ⟨a, r, f, o, i, u, t, Nat.le_refl _, h, by omega⟩
theorem rd_inc_ok {M : wt_It} {n a r f o i u t : Nat} (j : Nat) (h : rd_I M n a r f o i u t) (ht : t ≤ 2 * a) (hg : rd_inc M j 0 16 = 0) (hj : j = 27 ∧ r < 10 ∨ j = 29 ∧ o < 5 ∨ j = 30 ∧ i < 8) : rd_Bh (rd_inc M j) n a := by
  unfold rd_inc at hg ⊢
  by_cases c : M 0 16 = 0
  · rw [if_pos c]
    obtain ⟨⟨p, q, g, a1, a2, a3, e1, e2, e3, g4, v, hv, ev⟩, f1, f2, f3, f4, f5, f6, h1, h2, h3, h4, h5⟩ := h
    rcases hj with ⟨rfl, hj⟩ | ⟨rfl, hj⟩ | ⟨rfl, hj⟩
    · exact ⟨a, r + 1, f, o, i, u, t, Nat.le_refl _, ⟨⟨p, q, g, a1, a2, a3, e1, e2, e3, g4, v, hv, ev⟩, (wt_up2_self _ _ _ _).trans (by rw [f1, nI_add]), f2, f3, f4, f5, f6, by omega, h2, h3, h4, h5⟩, by omega⟩
    · exact ⟨a, r, f, o + 1, i, u, t, Nat.le_refl _, ⟨⟨p, q, g, a1, a2, a3, e1, e2, e3, g4, v, hv, ev⟩, f1, f2, (wt_up2_self _ _ _ _).trans (by rw [f3, nI_add]), f4, f5, f6, h1, h2, by omega, h4, h5⟩, by omega⟩
    · exact ⟨a, r, f, o, i + 1, u, t, Nat.le_refl _, ⟨⟨p, q, g, a1, a2, a3, e1, e2, e3, g4, v, hv, ev⟩, f1, f2, f3, (wt_up2_self _ _ _ _).trans (by rw [f4, nI_add]), f5, f6, h1, h2, h3, by omega, h5⟩, by omega⟩
  · rw [if_neg c] at hg
    exact absurd hg c
theorem rd_owL_I (o : Nat) : ∀ (fl : Nat) (M : wt_It) (w : Int64) (n a r f o' i u t : Nat), rd_I M n a r f o' i u t → rd_I (rd_owL o fl M w).1 n a r f o' i u t := by
  intro fl
  induction fl with
  | zero => intro M w n a r f o' i u t h; exact h
  | succ fl ih =>
    intro M w n a r f o' i u t h
    have h1 : rd_I (rd_ow1 M o) n a r f o' i u t := h.of fun _ a b => rd_ow1_at a b
    have h2 : rd_I (rd_ow2 M o) n a r f o' i u t := (h1.up (by decide)).up (by decide)
    rw [rd_owL]
    split
    · split
      · split
        · exact ih _ _ _ _ _ _ _ _ _ _ h2.go
        · exact h2.go
      · exact h1
    · exact h
theorem rd_owS_I {M : wt_It} {w : Int64} {o' : Nat} {its : Int32} {n a r f o i u t : Nat} (h : rd_I M n a r f o i u t) : rd_I (rd_owS M w o' its).1 n a r f o i u t := (((h.go.up (by decide)).num).up (by decide)).up (by decide)
theorem rd_I.expr {M : wt_It} {w : Int64} {n a r f o i u t : Nat} (h : rd_I M n a r f o i u t) (ht : t ≤ 2 * a) (hg : M 0 16 = 0) : (rd_expr M w).1 0 16 = 0 → rd_Bh (rd_expr M w).1 n a := by
  obtain ⟨⟨p, q, g, a1, a2, a3, e1, e2, e3, g4, v, hv, ev⟩, f1, f2, f3, f4, f5, f6, h1, h2, h3, h4, h5⟩ := h
  have hX : rd_X (wt_up2 (wt_up2 M 0 34 (nI 0)) 0 35 (nI 0)) n p q 0 t 0 := ⟨a1, a2, a3, e1, e2, e3, rfl, f6, rfl, by omega, g4⟩
  obtain ⟨hl, hk⟩ := rd_expr_ok (w := w) hX (by omega) hg
  intro hgood
  obtain ⟨p', q', m', t', d', hX', ht'⟩ := hk hgood
  obtain ⟨b1, b2, b3, k1, k2, k3, k4, k5, k6, b4, b5⟩ := hX'
  have hq : q ≤ q' := by
    have := hl.2.1
    rw [e3, k3, nn_nI (by omega), nn_nI (by omega)] at this
    exact this
  have hv' := hl.2.2.2.2 ⟨v, hv, ev⟩
  have l0 := hl.2.2.1
  exact ⟨q', r, f, o, i, u, t', by omega, ⟨⟨p', q', Nat.le_refl _, b1, b2, b3, k1, k2, k3, b5, hv'⟩, (l0 27 (by decide) (by decide)).trans f1, (l0 28 (by decide) (by decide)).trans f2, (l0 29 (by decide) (by decide)).trans f3, (l0 30 (by decide) (by decide)).trans f4, (l0 31 (by decide) (by decide)).trans f5, k5, h1, h2, h3, h4, h5⟩, by omega⟩
theorem rd_hu0_I {M : wt_It} {n a r f o i u t : Nat} (h : rd_I M n a r f o i u t) (hu : u < 4) : rd_I (rd_hu0 M) n a r f o i (u + 1) t := by
  have hgo := h.go
  have e31 : M 0 31 = nI u := h.2.2.2.2.2.1
  obtain ⟨⟨p, q, g, a1, a2, a3, e1, e2, e3, g4, v, hv, ev⟩, f1, f2, f3, f4, f5, f6, h1, h2, h3, h4, h5⟩ := hgo
  exact ⟨⟨p, q, g, a1, a2, a3, e1, e2, e3, g4, v, hv, ev⟩, f1, f2, f3, f4, (wt_up2_self _ _ _ _).trans (by rw [e31, nI_add]), f6, h1, h2, h3, h4, by omega⟩
theorem sp_cap {x c : Nat} {y : Int32} (e : y = nI x) (h : ¬ y = nI c) (hx : x ≤ c) : x < c := by
  rcases Nat.lt_or_ge x c with z | z
  · exact z
  · exact absurd (by rw [e, show x = c by omega]) h
theorem rd_owl_ok {M : wt_It} {w : Int64} {n a r f o i u t : Nat} (hg : M 0 16 = 0) (h : rd_I M n a r f o i u t) (ht : t ≤ 2 * a) (its : Int32) (hgood : (rd_owl M w its).1 0 16 = 0) : rd_Bh (rd_owl M w its).1 n a := by
  unfold rd_owl at hgood ⊢
  by_cases c : M 0 29 = nI 5
  · rw [if_pos c] at hgood
    exact absurd hgood (sp_wrong_bad (by decide))
  · rw [if_neg c, if_pos hg] at hgood ⊢
    have hI := rd_owL_I (nn (M 0 29)) 10 _ (rd_owS M w (nn (M 0 29)) its).2 _ _ _ _ _ _ _ _ (rd_owS_I (w := w) (o' := nn (M 0 29)) (its := its) h)
    generalize (rd_owL (nn (M 0 29)) 10 (rd_owS M w (nn (M 0 29)) its).1 (rd_owS M w (nn (M 0 29)) its).2).1 = B at *
    exact rd_inc_ok 29 hI ht hgood (Or.inr (Or.inl ⟨rfl, sp_cap h.2.2.2.1 c h.2.2.2.2.2.2.2.2.2.1⟩))
theorem rd_roof_ok {M : wt_It} {w : Int64} {n a r f o i u t : Nat} (hg : M 0 16 = 0) (h : rd_I M n a r f o i u t) (ht : t ≤ 2 * a) (hgood : (rd_roof M w).1 0 16 = 0) : rd_Bh (rd_roof M w).1 n a := by
  unfold rd_roof at hgood ⊢
  by_cases c : M 0 27 = nI 10
  · rw [if_pos c] at hgood
    exact absurd hgood (sp_wrong_bad (by decide))
  · rw [if_neg c] at hgood ⊢
    exact rd_inc_ok 27 (h.go.num.up (by decide)) ht hgood (Or.inl ⟨rfl, sp_cap h.2.1 c h.2.2.2.2.2.2.2.1⟩)
theorem rd_fl3_okg {B : wt_It} {m : Int32} {k1 k2 : Nat} {n a r f o i u t : Nat} (hI3 : rd_I B n a r f o i u t) (ht : t ≤ 2 * a) (hf : f < 18) : rd_Bh (wt_up2 (wt_up2 (wt_up2 B 37 k1 m) 37 k2 m) 0 28 (B 0 28 + nI 1)) n a := by
  have e28 : B 0 28 = nI f := hI3.2.2.1
  rw [e28, nI_add]
  have hI4 : rd_I (wt_up2 (wt_up2 B 37 k1 m) 37 k2 m) n a r f o i u t := (hI3.up (by decide)).up (by decide)
  generalize wt_up2 (wt_up2 B 37 k1 m) 37 k2 m = C at *
  obtain ⟨⟨p, q, gg, a1, a2, a3, e1, e2, e3, g4, v, hv, ev⟩, f1, f2, f3, f4, f5, f6, h1, h2, h3, h4, h5⟩ := hI4
  exact ⟨a, r, f + 1, o, i, u, t, Nat.le_refl _, ⟨⟨p, q, gg, a1, a2, a3, e1, e2, e3, g4, v, hv, ev⟩, f1, wt_up2_self _ _ _ _, f3, f4, f5, f6, h1, by omega, h3, h4, h5⟩, by omega⟩
theorem rd_fl3_ok {A : wt_It} {z : Int64} {x y : Int32} {n a r f o i u t : Nat} (h : rd_I A n a r f o i u t) (ht : t ≤ 2 * a) (hf : f < 18) : rd_Bh (rd_fl3 A z x y).1 n a := by
  have hI3 := h.go.num (w := (rd_go A).2) (lo := nI 1) (hi := nI 60)
  exact rd_fl3_okg hI3 ht hf
theorem rd_flight_ok {M : wt_It} {w : Int64} {n a r f o i u t : Nat} (hg : M 0 16 = 0) (h : rd_I M n a r f o i u t) (ht : t ≤ 2 * a) (hgood : (rd_flight M w).1 0 16 = 0) : rd_Bh (rd_flight M w).1 n a := by
  unfold rd_flight at hgood ⊢
  by_cases c : M 0 28 = nI 18
  · rw [if_pos c] at hgood
    exact absurd hgood (sp_wrong_bad (by decide))
  · rw [if_neg c, if_pos hg] at hgood ⊢
    have hI2 := (h.go.rn (w := (rd_go M).2)).rh
    generalize (rd_rh (rd_rn (rd_go M).1 (rd_go M).2).2.1).2 = A at *
    generalize (rd_rn (rd_go M).1 (rd_go M).2).1 = x at *
    generalize (rd_rh (rd_rn (rd_go M).1 (rd_go M).2).2.1).1 = y at *
    generalize (rd_rn (rd_go M).1 (rd_go M).2).2.2 = z at *
    unfold rd_fl2 at hgood ⊢
    by_cases c1 : A 0 16 = 0
    · rw [if_pos c1] at hgood ⊢
      by_cases c2 : x = y
      · rw [if_pos c2] at hgood
        exact absurd hgood (sp_wrong_bad (by decide))
      · rw [if_neg c2] at hgood ⊢
        by_cases c3 : A 37 (10 * nn x + nn y) = 0
        · rw [if_pos c3] at hgood ⊢
          exact rd_fl3_ok hI2 ht (sp_cap h.2.2.1 c h.2.2.2.2.2.2.2.2.1)
        · rw [if_neg c3] at hgood
          exact absurd hgood (sp_wrong_bad (by decide))
    · rw [if_neg c1] at hgood
      exact absurd hgood c1
theorem rd_rider_ok {M : wt_It} {w : Int64} {n a r f o i u t : Nat} (hg : M 0 16 = 0) (h : rd_I M n a r f o i u t) (ht : t ≤ 2 * a) (hgood : (rd_rider M w).1 0 16 = 0) : rd_Bh (rd_rider M w).1 n a := by
  unfold rd_rider at hgood ⊢
  by_cases c : M 0 30 = nI 8
  · rw [if_pos c] at hgood
    exact absurd hgood (sp_wrong_bad (by decide))
  · rw [if_neg c, if_pos hg] at hgood ⊢
    have hI4 : rd_I (rd_rd4 M w).1 n a r f o i u t := by
      have i1 : rd_I (rd_rd1 M w).1 n a r f o i u t := h.go.rn.up (by decide)
      have i2 : rd_I (rd_rd2 M w).1 n a r f o i u t := i1.rn.up (by decide)
      have i3 : rd_I (rd_rd3 M w).1 n a r f o i u t := i2.num.up (by decide)
      exact i3.num.up (by decide)
    generalize (rd_rd4 M w).1 = B at *
    generalize (rd_rd4 M w).2 = v at *
    exact rd_inc_ok 30 hI4 ht hgood (Or.inr (Or.inr ⟨rfl, sp_cap h.2.2.2.2.1 c h.2.2.2.2.2.2.2.2.2.2.1⟩))
theorem rd_dawn_ok {M : wt_It} {w : Int64} {n a r f o i u t : Nat} (hg : M 0 16 = 0) (h : rd_I M n a r f o i u t) (ht : t ≤ 2 * a) (hgood : (rd_dawn M w).1 0 16 = 0) : rd_Bh (rd_dawn M w).1 n a := by
  unfold rd_dawn at hgood ⊢
  by_cases c : M 0 32 = -1
  · rw [if_pos c] at hgood ⊢
    have hI := h.go.num (w := (rd_go M).2) (lo := nI 60) (hi := nI 600)
    generalize rd_num (rd_go M).1 (rd_go M).2 (nI 60) (nI 600) = g at *
    exact rd_Bh.of (show rd_I (wt_up2 g.2.1 0 32 g.1) n a r f o i u t from hI) ht
  · rw [if_neg c] at hgood
    exact absurd hgood (sp_wrong_bad (by decide))
theorem rd_hunt_ok {M : wt_It} {w : Int64} {n a r f o i u t : Nat} (hg : M 0 16 = 0) (h : rd_I M n a r f o i u t) (ht : t ≤ 2 * a) (hgood : (rd_hunt M w).1 0 16 = 0) : rd_Bh (rd_hunt M w).1 n a := by
  unfold rd_hunt at hgood ⊢
  by_cases c : M 0 31 = nI 4
  · rw [if_pos c] at hgood
    exact absurd hgood (sp_wrong_bad (by decide))
  · rw [if_neg c] at hgood ⊢
    have hI := rd_hu0_I h (sp_cap h.2.2.2.2.2.1 c h.2.2.2.2.2.2.2.2.2.2.2)
    obtain ⟨⟨p, q, -, hY⟩, -⟩ := id h
    have h16 : rd_hu0 M 0 16 = 0 := by
      unfold rd_hu0
      rw [wt_up2_ne (fun z => by omega), wt_up2_row (by decide)]
      exact (rd_go_16 hY.inn).trans hg
    generalize rd_hu0 M = B at *
    generalize (rd_go M).2 = v at *
    exact hI.expr ht h16 hgood
theorem rd_lin1_ok {M : wt_It} {w : Int64} {n a r f o i u t : Nat} (hg : M 0 16 = 0) (h : rd_I M n a r f o i u t) (ht : t ≤ 2 * a) (hgood : (rd_lin1 M w).1 0 16 = 0) : rd_Bh (rd_lin1 M w).1 n a := by
  unfold rd_lin1 at hgood ⊢
  by_cases k1 : sp_kw M w = nI 10
  · rw [if_pos k1] at hgood ⊢
    exact rd_roof_ok hg h ht hgood
  rw [if_neg k1] at hgood ⊢
  by_cases k2 : sp_kw M w = nI 11
  · rw [if_pos k2] at hgood ⊢
    exact rd_flight_ok hg h ht hgood
  rw [if_neg k2] at hgood ⊢
  by_cases k3 : sp_kw M w = nI 7
  · rw [if_pos k3] at hgood ⊢
    exact rd_owl_ok hg h ht _ hgood
  rw [if_neg k3] at hgood ⊢
  by_cases k4 : sp_kw M w = nI 8
  · rw [if_pos k4] at hgood ⊢
    exact rd_owl_ok hg h ht _ hgood
  rw [if_neg k4] at hgood ⊢
  by_cases k5 : sp_kw M w = nI 9
  · rw [if_pos k5] at hgood ⊢
    exact rd_owl_ok hg h ht _ hgood
  rw [if_neg k5] at hgood ⊢
  by_cases k6 : sp_kw M w = nI 12
  · rw [if_pos k6] at hgood ⊢
    exact rd_rider_ok hg h ht hgood
  rw [if_neg k6] at hgood ⊢
  by_cases k7 : sp_kw M w = nI 13
  · rw [if_pos k7] at hgood ⊢
    exact rd_dawn_ok hg h ht hgood
  rw [if_neg k7] at hgood ⊢
  by_cases k8 : sp_kw M w = nI 14
  · rw [if_pos k8] at hgood ⊢
    exact rd_hunt_ok hg h ht hgood
  rw [if_neg k8] at hgood
  exact absurd hgood (sp_wrong_bad (by decide))
theorem rd_line_ok {M : wt_It} {w : Int64} {n a r f o i u t : Nat} (hg : M 0 16 = 0) (h : rd_I M n a r f o i u t) (ht : t ≤ 2 * a) (hgood : (rd_line M w).1 0 16 = 0) : ∃ b r f o i u t, a + 1 ≤ b ∧ rd_I (rd_line M w).1 n b r f o i u t ∧ t ≤ 2 * b := by
  unfold rd_line rd_need at hgood ⊢
  by_cases c1 : (rd_lin1 M w).1 0 16 = 0
  · rw [if_pos c1] at hgood ⊢
    obtain ⟨b, r', f', o', i', u', t', hab, hI, ht'⟩ := rd_lin1_ok hg h ht c1
    by_cases c2 : (rd_lin1 M w).1 0 21 = 3 ∧ (rd_lin1 M w).1 0 25 = nI 59
    · rw [sp_b_t c2, if_neg (by decide)]
      obtain ⟨⟨p, q, hbq, hY⟩, hN⟩ := hI
      have hlt := hY.2.2.2.2.2.2.1 (by rw [c2.1]; decide)
      obtain ⟨q', p', g1, g2⟩ := hY.go
      exact ⟨b + 1, r', f', o', i', u', t', by omega, ⟨⟨p', q', by omega, g2⟩, hN.go hY.inn⟩, by omega⟩
    · rw [sp_b_f c2, if_pos rfl] at hgood
      exact absurd hgood (sp_wrong_bad (by decide))
  · rw [if_neg c1] at hgood
    exact absurd hgood c1
