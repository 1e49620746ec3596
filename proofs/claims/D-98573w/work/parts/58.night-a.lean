/-! CLASSES: a night -/
set_option maxRecDepth 100000
/-- the night of x at places 1..18 of a bank (place 0: the values of x) -/
def cW (S : bS) (x : Nat) : Prop := S.1 (S.2.1 0) = some (.inr (0, 7)) ∧ S.1 (S.2.1 1) = some (.inl 3) ∧ S.1 (S.2.1 2) = some (.inr (0, 10)) ∧ S.1 (S.2.1 3) = some (.inr (0, 10)) ∧ S.1 (S.2.1 4) = some (.inr (0, 5)) ∧ S.1 (S.2.1 5) = some (.inr (0, 5)) ∧ S.1 (S.2.1 6) = some (.inr (4, 5)) ∧ S.1 (S.2.1 12) = some (.inr (4, 5)) ∧ S.1 (S.2.1 18) = some (.inr (0, 10)) ∧ (∀ o, o < 5 → S.1 (S.2.1 (7 + o)) = some (.inr (0, 8)) ∧ S.2.2.2.2.1 (S.2.1 6) o = some (S.2.1 (7 + o))) ∧ (∀ o, o < 5 → S.1 (S.2.1 (13 + o)) = some (.inr (0, 8)) ∧ S.2.2.2.2.1 (S.2.1 12) o = some (S.2.1 (13 + o))) ∧ S.2.2.2.2.1 (S.2.1 1) 4 = some (S.2.1 2) ∧ S.2.2.2.2.1 (S.2.1 1) 5 = some (S.2.1 3) ∧ S.2.2.2.2.1 (S.2.1 1) 6 = some (S.2.1 4) ∧ S.2.2.2.2.1 (S.2.1 1) 7 = some (S.2.1 5) ∧ S.2.2.2.2.1 (S.2.1 1) 8 = some (S.2.1 6) ∧ S.2.2.2.2.1 (S.2.1 1) 9 = some (S.2.1 12) ∧ S.2.2.2.2.1 (S.2.1 1) 10 = some (S.2.1 18) ∧ S.2.2.2.2.1 (S.2.1 1) 11 = some x
/-- the city that M tells, in B: x at q 0, the city at q 1, grain q 2, minutes q 3 (rows q (10 + a)), owls q 4 (q (20 + o)), riders q 5 (q (30 + p)), hunts q 6 (q (40 + f)) -/
def cY (B : cB) (M : wt_It) (q : Nat → Nat) (ro ow ri ru : Nat) : Prop := B.1 (q 0) = some (.inl 0) ∧ B.2.2.1 (q 0) 0 = some (q 1) ∧ B.1 (q 1) = some (.inl 1) ∧ (B.2.1 (q 1) 5 = nI ro ∧ B.2.1 (q 1) 6 = M 0 2 ∧ B.2.1 (q 1) 7 = M 0 6) ∧ (B.2.2.1 (q 1) 0 = some (q 2) ∧ B.1 (q 2) = some (.inr (0, 10)) ∧ ∀ r, r < ro → B.2.1 (q 2) r = M 47 (4 + r)) ∧ (B.2.2.1 (q 1) 1 = some (q 3) ∧ B.1 (q 3) = some (.inr (4, 10)) ∧ ∀ a, a < 10 → B.2.2.1 (q 3) a = some (q (10 + a)) ∧ B.1 (q (10 + a)) = some (.inr (0, 10)) ∧ ∀ b, b < 10 → B.2.1 (q (10 + a)) b = M 7 (10 * a + b)) ∧ (B.2.2.1 (q 1) 2 = some (q 4) ∧ cL B (q 4) ow (fun o => q (20 + o)) ∧ ∀ o, o < ow → ∃ wl, wl ≤ 8 ∧ M 9 o = nI wl ∧ cO B (q (20 + o)) (M 8 o) (M 47 (14 + o)) wl (fun i => M 10 (8 * o + i))) ∧ (B.2.2.1 (q 1) 3 = some (q 5) ∧ cL B (q 5) ri (fun p => q (30 + p)) ∧ ∀ p, p < ri → B.1 (q (30 + p)) = some (.inr (0, 4)) ∧ ∀ k, k < 4 → B.2.1 (q (30 + p)) k = M 11 (4 * p + k)) ∧ (B.2.2.1 (q 1) 4 = some (q 6) ∧ cL B (q 6) ru (fun f => q (40 + f)))
section NA
variable {l : Launch} {G : wt_G} {Z : Heap → Prop} {S : bS} {D : wt_It} {NB x : Nat}
theorem ct_X1_isOf (v k : Int32) : wt_Ct l G yX1_isOf cX1_isOf 2 (some .boolean) 1 0 0 [.int v, .int k] Z (wt_fn (sp_b (v >>> (k &&& 31) &&& 1 = 1)) Z) := by
  refine wt_enter [some (.int v), some (.int k)] (by decide +kernel) rfl (Nat.le_of_ble_eq_true rfl) (fun X hc hok => ?_)
  refine wt_iload_0 (pc := 0) hc dX1_isOf_0 ?_
  refine wt_iload_1 (pc := 1) hc dX1_isOf_1 ?_
  refine wt_ishr (pc := 2) hc dX1_isOf_2 ?_
  refine wt_iconst (pc := 3) (v := nI 1) hc dX1_isOf_3 (by decide) ?_
  refine wt_iand (pc := 4) hc dX1_isOf_4 ?_
  refine wt_iconst (pc := 5) (v := nI 1) hc dX1_isOf_5 (by decide) ?_
  refine wt_icmp_ne (pc := 6) 13 hc dX1_isOf_6 (by decide) (fun c_6 => ?_) (fun c_6 => ?_)
  · refine wt_iconst (pc := 13) (v := nI 0) hc dX1_isOf_13 (by decide) ?_
    exact wt_iret (pc := 14) hc hok dX1_isOf_14 (rfl) (fun H hZ => by first | exact sp_fnT (by assumption) hZ | exact sp_fnF (by assumption) hZ)
  · refine wt_iconst (pc := 9) (v := nI 1) hc dX1_isOf_9 (by decide) ?_
    refine wt_goto (pc := 10) 14 hc dX1_isOf_10 (by decide) ?_
    exact wt_iret (pc := 14) hc hok dX1_isOf_14 (rfl) (fun H hZ => by first | exact sp_fnT (by assumption) hZ | exact sp_fnF (by assumption) hZ)
theorem ct_X11_isOut (o : Nat) (hE : bE G S NB) (hN : 19 ≤ NB) (hW : cW S x) : wt_Ct l G yX11_isOut cX11_isOut 2 (some .boolean) 2 0 0 [.ref (S.2.1 1), .int (nI o)] (cz G (bB S D)) (wt_fn (sp_b (¬ D 1 2 >>> (nI o &&& 31) &&& 1 = 1)) (cz G (bB S D))) := by
  refine wt_enter [some (.ref (S.2.1 1)), some (.int (nI o))] (by decide +kernel) rfl (Nat.le_of_ble_eq_true rfl) (fun X hc hok => ?_)
  refine wt_aload_0 (pc := 0) hc dX11_isOut_0 ?_
  refine bz_geti (pc := 1) 1 2 (D 1 2) hE (by omega) hc cP3 (hW.2.1) dX11_isOut_1 q478 (by decide) (Or.inl rfl) (fun _ _ _ => rfl) (rfl) ?_
  refine wt_iload_1 (pc := 4) hc dX11_isOut_4 ?_
  refine wt_gofn (wt_invSN (pc := 5) 2 hc (ct_X1_isOf (D 1 2) (nI o)) dX11_isOut_5 rfl q540 q541 q111 q542 (by decide +kernel) rfl (by first | decide | omega) (by decide) (Nat.le_of_ble_eq_true rfl) rfl) ?_
  refine wt_if_ne (pc := 8) 15 hc dX11_isOut_8 (by decide) (fun c_8 => ?_) (fun c_8 => ?_)
  · refine wt_iconst (pc := 15) (v := nI 0) hc dX11_isOut_15 (by decide) ?_
    exact wt_iret (pc := 16) hc hok dX11_isOut_16 (rfl) (fun H hZ => by first | exact sp_fnT (by assumption) hZ | exact sp_fnF (by assumption) hZ | exact sp_fnT (sp_b_0.mp c_8) hZ | exact sp_fnF (fun z => z (sp_b_n0 c_8)) hZ)
  · refine wt_iconst (pc := 11) (v := nI 1) hc dX11_isOut_11 (by decide) ?_
    refine wt_goto (pc := 12) 16 hc dX11_isOut_12 (by decide) ?_
    exact wt_iret (pc := 16) hc hok dX11_isOut_16 (rfl) (fun H hZ => by first | exact sp_fnT (by assumption) hZ | exact sp_fnF (by assumption) hZ | exact sp_fnT (sp_b_0.mp c_8) hZ | exact sp_fnF (fun z => z (sp_b_n0 c_8)) hZ)
/-- minutes of a flight, of an owl of a kind, by the night's row d of ints -/
def cf_flight (M : wt_It) (d : Nat → Int32) (k : Int32) (a b : Nat) : Int32 := if d 3 = 0 then (if k = nI 1 ∧ ¬ d 1 < nI 4 then (M 7 (10 * a + b) + nI 1) / nI 2 else M 7 (10 * a + b)) else nI 2 * (if k = nI 1 ∧ ¬ d 1 < nI 4 then (M 7 (10 * a + b) + nI 1) / nI 2 else M 7 (10 * a + b))
theorem ct_X11_flight {M : wt_It} {q : Nat → Nat} {ro ow ri ru wl : Nat} {k m : Int32} {way : Nat → Int32} (o a b : Nat) (hE : bE G S NB) (hN : 19 ≤ NB) (hW : cW S (q 0)) (hY : cY (bB S D) M q ro ow ri ru) (hO : cO (bB S D) o k m wl way) (ha : a < 10) (hb : b < 10) : wt_Ct l G yX11_flight cX11_flight 5 (some .int) 1 0 0 [.ref (S.2.1 1), .ref o, .int (nI a), .int (nI b)] (cz G (bB S D)) (wt_fn (cf_flight M (D 1) k a b) (cz G (bB S D))) := by
  obtain ⟨y1, y2, y3, -, -, ⟨y4, y5, y6⟩, -⟩ := hY
  obtain ⟨z1, z2, z3⟩ := y6 a ha
  have hx := hW.2.2.2.2.2.2.2.2.2.2.2.2.2.2.2.2.2.2
  generalize q (10 + a) = r0 at z1 z2 z3
  generalize q 0 = x0 at y1 y2 hx
  generalize q 1 = x1 at y2 y3 y4
  generalize q 3 = x3 at y4 y5 z1
  refine wt_enter [some (.ref (S.2.1 1)), some (.ref o), some (.int (nI a)), some (.int (nI b)), none] (by decide +kernel) rfl (Nat.le_of_ble_eq_true rfl) (fun X hc hok => ?_)
  refine wt_aload_0 (pc := 0) hc dX11_flight_0 ?_
  refine cv_getr (pc := 1) (b := x0) 11 hc cP3 (hW.2.1) dX11_flight_1 q497 (by decide) (Or.inl rfl) (fun _ _ _ => rfl) (hx) ?_
  refine cv_getrN (pc := 4) (b := x1) 0 hc cP0 (y1) dX11_flight_4 q241 (by decide) (Or.inl rfl) (fun _ _ _ => rfl) (y2) ?_
  refine cv_getrN (pc := 7) (b := x3) 1 hc cP1 (y3) dX11_flight_7 q194 (by decide) (Or.inl rfl) (fun _ _ _ => rfl) (y4) ?_
  refine wt_iload_2 (pc := 10) hc dX11_flight_10 ?_
  refine cv_aaldr (pc := 11) (b := r0) (a) hc (y5) (by decide) dX11_flight_11 (rfl) (by omega) (by omega) (z1) ?_
  refine wt_iload_3 (pc := 12) hc dX11_flight_12 ?_
  refine cv_iald (pc := 13) (b) (M 7 (10 * a + b)) hc (z2) dX11_flight_13 (rfl) (by omega) (by omega) (z3 b hb) ?_
  refine wt_istore_4 (pc := 14) hc dX11_flight_14 rfl ?_
  refine wt_aload_1 (pc := 16) hc dX11_flight_16 ?_
  refine cv_getiN (pc := 17) 0 (k) hc cP2 (hO.1) dX11_flight_17 q1035 (by decide) (Or.inl rfl) (fun _ _ _ => rfl) (hO.2.1) ?_
  refine wt_iconst (pc := 20) (v := nI 1) hc dX11_flight_20 (by decide) ?_
  refine wt_icmp_ne (pc := 21) 40 hc dX11_flight_21 (by decide) (fun c_21 => ?_) (fun c_21 => ?_)
  · refine wt_aload_0 (pc := 40) hc dX11_flight_40 ?_
    refine bz_geti (pc := 41) 1 3 (D 1 3) hE (by omega) hc cP3 (hW.2.1) dX11_flight_41 q480 (by decide) (Or.inl rfl) (fun _ _ _ => rfl) (rfl) ?_
    refine wt_if_eq (pc := 44) 54 hc dX11_flight_44 (by decide) (fun c_44 => ?_) (fun c_44 => ?_)
    · refine wt_iload_4 (pc := 54) hc dX11_flight_54 ?_
      exact wt_iret (pc := 56) hc hok dX11_flight_56 (rfl) (fun H hZ => by (unfold cf_flight; refine ⟨?_, hZ⟩; (first | rw [if_pos c_44] | rw [if_neg c_44]); first | (have h := And.intro c_21 c_29; rw [if_pos h]; done) | (have h := fun z : k = nI 1 ∧ ¬ D 1 1 < nI 4 => z.2 c_29; rw [if_neg h]; done) | (have h := fun z : k = nI 1 ∧ ¬ D 1 1 < nI 4 => c_21 z.1; rw [if_neg h]; done)))
    · refine wt_iconst (pc := 47) (v := nI 2) hc dX11_flight_47 (by decide) ?_
      refine wt_iload_4 (pc := 48) hc dX11_flight_48 ?_
      refine wt_imul (pc := 50) hc dX11_flight_50 ?_
      refine wt_goto (pc := 51) 56 hc dX11_flight_51 (by decide) ?_
      exact wt_iret (pc := 56) hc hok dX11_flight_56 (rfl) (fun H hZ => by (unfold cf_flight; refine ⟨?_, hZ⟩; (first | rw [if_pos c_44] | rw [if_neg c_44]); first | (have h := And.intro c_21 c_29; rw [if_pos h]; done) | (have h := fun z : k = nI 1 ∧ ¬ D 1 1 < nI 4 => z.2 c_29; rw [if_neg h]; done) | (have h := fun z : k = nI 1 ∧ ¬ D 1 1 < nI 4 => c_21 z.1; rw [if_neg h]; done)))
  · refine wt_aload_0 (pc := 24) hc dX11_flight_24 ?_
    refine bz_geti (pc := 25) 1 1 (D 1 1) hE (by omega) hc cP3 (hW.2.1) dX11_flight_25 q476 (by decide) (Or.inl rfl) (fun _ _ _ => rfl) (rfl) ?_
    refine wt_iconst (pc := 28) (v := nI 4) hc dX11_flight_28 (by decide) ?_
    refine wt_icmp_lt (pc := 29) 40 hc dX11_flight_29 (by decide) (fun c_29 => ?_) (fun c_29 => ?_)
    · refine wt_aload_0 (pc := 40) hc dX11_flight_40 ?_
      refine bz_geti (pc := 41) 1 3 (D 1 3) hE (by omega) hc cP3 (hW.2.1) dX11_flight_41 q480 (by decide) (Or.inl rfl) (fun _ _ _ => rfl) (rfl) ?_
      refine wt_if_eq (pc := 44) 54 hc dX11_flight_44 (by decide) (fun c_44 => ?_) (fun c_44 => ?_)
      · refine wt_iload_4 (pc := 54) hc dX11_flight_54 ?_
        exact wt_iret (pc := 56) hc hok dX11_flight_56 (rfl) (fun H hZ => by (unfold cf_flight; refine ⟨?_, hZ⟩; (first | rw [if_pos c_44] | rw [if_neg c_44]); first | (have h := And.intro c_21 c_29; rw [if_pos h]; done) | (have h := fun z : k = nI 1 ∧ ¬ D 1 1 < nI 4 => z.2 c_29; rw [if_neg h]; done) | (have h := fun z : k = nI 1 ∧ ¬ D 1 1 < nI 4 => c_21 z.1; rw [if_neg h]; done)))
      · refine wt_iconst (pc := 47) (v := nI 2) hc dX11_flight_47 (by decide) ?_
        refine wt_iload_4 (pc := 48) hc dX11_flight_48 ?_
        refine wt_imul (pc := 50) hc dX11_flight_50 ?_
        refine wt_goto (pc := 51) 56 hc dX11_flight_51 (by decide) ?_
        exact wt_iret (pc := 56) hc hok dX11_flight_56 (rfl) (fun H hZ => by (unfold cf_flight; refine ⟨?_, hZ⟩; (first | rw [if_pos c_44] | rw [if_neg c_44]); first | (have h := And.intro c_21 c_29; rw [if_pos h]; done) | (have h := fun z : k = nI 1 ∧ ¬ D 1 1 < nI 4 => z.2 c_29; rw [if_neg h]; done) | (have h := fun z : k = nI 1 ∧ ¬ D 1 1 < nI 4 => c_21 z.1; rw [if_neg h]; done)))
    · refine wt_iload_4 (pc := 32) hc dX11_flight_32 ?_
      refine wt_iconst (pc := 34) (v := nI 1) hc dX11_flight_34 (by decide) ?_
      refine wt_iadd (pc := 35) hc dX11_flight_35 ?_
      refine wt_iconst (pc := 36) (v := nI 2) hc dX11_flight_36 (by decide) ?_
      refine wt_idiv (pc := 37) hc dX11_flight_37 (by decide) ?_
      refine wt_istore_4 (pc := 38) hc dX11_flight_38 rfl ?_
      refine wt_aload_0 (pc := 40) hc dX11_flight_40 ?_
      refine bz_geti (pc := 41) 1 3 (D 1 3) hE (by omega) hc cP3 (hW.2.1) dX11_flight_41 q480 (by decide) (Or.inl rfl) (fun _ _ _ => rfl) (rfl) ?_
      refine wt_if_eq (pc := 44) 54 hc dX11_flight_44 (by decide) (fun c_44 => ?_) (fun c_44 => ?_)
      · refine wt_iload_4 (pc := 54) hc dX11_flight_54 ?_
        exact wt_iret (pc := 56) hc hok dX11_flight_56 (rfl) (fun H hZ => by (unfold cf_flight; refine ⟨?_, hZ⟩; (first | rw [if_pos c_44] | rw [if_neg c_44]); first | (have h := And.intro c_21 c_29; rw [if_pos h]; done) | (have h := fun z : k = nI 1 ∧ ¬ D 1 1 < nI 4 => z.2 c_29; rw [if_neg h]; done) | (have h := fun z : k = nI 1 ∧ ¬ D 1 1 < nI 4 => c_21 z.1; rw [if_neg h]; done)))
      · refine wt_iconst (pc := 47) (v := nI 2) hc dX11_flight_47 (by decide) ?_
        refine wt_iload_4 (pc := 48) hc dX11_flight_48 ?_
        refine wt_imul (pc := 50) hc dX11_flight_50 ?_
        refine wt_goto (pc := 51) 56 hc dX11_flight_51 (by decide) ?_
        exact wt_iret (pc := 56) hc hok dX11_flight_56 (rfl) (fun H hZ => by (unfold cf_flight; refine ⟨?_, hZ⟩; (first | rw [if_pos c_44] | rw [if_neg c_44]); first | (have h := And.intro c_21 c_29; rw [if_pos h]; done) | (have h := fun z : k = nI 1 ∧ ¬ D 1 1 < nI 4 => z.2 c_29; rw [if_neg h]; done) | (have h := fun z : k = nI 1 ∧ ¬ D 1 1 < nI 4 => c_21 z.1; rw [if_neg h]; done)))
/-- where a rider can be at the start: roof f, from minute t on -/
def cf_beg (D : wt_It) (p : Nat) (f t : Int32) : wt_It := sp_fill D p 10 (fun j => if nI j = f then t else nI 1000000)
theorem ct_X11_begin (r p : Nat) (hE : bE G S NB) (hp : p < NB) (hK : S.1 (S.2.1 p) = some (.inr (0, 10))) (hr : S.1 r = some (.inr (0, 4))) (hi : ∀ E k, k < 4 → (bB S E).2.1 r k = (bB S D).2.1 r k) : wt_Ct l G yX11_begin cX11_begin 4 none 1 0 0 [.ref (S.2.1 1), .ref (S.2.1 p), .ref r] (cz G (bB S D)) (wt_pv (cz G (bB S (cf_beg D p ((bB S D).2.1 r 0) ((bB S D).2.1 r 2))))) := by
  refine wt_enter [some (.ref (S.2.1 1)), some (.ref (S.2.1 p)), some (.ref r), none] (by decide +kernel) rfl (Nat.le_of_ble_eq_true rfl) (fun X hc hok => ?_)
  have loop : ∀ n i : Nat, i ≤ 10 → 10 - i < n → wt_V G X 2 [some (.ref (S.2.1 1)), some (.ref (S.2.1 p)), some (.ref r), some (.int (nI i))] [] (cz G (bB S (sp_fill D p i (fun j => if nI j = (bB S D).2.1 r 0 then (bB S D).2.1 r 2 else nI 1000000)))) 0 0 := by
    intro n
    induction n with
    | zero => intro i _ h; omega
    | succ n ih =>
      intro i hi10 hn
      refine wt_iload_3 (pc := 2) hc dX11_begin_2 ?_
      refine wt_bipush (pc := 3) (v := nI 10) hc dX11_begin_3 (by decide) ?_
      refine wt_nicmp_ge (pc := 5) 32 (i) (10) hc dX11_begin_5 (by decide) (by omega) (by omega) (fun c_5 => ?_) (fun c_5 => ?_)
      · exact wt_vret (pc := 32) hc hok dX11_begin_32 (fun H hZ => ⟨rfl, by (have e : i = 10 := by omega); subst e; exact hZ⟩)
      · refine wt_aload_1 (pc := 8) hc dX11_begin_8 ?_
        refine wt_iload_3 (pc := 9) hc dX11_begin_9 ?_
        refine wt_iload_3 (pc := 10) hc dX11_begin_10 ?_
        refine wt_aload_2 (pc := 11) hc dX11_begin_11 ?_
        refine wt_iconst (pc := 12) (v := nI 0) hc dX11_begin_12 (by decide) ?_
        refine cv_iald (pc := 13) (0) ((bB S D).2.1 r 0) hc (hr) dX11_begin_13 (rfl) (by omega) (by omega) (hi _ 0 (by decide)) ?_
        refine wt_icmp_ne (pc := 14) 23 hc dX11_begin_14 (by decide) (fun c_14 => ?_) (fun c_14 => ?_)
        · refine wt_ldc (pc := 23) (v := nI 1000000) hc dX11_begin_23 q659 ?_
          refine bz_iast (pc := 25) p (i) hE (by omega) hc (hK) dX11_begin_25 (rfl) (by omega) (by omega) ?_
          refine bz_eq (D := sp_fill D p (i + 1) (fun j => if nI j = (bB S D).2.1 r 0 then (bB S D).2.1 r 2 else nI 1000000)) (by rw [← sp_fill_up]; first | rw [if_pos c_14] | rw [if_neg c_14]) ?_
          refine wt_iinc_3 (pc := 26) (v := nI (i + 1)) hc dX11_begin_26 (nI_add i 1) rfl ?_
          refine wt_goto (pc := 29) 2 hc dX11_begin_29 (by decide) ?_
          exact ih (i + 1) (by omega) (by omega)
        · refine wt_aload_2 (pc := 17) hc dX11_begin_17 ?_
          refine wt_iconst (pc := 18) (v := nI 2) hc dX11_begin_18 (by decide) ?_
          refine cv_iald (pc := 19) (2) ((bB S D).2.1 r 2) hc (hr) dX11_begin_19 (rfl) (by omega) (by omega) (hi _ 2 (by decide)) ?_
          refine wt_goto (pc := 20) 25 hc dX11_begin_20 (by decide) ?_
          refine bz_iast (pc := 25) p (i) hE (by omega) hc (hK) dX11_begin_25 (rfl) (by omega) (by omega) ?_
          refine bz_eq (D := sp_fill D p (i + 1) (fun j => if nI j = (bB S D).2.1 r 0 then (bB S D).2.1 r 2 else nI 1000000)) (by rw [← sp_fill_up]; first | rw [if_pos c_14] | rw [if_neg c_14]) ?_
          refine wt_iinc_3 (pc := 26) (v := nI (i + 1)) hc dX11_begin_26 (nI_add i 1) rfl ?_
          refine wt_goto (pc := 29) 2 hc dX11_begin_29 (by decide) ?_
          exact ih (i + 1) (by omega) (by omega)
  refine wt_iconst (pc := 0) (v := nI 0) hc dX11_begin_0 (by decide) ?_
  refine wt_istore_3 (pc := 1) hc dX11_begin_1 rfl ?_
  refine bz_eq (sp_fill_0 D p (fun j => if nI j = (bB S D).2.1 r 0 then (bB S D).2.1 r 2 else nI 1000000)).symm ?_
  exact loop 11 0 (by omega) (by omega)
/-- from the stop i on, n stops left: where an owl is in the minute m -/
def cf_whL (c lv wy : Nat → Int32) (m : Int32) : Nat → Nat → Int32
  | 0, _ => -1
  | n + 1, i => if m < c i then cf_whL c lv wy m n (i + 1) else if n = 0 then wy i else if lv i < m then cf_whL c lv wy m n (i + 1) else wy i
theorem ct_X11_where {M : wt_It} {q : Nat → Nat} {ro ow ri ru wl : Nat} (hX : cX G) (o : Nat) (m : Int32) (hE : bE G S NB) (hN : 19 ≤ NB) (hW : cW S (q 0)) (hY : cY (bB S D) M q ro ow ri ru) (ho : o < ow) (how : ow ≤ 5) (hwl : wl ≤ 8) (e9 : M 9 o = nI wl) : wt_Ct l G yX11_where cX11_where 5 (some .int) 5 0 0 [.ref (S.2.1 1), .int (nI o), .int m] (cz G (bB S D)) (wt_fn (if D 1 2 >>> (nI o &&& 31) &&& 1 = 1 then -1 else cf_whL (D (7 + o)) (D (13 + o)) (fun i => M 10 (8 * o + i)) m wl 0) (cz G (bB S D))) := by
  obtain ⟨y1, y2, y3, -, -, -, ⟨y4, y5, y6⟩, -⟩ := hY
  obtain ⟨wl', z1, z2, hO⟩ := y6 o ho
  have e : wl' = wl := (nI_eq (by omega) (by omega)).mp (z2.symm.trans e9)
  subst e
  obtain ⟨u1, u2, d, n, u3, u4, u5, u6, u7⟩ := y5
  have u8 := u7 o ho
  have hx := hW.2.2.2.2.2.2.2.2.2.2.2.2.2.2.2.2.2.2
  have h8 := hW.2.2.2.2.2.2.2.2.2.2.2.2.2.2.2.1
  have h9 := hW.2.2.2.2.2.2.2.2.2.2.2.2.2.2.2.2.1
  obtain ⟨r1, r2⟩ := hW.2.2.2.2.2.2.2.2.2.1 o (by omega)
  obtain ⟨s1, s2⟩ := hW.2.2.2.2.2.2.2.2.2.2.1 o (by omega)
  have o1 := ct_X11_isOut o hE hN hW (l := l) (D := D)
  change (bB S D).2.2.1 d o = some (q (20 + o)) at u8
  generalize q (20 + o) = oo at hO u8
  generalize q 0 = x0 at y1 y2 hx
  generalize q 1 = x1 at y2 y3 y4
  generalize q 4 = x4 at y4 u1 u2 u4
  refine wt_enter [some (.ref (S.2.1 1)), some (.int (nI o)), some (.int m), none, none] (by decide +kernel) rfl (Nat.le_of_ble_eq_true rfl) (fun X hc hok => ?_)
  have loop : ∀ n i : Nat, i + n = wl' → cf_whL (D (7 + o)) (D (13 + o)) (fun i => M 10 (8 * o + i)) m wl' 0 = cf_whL (D (7 + o)) (D (13 + o)) (fun i => M 10 (8 * o + i)) m n i → wt_V G X 23 [some (.ref (S.2.1 1)), some (.int (nI o)), some (.int m), some (.ref oo), some (.int (nI i))] [] (cz G (bB S D)) 0 0 := by
    intro n
    induction n with
    | zero =>
      intro i hi hv
      refine wt_iload_4 (pc := 23) hc dX11_where_23 ?_
      refine wt_aload_3 (pc := 25) hc dX11_where_25 ?_
      refine wt_gofn (wt_invV (pc := 26) 0 hc (ct_X6_size hX oo _ _ wl' _ hO) dX11_where_26 rfl (fun s H => cz_recv cP2 (hO.1) s H) q543 q544 q545 q129 q546 (by decide +kernel) rfl (by first | decide | omega) (by decide) (Nat.le_of_ble_eq_true rfl) rfl) ?_
      refine wt_nicmp_ge (pc := 29) 88 (i) (wl') hc dX11_where_29 (by decide) (by omega) (by omega) (fun c_29 => ?_) (fun c_29 => ?_)
      · refine wt_iconst (pc := 88) (v := (-1 : Int32)) hc dX11_where_88 (by decide) ?_
        exact wt_iret (pc := 89) hc hok dX11_where_89 (rfl) (fun H hZ => ⟨by rw [hv, cf_whL]; split <;> rfl, hZ⟩)
      · omega
    | succ n ih =>
      intro i hi hv
      rw [cf_whL] at hv
      refine wt_iload_4 (pc := 23) hc dX11_where_23 ?_
      refine wt_aload_3 (pc := 25) hc dX11_where_25 ?_
      refine wt_gofn (wt_invV (pc := 26) 0 hc (ct_X6_size hX oo _ _ wl' _ hO) dX11_where_26 rfl (fun s H => cz_recv cP2 (hO.1) s H) q543 q544 q545 q129 q546 (by decide +kernel) rfl (by first | decide | omega) (by decide) (Nat.le_of_ble_eq_true rfl) rfl) ?_
      refine wt_nicmp_ge (pc := 29) 88 (i) (wl') hc dX11_where_29 (by decide) (by omega) (by omega) (fun c_29 => ?_) (fun c_29 => ?_)
      · omega
      · refine wt_aload_0 (pc := 32) hc dX11_where_32 ?_
        refine wt_iload_1 (pc := 33) hc dX11_where_33 ?_
        refine wt_gofn (wt_invV (pc := 34) 1 hc (o1) dX11_where_34 rfl (fun s H => cz_recv cP3 (hW.2.1) s H) q536 q537 q538 q143 q539 (by decide +kernel) rfl (by first | decide | omega) (by decide) (Nat.le_of_ble_eq_true rfl) rfl) ?_
        refine wt_if_eq (pc := 37) 88 hc dX11_where_37 (by decide) (fun c_37 => ?_) (fun c_37 => ?_)
        · refine wt_iconst (pc := 88) (v := (-1 : Int32)) hc dX11_where_88 (by decide) ?_
          exact wt_iret (pc := 89) hc hok dX11_where_89 (rfl) (fun H hZ => by (refine ⟨?_, hZ⟩; first | (have h0 := sp_b_0.mp c_37; rw [if_pos (Decidable.not_not.mp h0)]; done) | (have h0 := sp_b_n0 c_37; rw [if_neg h0, hv, if_neg c_50]; first | (rw [if_neg (Int32.not_lt.mpr c_63)]; split <;> rfl) | (have h1 := sp_b_n0 c_72; rw [if_pos (by omega)]))))
        · refine wt_iload_2 (pc := 40) hc dX11_where_40 ?_
          refine wt_aload_0 (pc := 41) hc dX11_where_41 ?_
          refine cv_getr (pc := 42) (b := S.2.1 6) 8 hc cP3 (hW.2.1) dX11_where_42 q489 (by decide) (Or.inl rfl) (fun _ _ _ => rfl) (h8) ?_
          refine wt_iload_1 (pc := 45) hc dX11_where_45 ?_
          refine cv_aaldr (pc := 46) (b := S.2.1 (7 + o)) (o) hc (hW.2.2.2.2.2.2.1) (by decide) dX11_where_46 (rfl) (by omega) (by omega) (r2) ?_
          refine wt_iload_4 (pc := 47) hc dX11_where_47 ?_
          refine bz_iald (pc := 49) ((7 + o)) (i) (D (7 + o) i) hE (by omega) hc (r1) dX11_where_49 (rfl) (by omega) (by omega) (rfl) ?_
          refine wt_icmp_lt (pc := 50) 82 hc dX11_where_50 (by decide) (fun c_50 => ?_) (fun c_50 => ?_)
          · refine wt_iinc_4 (pc := 82) (v := nI (i + 1)) hc dX11_where_82 (nI_add i 1) rfl ?_
            refine wt_goto (pc := 85) 23 hc dX11_where_85 (by decide) ?_
            (refine ih (i + 1) (by omega) (hv.trans ?_); first | exact if_pos c_50 | (have h1 := sp_b_0.mp c_72; exact (if_neg c_50).trans ((if_neg (show ¬ n = 0 from by omega)).trans (if_pos (Int32.not_le.mp c_63)))) | (have h1 := sp_b_0.mp c_72; exact (if_neg c_50).trans ((if_neg (show ¬ n = 0 from by omega)).trans (if_pos c_63))))
          · refine wt_iload_2 (pc := 53) hc dX11_where_53 ?_
            refine wt_aload_0 (pc := 54) hc dX11_where_54 ?_
            refine cv_getr (pc := 55) (b := S.2.1 12) 9 hc cP3 (hW.2.1) dX11_where_55 q492 (by decide) (Or.inl rfl) (fun _ _ _ => rfl) (h9) ?_
            refine wt_iload_1 (pc := 58) hc dX11_where_58 ?_
            refine cv_aaldr (pc := 59) (b := S.2.1 (13 + o)) (o) hc (hW.2.2.2.2.2.2.2.1) (by decide) dX11_where_59 (rfl) (by omega) (by omega) (s2) ?_
            refine wt_iload_4 (pc := 60) hc dX11_where_60 ?_
            refine bz_iald (pc := 62) ((13 + o)) (i) (D (13 + o) i) hE (by omega) hc (s1) dX11_where_62 (rfl) (by omega) (by omega) (rfl) ?_
            refine wt_icmp_le (pc := 63) 75 hc dX11_where_63 (by decide) (fun c_63 => ?_) (fun c_63 => ?_)
            · refine wt_aload_3 (pc := 75) hc dX11_where_75 ?_
              refine wt_iload_4 (pc := 76) hc dX11_where_76 ?_
              refine wt_gofn (wt_invV (pc := 78) 1 hc (ct_X6_at hX oo i _ _ wl' _ hO (by omega)) dX11_where_78 rfl (fun s H => cz_recv cP2 (hO.1) s H) q557 q558 q559 q129 q560 (by decide +kernel) rfl (by first | decide | omega) (by decide) (Nat.le_of_ble_eq_true rfl) rfl) ?_
              exact wt_iret (pc := 81) hc hok dX11_where_81 (rfl) (fun H hZ => by (refine ⟨?_, hZ⟩; first | (have h0 := sp_b_0.mp c_37; rw [if_pos (Decidable.not_not.mp h0)]; done) | (have h0 := sp_b_n0 c_37; rw [if_neg h0, hv, if_neg c_50]; first | (rw [if_neg (Int32.not_lt.mpr c_63)]; split <;> rfl) | (have h1 := sp_b_n0 c_72; rw [if_pos (by omega)]))))
            · refine wt_aload_3 (pc := 66) hc dX11_where_66 ?_
              refine wt_iload_4 (pc := 67) hc dX11_where_67 ?_
              refine wt_gofn (wt_invV (pc := 69) 1 hc (ct_X6_isLast hX oo i _ _ wl' _ hO hwl (by omega)) dX11_where_69 rfl (fun s H => cz_recv cP2 (hO.1) s H) q638 q639 q640 q129 q641 (by decide +kernel) rfl (by first | decide | omega) (by decide) (Nat.le_of_ble_eq_true rfl) rfl) ?_
              refine wt_if_eq (pc := 72) 82 hc dX11_where_72 (by decide) (fun c_72 => ?_) (fun c_72 => ?_)
              · refine wt_iinc_4 (pc := 82) (v := nI (i + 1)) hc dX11_where_82 (nI_add i 1) rfl ?_
                refine wt_goto (pc := 85) 23 hc dX11_where_85 (by decide) ?_
                (refine ih (i + 1) (by omega) (hv.trans ?_); first | exact if_pos c_50 | (have h1 := sp_b_0.mp c_72; exact (if_neg c_50).trans ((if_neg (show ¬ n = 0 from by omega)).trans (if_pos (Int32.not_le.mp c_63)))) | (have h1 := sp_b_0.mp c_72; exact (if_neg c_50).trans ((if_neg (show ¬ n = 0 from by omega)).trans (if_pos c_63))))
              · refine wt_aload_3 (pc := 75) hc dX11_where_75 ?_
                refine wt_iload_4 (pc := 76) hc dX11_where_76 ?_
                refine wt_gofn (wt_invV (pc := 78) 1 hc (ct_X6_at hX oo i _ _ wl' _ hO (by omega)) dX11_where_78 rfl (fun s H => cz_recv cP2 (hO.1) s H) q557 q558 q559 q129 q560 (by decide +kernel) rfl (by first | decide | omega) (by decide) (Nat.le_of_ble_eq_true rfl) rfl) ?_
                exact wt_iret (pc := 81) hc hok dX11_where_81 (rfl) (fun H hZ => by (refine ⟨?_, hZ⟩; first | (have h0 := sp_b_0.mp c_37; rw [if_pos (Decidable.not_not.mp h0)]; done) | (have h0 := sp_b_n0 c_37; rw [if_neg h0, hv, if_neg c_50]; first | (rw [if_neg (Int32.not_lt.mpr c_63)]; split <;> rfl) | (have h1 := sp_b_n0 c_72; rw [if_pos (by omega)]))))
  refine wt_aload_0 (pc := 0) hc dX11_where_0 ?_
  refine cv_getr (pc := 1) (b := x0) 11 hc cP3 (hW.2.1) dX11_where_1 q497 (by decide) (Or.inl rfl) (fun _ _ _ => rfl) (hx) ?_
  refine cv_getrN (pc := 4) (b := x1) 0 hc cP0 (y1) dX11_where_4 q241 (by decide) (Or.inl rfl) (fun _ _ _ => rfl) (y2) ?_
  refine cv_getrN (pc := 7) (b := x4) 2 hc cP1 (y3) dX11_where_7 q199 (by decide) (Or.inl rfl) (fun _ _ _ => rfl) (y4) ?_
  refine wt_iload_1 (pc := 10) hc dX11_where_10 ?_
  refine wt_gofr (wt_invF (pc := 11) 1 hc cP11 (u1) (ct_J2_get x4 d n ow o oo u1 u3 u4 u2 ho u5 u6 u8) dX11_where_11 rfl q530 q449 q451 q115 q453 (hX.F_J2_get) (by decide +kernel) rfl (by first | decide | omega) (by decide) (Nat.le_of_ble_eq_true rfl) rfl) ?_
  refine cv_castS (pc := 16) hc cP2 (hO.1) dX11_where_16 q531 ?_
  refine wt_astore_3 (pc := 19) hc dX11_where_19 rfl ?_
  refine wt_iconst (pc := 20) (v := nI 0) hc dX11_where_20 (by decide) ?_
  refine wt_istore_4 (pc := 21) hc dX11_where_21 rfl ?_
  exact loop wl' 0 (by omega) rfl
end NA
