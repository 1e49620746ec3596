/-! THE REFERENCE: owls, riders, lines -/
set_option maxRecDepth 100000
theorem rd_exL_ok : ∀ (f : Nat) (M : wt_It) (w : Int64), rd_ok M → rd_ok (rd_exL f M w).1 ∧ rd_le M (rd_exL f M w).1 := by
  intro f
  induction f with
  | zero => intro M w h; exact ⟨h, rd_le.rf M⟩
  | succ f ih =>
    intro M w h
    rw [rd_exL]
    by_cases hg : M 0 16 = 0
    · rw [if_pos hg]
      have hR : rd_Rd M := h.elim (fun z => z.2) (fun z => absurd hg z.1)
      cases hs : rd_step M w with
      | none => exact ⟨h, rd_le.rf M⟩
      | some s =>
        obtain ⟨a1, a2, -⟩ := rd_step_ok hg hR hs
        obtain ⟨b1, b2⟩ := ih s.1 s.2 a1
        exact ⟨b1, a2.tr b2⟩
    · rw [if_neg hg]
      exact ⟨h, rd_le.rf M⟩
theorem rd_expr_ok {M : wt_It} {w : Int64} {n p q t : Nat} (hX : rd_X (wt_up2 (wt_up2 M 0 34 (nI 0)) 0 35 (nI 0)) n p q 0 t 0) (ht : t ≤ 2 * q) (hg : M 0 16 = 0) : rd_le M (rd_expr M w).1 ∧ ((rd_expr M w).1 0 16 = 0 → ∃ p' q' m' t' d', rd_X (rd_expr M w).1 n p' q' m' t' d' ∧ t' ≤ 2 * q' + 1) := by
  have hk1 : rd_ok (rd_deep (wt_up2 (wt_up2 M 0 34 (nI 0)) 0 35 (nI 0))) := by
    have e : rd_deep (wt_up2 (wt_up2 M 0 34 (nI 0)) 0 35 (nI 0)) = wt_up2 (wt_up2 (wt_up2 (wt_up2 M 0 34 (nI 0)) 0 35 (nI 0)) 0 35 (nI 1)) 46 1 (nI 0) := by
      unfold rd_deep
      rw [show wt_up2 (wt_up2 M 0 34 (nI 0)) 0 35 (nI 0) 0 35 = nI 0 from rfl, if_neg (by decide)]
      rfl
    rw [e]
    obtain ⟨a1, a2, a3, e1, e2, e3, e4, e5, e6, a4, a5⟩ := hX
    exact Or.inl ⟨hg, n, p, q, 0, t, 1, ⟨a1, a2, a3, e1, e2, e3, e4, e5, rfl, by omega, a5⟩, by omega, by omega, Nat.zero_lt_one⟩
  have hk2 := rd_operand_ok true _ w hk1
  have hl2 := rd_operand_le true _ w hk1
  obtain ⟨hk3, hl3⟩ := rd_exL_ok 702 _ (rd_operand true (rd_deep (wt_up2 (wt_up2 M 0 34 (nI 0)) 0 35 (nI 0))) w).2 hk2
  have hle0 : rd_le M (rd_ex0 M w).1 := ((rd_le.up (Or.inl ⟨rfl, by decide⟩)).tr (rd_le.up (Or.inl ⟨rfl, by decide⟩))).tr ((rd_deep_le _).tr (hl2.tr hl3))
  have hle1 : rd_le (rd_ex0 M w).1 (rd_ex1 (rd_ex0 M w).1) := by
    unfold rd_ex1
    split
    · split
      · exact rd_le.rf _
      · exact rd_le.wrong _ _
    · exact rd_le.rf _
  have hk4 : rd_ok (rd_ex1 (rd_ex0 M w).1) := by
    unfold rd_ex1
    split
    · split
      · exact hk3
      · obtain ⟨n, p, q, m, t, d, hX, h1, h2⟩ := hk3.x
        exact Or.inr ⟨sp_wrong_bad (by decide), n, p, q, m, t, d, hX.wrong _, h1, h2⟩
    · exact hk3
  have e : rd_expr M w = (rd_puts (rd_drops (rd_ex1 (rd_ex0 M w).1) (nI 0)) (nI 0), (rd_ex0 M w).2) := by
    unfold rd_expr
    rw [if_pos hg]
  rw [e]
  have hle01 := hle0.tr hle1
  clear e hle0 hle1 hk3 hl3 hk2 hl2
  generalize rd_ex1 (rd_ex0 M w).1 = B at *
  obtain ⟨n4, p4, q4, m4, t4, d4, hX4, h41, h42⟩ := hk4.x
  have hn4 := hX4.1
  have hpn4 := hX4.2.2.1
  have hn := hX.1
  have hle : rd_le M (rd_puts (rd_drops B (nI 0)) (nI 0)) := hle01.tr (((rd_le.drops hX4 (by omega) _).tr (rd_le.puts _ _)))
  refine ⟨hle, fun hgood => ?_⟩
  have hg4 : B 0 16 = 0 := by
    obtain ⟨m', t', g1, g2, hXd, g3, g4, -⟩ := hX4.drops (by omega) (nI 0)
    exact g4.symm.trans ((rd_puts_16 (rd_drops B (nI 0)) (nI 0)).symm.trans hgood)
  obtain ⟨n5, p5, q5, m5, t5, d5, hX5, h1, h2, h3⟩ := hk4.elim (fun z => z.2) (fun z => absurd hg4 z.1)
  have hn5 := hX5.1
  have hpn5 := hX5.2.2.1
  have hqp5 := hX5.2.1
  obtain ⟨m', t', g1, g2, hXd, -⟩ := hX5.drops (by omega) (nI 0)
  have e19 : n5 = n := by
    have h19 := hle.1
    have hXp := hXd.puts (by omega) (nI 0)
    rw [hXp.2.2.2.1, show M 0 19 = nI n from hX.2.2.2.1] at h19
    exact (nI_eq (by omega) (by omega)).mp h19
  subst e19
  exact ⟨p5, q5, m', t' + 1, d5, hXd.puts (by omega) (nI 0), by omega⟩
def rd_owA (M : wt_It) (o : Nat) : wt_It := if M 40 o = nI 8 then sp_wrong M (nI 2) else M
def rd_ow1 (M : wt_It) (o : Nat) : wt_It := if (rd_rh (rd_owA M o)).2 0 16 = 0 then (if M 40 o ≤ 0 then (rd_rh (rd_owA M o)).2 else if M 37 (10 * nn (M 41 (8 * o + nn (M 40 o) - 1)) + nn (rd_rh (rd_owA M o)).1) = 0 then sp_wrong (rd_rh (rd_owA M o)).2 (nI 6) else (rd_rh (rd_owA M o)).2) else (rd_rh (rd_owA M o)).2
def rd_ow2 (M : wt_It) (o : Nat) : wt_It := wt_up2 (wt_up2 (rd_ow1 M o) 41 (8 * o + nn (M 40 o)) (rd_rh (rd_owA M o)).1) 40 o (nI (nn (M 40 o) + 1))
def rd_owL (o : Nat) : Nat → wt_It → Int64 → wt_It × Int64
  | 0, M, w => (M, w)
  | f + 1, M, w => if M 0 16 = 0 then (if rd_ow1 M o 0 16 = 0 then (if (rd_go (rd_ow2 M o)).1 0 21 = nI 2 then rd_owL o f (rd_go (rd_ow2 M o)).1 (rd_go (rd_ow2 M o)).2 else rd_go (rd_ow2 M o)) else (rd_ow1 M o, w)) else (M, w)
/-- one more, where nothing is wrong -/
def rd_inc (M : wt_It) (j : Nat) : wt_It := if M 0 16 = 0 then wt_up2 M 0 j (M 0 j + nI 1) else M
def rd_owS (M : wt_It) (w : Int64) (o : Nat) (its : Int32) : wt_It × Int64 :=
  let x := rd_num (wt_up2 (rd_go M).1 38 o its) (rd_go M).2 (nI 0) (nI 300)
  (wt_up2 (wt_up2 x.2.1 39 o x.1) 40 o (nI 0), x.2.2)
def rd_owl (M : wt_It) (w : Int64) (its : Int32) : wt_It × Int64 :=
  if M 0 29 = nI 5 then (sp_wrong M (nI 2), w)
  else if M 0 16 = 0 then (rd_inc (rd_owL (nn (M 0 29)) 10 (rd_owS M w (nn (M 0 29)) its).1 (rd_owS M w (nn (M 0 29)) its).2).1 29, (rd_owL (nn (M 0 29)) 10 (rd_owS M w (nn (M 0 29)) its).1 (rd_owS M w (nn (M 0 29)) its).2).2) else (M, w)
theorem rd_owA_row {M : wt_It} {o r : Nat} (h : r ≠ 0) : rd_owA M o r = M r := by
  unfold rd_owA
  split
  · exact sp_wrong_row h
  · rfl
theorem rd_owA_at {M : wt_It} {o j : Nat} (h1 : j ≠ 16) (h2 : j ≠ 17) : rd_owA M o 0 j = M 0 j := by
  unfold rd_owA
  split
  · exact sp_wrong_at h1 h2
  · rfl
theorem rd_ow1_row {M : wt_It} {o r : Nat} (h : r ≠ 0) : rd_ow1 M o r = M r := by
  have e : (rd_rh (rd_owA M o)).2 r = M r := (rd_rh_row h).trans (rd_owA_row h)
  unfold rd_ow1
  split
  · split
    · exact e
    · split
      · exact (sp_wrong_row h).trans e
      · exact e
  · exact e
theorem rd_ow1_at {M : wt_It} {o j : Nat} (h1 : j ≠ 16) (h2 : j ≠ 17) : rd_ow1 M o 0 j = M 0 j := by
  have e : (rd_rh (rd_owA M o)).2 0 j = M 0 j := (rd_rh_at h1 h2).trans (rd_owA_at h1 h2)
  unfold rd_ow1
  split
  · split
    · exact e
    · split
      · exact (sp_wrong_at h1 h2).trans e
      · exact e
  · exact e
theorem rd_I.up {M : wt_It} {n a r f o i u t k j : Nat} {x : Int32} (h : rd_I M n a r f o i u t) (hk : k ≠ 0) : rd_I (wt_up2 M k j x) n a r f o i u t := h.of fun _ _ _ => wt_up2_ne (fun z => hk z.1.symm)
theorem rd_num_at {M : wt_It} {w : Int64} {lo hi : Int32} {n p r : Nat} (h : rd_in M n p) (hr : r ≠ 0) : (rd_num M w lo hi).2.1 r = M r := by
  unfold rd_num
  split
  · show (rd_ifgo (rd_nchk M lo hi) w).1 r = M r
    unfold rd_ifgo
    have hi2 : rd_in (rd_nchk M lo hi) n p := h.of (rd_nchk_at (by decide) (by decide)) (rd_nchk_at (by decide) (by decide))
    split
    · rw [(rd_go_f hi2).1 r hr]
      exact rd_nchk_row hr
    · exact rd_nchk_row hr
  · rfl
section TW1
variable {l : Launch} {G : wt_G} {Z : Heap → Prop} {T : tw_T} {M N : wt_It} {w : Int64}
theorem ct_readsOwl (hE : tw_E G T) (n a r f o i u t : Nat) (hI : rd_I M n a r f o i u t) (its : Int32) : wt_Ct l G yX3_readsOwl cX3_readsOwl 5 none 4 0 0 [.ref T.1, .int its] (tw_Z G T M w) (wt_pv (tw_Z G T (rd_owl M w its).1 (rd_owl M w its).2)) := by
  unfold rd_owl
  refine wt_enter [some (.ref T.1), some (.int its), none, none, none] (by decide +kernel) rfl (Nat.le_of_ble_eq_true rfl) (fun X hc hok => ?_)
  have hI0 := hI
  obtain ⟨⟨p, q, ha, hY⟩, hN⟩ := hI
  have ho5 := hN.2.2.2.2.2.2.2.2.1
  have e29 := hN.2.2.1
  refine wt_aload_0 (pc := 0) hc dX3_readsOwl_0 ?_
  refine tw_get (pc := 1) 29 (nI o) hc hE dX3_readsOwl_1 q1633 (by decide) (fun _ _ _ => rfl) rfl (e29) ?_
  refine wt_iconst (pc := 4) (v := nI 5) hc dX3_readsOwl_4 (by decide) ?_
  refine wt_nicmp_ne (pc := 5) 13 (o) (5) hc dX3_readsOwl_5 (by decide) (by omega) (by omega) (fun c_5 => ?_) (fun c_5 => ?_)
  · rw [if_neg (by rw [e29]; exact fun z => c_5 ((nI_eq (by omega) (by decide)).mp z))] at hok
    by_cases hg : M 0 16 = 0
    · rw [if_pos hg, e29, nn_nI (by omega)] at hok
      have fin : ∀ (A : wt_It) (v : Int64), rd_I A n a r f o i u t → rd_owL o 10 (rd_owS M w o its).1 (rd_owS M w o its).2 = (A, v) → wt_V G X 204 [some (.ref T.1), none, none, none, none] [] (tw_Z G T A v) 0 0 := by
        intro A v hA hv
        rw [hv] at hok
        unfold rd_inc at hok
        refine wt_aload_0 (pc := 204) hc dX3_readsOwl_204 ?_
        refine wt_gofn (tw_inv (pc := 205) 0 hc hE (ct_isGood hE) dX3_readsOwl_205 rfl q1868 q1870 qs57 q116 q1871 (by decide +kernel) rfl (by decide) (by decide) (Nat.le_of_ble_eq_true rfl) rfl) ?_
        refine wt_if_eq (pc := 208) 221 hc dX3_readsOwl_208 (by decide) (fun c_208 => ?_) (fun c_208 => ?_)
        · exact wt_vret (pc := 221) hc hok dX3_readsOwl_221 (fun H hZ => ⟨rfl, by first | (rw [if_pos (sp_b_n0 c_208)]; exact hZ) | (rw [if_neg (sp_b_0.mp c_208)]; exact hZ)⟩)
        · refine wt_aload_0 (pc := 211) hc dX3_readsOwl_211 ?_
          refine wt_dup (pc := 212) hc dX3_readsOwl_212 rfl ?_
          refine tw_get (pc := 213) 29 _ hc hE dX3_readsOwl_213 q1633 (by decide) (fun _ _ _ => rfl) rfl (rfl) ?_
          refine wt_iconst (pc := 216) (v := nI 1) hc dX3_readsOwl_216 (by decide) ?_
          refine wt_iadd (pc := 217) hc dX3_readsOwl_217 ?_
          refine tw_put (pc := 218) 29 hc hE dX3_readsOwl_218 q1633 (by decide) (fun _ _ _ => rfl) rfl rfl (rfl) rfl ?_
          exact wt_vret (pc := 221) hc hok dX3_readsOwl_221 (fun H hZ => ⟨rfl, by first | (rw [if_pos (sp_b_n0 c_208)]; exact hZ) | (rw [if_neg (sp_b_0.mp c_208)]; exact hZ)⟩)
      have end60 : ∀ (A : wt_It) (v : Int64), wt_V G X 204 [some (.ref T.1), none, none, none, none] [] (tw_Z G T A v) 0 0 → ∀ {y : Int32}, wt_V G X 60 [some (.ref T.1), none, some (.int (nI o)), some (.int (nI 0)), some (.int y)] [] (tw_Z G T A v) 0 0 := by
        intro A v hend y
        refine wt_iload_3 (pc := 60) hc dX3_readsOwl_60 ?_
        refine wt_if_eq (pc := 61) 204 hc dX3_readsOwl_61 (by decide) (fun _ => ?_) (fun z => absurd z (by decide))
        exact wt_drop hend ⟨rfl, trivial⟩
      have loop : ∀ (fl k : Nat) (A : wt_It) (v : Int64), k + fl = 10 → rd_I A n a r f o i u t → A 40 o = nI k → (k = 0 ∨ k ≤ 9 ∧ ∃ x, x < 10 ∧ A 41 (8 * o + k - 1) = nI x) → (A 0 16 = 0 → k ≤ 8) → rd_owL o 10 (rd_owS M w o its).1 (rd_owS M w o its).2 = rd_owL o fl A v → wt_V G X 60 [some (.ref T.1), none, some (.int (nI o)), some (.int (nI 1)), none] [] (tw_Z G T A v) 0 0 := by
        intro fl
        induction fl with
        | zero =>
          intro k A v hk hA e40 hx hk8 hv
          have hbad : ¬ A 0 16 = 0 := fun z => by have := hk8 z; omega
          refine wt_iload_3 (pc := 60) hc dX3_readsOwl_60 ?_
          refine wt_if_eq (pc := 61) 204 hc dX3_readsOwl_61 (by decide) (fun z => absurd z (by decide)) (fun _ => ?_)
          refine wt_aload_0 (pc := 64) hc dX3_readsOwl_64 ?_
          refine wt_gofn (tw_inv (pc := 65) 0 hc hE (ct_isGood hE) dX3_readsOwl_65 rfl q1868 q1870 qs57 q116 q1871 (by decide +kernel) rfl (by decide) (by decide) (Nat.le_of_ble_eq_true rfl) rfl) ?_
          refine wt_if_eq (pc := 68) 204 hc dX3_readsOwl_68 (by decide) (fun c_68 => ?_) (fun c_68 => ?_)
          · exact wt_drop (fin A v hA (by rw [hv]; rfl)) ⟨rfl, trivial⟩
          · exact absurd (sp_b_n0 c_68) hbad
        | succ fl ih =>
          intro k A v hk hA e40 hx hk8 hv
          conv at hv => rhs; rw [rd_owL]
          by_cases hgA : A 0 16 = 0
          · have hk8' := hk8 hgA
            rw [if_pos hgA] at hv
            have hAA : rd_I (rd_owA A o) n a r f o i u t := hA.of fun _ h1 h2 => rd_owA_at h1 h2
            obtain ⟨x, ex, hx10⟩ := rd_rh_v hAA
            have hR := hAA.rh
            generalize hB : (rd_rh (rd_owA A o)).2 = B at hR
            have e40B : B 40 o = nI k := by
              rw [← hB]
              exact (congrFun ((rd_rh_row (by decide)).trans (rd_owA_row (by decide))) o).trans e40
            have e41B : ∀ j, B 41 j = A 41 j := fun j => by
              rw [← hB]
              exact congrFun ((rd_rh_row (by decide)).trans (rd_owA_row (by decide))) j
            have e37B : ∀ j, B 37 j = A 37 j := fun j => by
              rw [← hB]
              exact congrFun ((rd_rh_row (by decide)).trans (rd_owA_row (by decide))) j
            have hwA : rd_ow1 A o = if B 0 16 = 0 then (if nI k ≤ 0 then B else if A 37 (10 * nn (A 41 (8 * o + k - 1)) + x) = 0 then sp_wrong B (nI 6) else B) else B := by
              unfold rd_ow1
              rw [hB, e40, nn_nI (by omega), ex, nn_nI (by omega)]
            have tail : ∀ C : wt_It, rd_ow1 A o = C → rd_I C n a r f o i u t → C 40 o = nI k → (C 0 16 = 0 → k ≤ 7) → wt_V G X 147 [some (.ref T.1), none, some (.int (nI o)), some (.int (nI 1)), some (.int (nI x))] [] (tw_Z G T C v) 0 0 := by
              intro C eC hC e40C hk7
              by_cases hgC : C 0 16 = 0
              · have hk7' := hk7 hgC
                rw [eC, if_pos hgC] at hv
                have ew2 : rd_ow2 A o = wt_up2 (wt_up2 C 41 (8 * o + k) (nI x)) 40 o (nI (k + 1)) := by
                  unfold rd_ow2
                  rw [eC, e40, nn_nI (by omega), ex]
                rw [ew2] at hv
                have hI2 : rd_I (wt_up2 (wt_up2 C 41 (8 * o + k) (nI x)) 40 o (nI (k + 1))) n a r f o i u t := (hC.up (by decide)).up (by decide)
                have hI3 := hI2.go
                obtain ⟨⟨p2, q2, -, hY2⟩, -⟩ := hI2
                have f40 : (rd_go (wt_up2 (wt_up2 C 41 (8 * o + k) (nI x)) 40 o (nI (k + 1)))).1 40 o = nI (k + 1) := (congrFun ((rd_go_f hY2.inn).1 40 (by decide)) o).trans (wt_up2_self _ _ _ _)
                have f41 : (rd_go (wt_up2 (wt_up2 C 41 (8 * o + k) (nI x)) 40 o (nI (k + 1)))).1 41 (8 * o + (k + 1) - 1) = nI x := by
                  refine (congrFun ((rd_go_f hY2.inn).1 41 (by decide)) _).trans ?_
                  rw [wt_up2_row (by decide), show 8 * o + (k + 1) - 1 = 8 * o + k by omega, wt_up2_self]
                refine wt_aload_0 (pc := 147) hc dX3_readsOwl_147 ?_
                refine wt_gofn (tw_inv (pc := 148) 0 hc hE (ct_isGood hE) dX3_readsOwl_148 rfl q1868 q1870 qs57 q116 q1871 (by decide +kernel) rfl (by decide) (by decide) (Nat.le_of_ble_eq_true rfl) rfl) ?_
                refine wt_if_ne (pc := 151) 155 hc dX3_readsOwl_151 (by decide) (fun c_151 => ?_) (fun c_151 => ?_)
                · refine wt_aload_0 (pc := 155) hc dX3_readsOwl_155 ?_
                  refine tw_geta (pc := 156) 41 hc hE dX3_readsOwl_156 q1645 (by decide) (by decide) (fun _ _ _ => rfl) rfl ?_
                  refine wt_bipush (pc := 159) (v := nI 8) hc dX3_readsOwl_159 (by decide) ?_
                  refine wt_iload_2 (pc := 161) hc dX3_readsOwl_161 ?_
                  refine wt_imul (pc := 162) hc dX3_readsOwl_162 ?_
                  rw [pk_mul 8 o]
                  refine wt_aload_0 (pc := 163) hc dX3_readsOwl_163 ?_
                  refine tw_geta (pc := 164) 40 hc hE dX3_readsOwl_164 q1644 (by decide) (by decide) (fun _ _ _ => rfl) rfl ?_
                  refine wt_iload_2 (pc := 167) hc dX3_readsOwl_167 ?_
                  refine tw_iald (pc := 168) (k := 40) (o) (nI k) hc hE dX3_readsOwl_168 rfl (rfl) (by show _ < 5; omega) (by decide) (e40C) ?_
                  refine wt_iadd (pc := 169) hc dX3_readsOwl_169 ?_
                  rw [nI_add (8 * o) k]
                  refine wt_iload_4 (pc := 170) hc dX3_readsOwl_170 ?_
                  refine tw_iast (pc := 172) (k := 41) (8 * o + k) hc hE dX3_readsOwl_172 rfl (rfl) (by show _ < 40; omega) (by decide) ?_
                  refine wt_aload_0 (pc := 173) hc dX3_readsOwl_173 ?_
                  refine tw_geta (pc := 174) 40 hc hE dX3_readsOwl_174 q1644 (by decide) (by decide) (fun _ _ _ => rfl) rfl ?_
                  refine wt_iload_2 (pc := 177) hc dX3_readsOwl_177 ?_
                  refine wt_dup2 (pc := 178) hc dX3_readsOwl_178 rfl rfl ?_
                  refine tw_iald (pc := 179) (k := 40) (o) (nI k) hc hE dX3_readsOwl_179 rfl (rfl) (by show _ < 5; omega) (by decide) ((by rw [wt_up2_row (by decide)]; exact e40C)) ?_
                  refine wt_iconst (pc := 180) (v := nI 1) hc dX3_readsOwl_180 (by decide) ?_
                  refine wt_iadd (pc := 181) hc dX3_readsOwl_181 ?_
                  rw [nI_add k 1]
                  refine tw_iast (pc := 182) (k := 40) (o) hc hE dX3_readsOwl_182 rfl (rfl) (by show _ < 5; omega) (by decide) ?_
                  refine wt_aload_0 (pc := 183) hc dX3_readsOwl_183 ?_
                  refine wt_gov (tw_inv (pc := 184) 0 hc hE (ct_goes hE n p2 hY2.inn) dX3_readsOwl_184 rfl q1854 q1856 qs55 q116 q1857 (by decide +kernel) rfl (by decide) (by decide) (Nat.le_of_ble_eq_true rfl) rfl) (Nat.zero_le _) (Nat.zero_le _) ?_
                  refine wt_aload_0 (pc := 187) hc dX3_readsOwl_187 ?_
                  refine tw_get (pc := 188) 21 _ hc hE dX3_readsOwl_188 q1625 (by decide) (fun _ _ _ => rfl) rfl (rfl) ?_
                  refine wt_iconst (pc := 191) (v := nI 2) hc dX3_readsOwl_191 (by decide) ?_
                  refine wt_icmp_ne (pc := 192) 199 hc dX3_readsOwl_192 (by decide) (fun c_192 => ?_) (fun c_192 => ?_)
                  · refine wt_iconst (pc := 199) (v := nI 0) hc dX3_readsOwl_199 (by decide) ?_
                    refine wt_istore_3 (pc := 200) hc dX3_readsOwl_200 rfl ?_
                    refine wt_goto (pc := 201) 60 hc dX3_readsOwl_201 (by decide) ?_
                    first | (rw [if_pos c_192] at hv; exact wt_drop (ih (k + 1) _ _ (by omega) hI3 f40 (Or.inr ⟨by omega, x, hx10, f41⟩) (fun _ => by omega) hv) ⟨rfl, rfl, rfl, trivial⟩) | (rw [if_neg c_192] at hv; exact end60 _ _ (fin _ _ hI3 hv))
                  · refine wt_iconst (pc := 195) (v := nI 1) hc dX3_readsOwl_195 (by decide) ?_
                    refine wt_goto (pc := 196) 200 hc dX3_readsOwl_196 (by decide) ?_
                    refine wt_istore_3 (pc := 200) hc dX3_readsOwl_200 rfl ?_
                    refine wt_goto (pc := 201) 60 hc dX3_readsOwl_201 (by decide) ?_
                    first | (rw [if_pos c_192] at hv; exact wt_drop (ih (k + 1) _ _ (by omega) hI3 f40 (Or.inr ⟨by omega, x, hx10, f41⟩) (fun _ => by omega) hv) ⟨rfl, rfl, rfl, trivial⟩) | (rw [if_neg c_192] at hv; exact end60 _ _ (fin _ _ hI3 hv))
                · exact absurd hgC (sp_b_0.mp c_151)
              · rw [eC, if_neg hgC] at hv
                unfold rd_inc at hok
                rw [hv, if_neg hgC] at hok
                refine wt_aload_0 (pc := 147) hc dX3_readsOwl_147 ?_
                refine wt_gofn (tw_inv (pc := 148) 0 hc hE (ct_isGood hE) dX3_readsOwl_148 rfl q1868 q1870 qs57 q116 q1871 (by decide +kernel) rfl (by decide) (by decide) (Nat.le_of_ble_eq_true rfl) rfl) ?_
                refine wt_if_ne (pc := 151) 155 hc dX3_readsOwl_151 (by decide) (fun c_151 => ?_) (fun c_151 => ?_)
                · exact absurd (sp_b_n0 c_151) hgC
                · exact wt_vret (pc := 154) hc hok dX3_readsOwl_154 (fun H hZ => ⟨rfl, hZ⟩)
            have at87 : ∀ D : wt_It, rd_owA A o = D → (D 0 16 = 0 → k ≤ 7) → wt_V G X 87 [some (.ref T.1), none, some (.int (nI o)), some (.int (nI 1)), none] [] (tw_Z G T D v) 0 0 := by
              intro D eD hk7
              subst eD
              have hk7B : B 0 16 = 0 → k ≤ 7 := fun z => by
                refine hk7 (Decidable.byContradiction fun y => ?_)
                rw [← hB] at z
                unfold rd_rh at z
                rw [if_neg y] at z
                exact y z
              refine wt_aload_0 (pc := 87) hc dX3_readsOwl_87 ?_
              refine wt_gofn (tw_inv (pc := 88) 0 hc hE (ct_roofHere hE) dX3_readsOwl_88 rfl q1903 q1905 qs64 q116 q1906 (by decide +kernel) rfl (by decide) (by decide) (Nat.le_of_ble_eq_true rfl) rfl) ?_
              rw [ex, hB]
              refine wt_istore_4 (pc := 91) hc dX3_readsOwl_91 rfl ?_
              refine wt_aload_0 (pc := 93) hc dX3_readsOwl_93 ?_
              refine wt_gofn (tw_inv (pc := 94) 0 hc hE (ct_isGood hE) dX3_readsOwl_94 rfl q1868 q1870 qs57 q116 q1871 (by decide +kernel) rfl (by decide) (by decide) (Nat.le_of_ble_eq_true rfl) rfl) ?_
              refine wt_if_eq (pc := 97) 147 hc dX3_readsOwl_97 (by decide) (fun c_97 => ?_) (fun c_97 => ?_)
              · exact tail B (by rw [hwA, if_neg (sp_b_0.mp c_97)]) hR e40B hk7B
              · have gB : B 0 16 = 0 := sp_b_n0 c_97
                rw [if_pos gB] at hwA
                rcases hx with hk0 | ⟨-, y, hy, ey⟩
                · subst hk0
                  refine wt_aload_0 (pc := 100) hc dX3_readsOwl_100 ?_
                  refine tw_geta (pc := 101) 40 hc hE dX3_readsOwl_101 q1644 (by decide) (by decide) (fun _ _ _ => rfl) rfl ?_
                  refine wt_iload_2 (pc := 104) hc dX3_readsOwl_104 ?_
                  refine tw_iald (pc := 105) (k := 40) (o) (nI 0) hc hE dX3_readsOwl_105 rfl (rfl) (by show _ < 5; omega) (by decide) (e40B) ?_
                  refine wt_if_le (pc := 106) 147 hc dX3_readsOwl_106 (by decide) (fun c_106 => ?_) (fun c_106 => ?_)
                  · exact tail B (by rw [hwA, if_pos (by decide)]) hR e40B hk7B
                  · exact absurd (by decide) c_106
                · rw [ey, nn_nI (by omega)] at hwA
                  rcases Nat.eq_zero_or_pos k with hk0 | hkp
                  · subst hk0
                    refine wt_aload_0 (pc := 100) hc dX3_readsOwl_100 ?_
                    refine tw_geta (pc := 101) 40 hc hE dX3_readsOwl_101 q1644 (by decide) (by decide) (fun _ _ _ => rfl) rfl ?_
                    refine wt_iload_2 (pc := 104) hc dX3_readsOwl_104 ?_
                    refine tw_iald (pc := 105) (k := 40) (o) (nI 0) hc hE dX3_readsOwl_105 rfl (rfl) (by show _ < 5; omega) (by decide) (e40B) ?_
                    refine wt_if_le (pc := 106) 147 hc dX3_readsOwl_106 (by decide) (fun c_106 => ?_) (fun c_106 => ?_)
                    · exact tail B (by rw [hwA, if_pos (by decide)]) hR e40B hk7B
                    · exact absurd (by decide) c_106
                  · have ncl : ¬ nI k ≤ 0 := nI_nle hkp (by omega)
                    rw [if_neg ncl] at hwA
                    refine wt_aload_0 (pc := 100) hc dX3_readsOwl_100 ?_
                    refine tw_geta (pc := 101) 40 hc hE dX3_readsOwl_101 q1644 (by decide) (by decide) (fun _ _ _ => rfl) rfl ?_
                    refine wt_iload_2 (pc := 104) hc dX3_readsOwl_104 ?_
                    refine tw_iald (pc := 105) (k := 40) (o) (nI k) hc hE dX3_readsOwl_105 rfl (rfl) (by show _ < 5; omega) (by decide) (e40B) ?_
                    refine wt_if_le (pc := 106) 147 hc dX3_readsOwl_106 (by decide) (fun c_106 => ?_) (fun c_106 => ?_)
                    · exact absurd c_106 ncl
                    · refine wt_aload_0 (pc := 109) hc dX3_readsOwl_109 ?_
                      refine tw_geta (pc := 110) 37 hc hE dX3_readsOwl_110 q1641 (by decide) (by decide) (fun _ _ _ => rfl) rfl ?_
                      refine wt_bipush (pc := 113) (v := nI 10) hc dX3_readsOwl_113 (by decide) ?_
                      refine wt_aload_0 (pc := 115) hc dX3_readsOwl_115 ?_
                      refine tw_geta (pc := 116) 41 hc hE dX3_readsOwl_116 q1645 (by decide) (by decide) (fun _ _ _ => rfl) rfl ?_
                      refine wt_bipush (pc := 119) (v := nI 8) hc dX3_readsOwl_119 (by decide) ?_
                      refine wt_iload_2 (pc := 121) hc dX3_readsOwl_121 ?_
                      refine wt_imul (pc := 122) hc dX3_readsOwl_122 ?_
                      rw [pk_mul 8 o]
                      refine wt_aload_0 (pc := 123) hc dX3_readsOwl_123 ?_
                      refine tw_geta (pc := 124) 40 hc hE dX3_readsOwl_124 q1644 (by decide) (by decide) (fun _ _ _ => rfl) rfl ?_
                      refine wt_iload_2 (pc := 127) hc dX3_readsOwl_127 ?_
                      refine tw_iald (pc := 128) (k := 40) (o) (nI k) hc hE dX3_readsOwl_128 rfl (rfl) (by show _ < 5; omega) (by decide) (e40B) ?_
                      refine wt_iadd (pc := 129) hc dX3_readsOwl_129 ?_
                      rw [nI_add (8 * o) k]
                      refine wt_iconst (pc := 130) (v := nI 1) hc dX3_readsOwl_130 (by decide) ?_
                      refine wt_isub (pc := 131) hc dX3_readsOwl_131 ?_
                      rw [pk_sub (a := 8 * o + k) (b := 1) (by omega)]
                      refine tw_iald (pc := 132) (k := 41) (8 * o + k - 1) (nI y) hc hE dX3_readsOwl_132 rfl (rfl) ((by show _ < 40; omega)) (by decide) ((e41B _).trans ey) ?_
                      refine wt_imul (pc := 133) hc dX3_readsOwl_133 ?_
                      rw [pk_mul 10 y]
                      refine wt_iload_4 (pc := 134) hc dX3_readsOwl_134 ?_
                      refine wt_iadd (pc := 136) hc dX3_readsOwl_136 ?_
                      rw [nI_add (10 * y) x]
                      refine tw_iald (pc := 137) (k := 37) (10 * y + x) (A 37 (10 * y + x)) hc hE dX3_readsOwl_137 rfl (rfl) (by show _ < 100; omega) (by decide) (e37B _) ?_
                      refine wt_if_ne (pc := 138) 147 hc dX3_readsOwl_138 (by decide) (fun c_138 => ?_) (fun c_138 => ?_)
                      · first | exact tail B (by rw [hwA, if_neg c_138]) hR e40B hk7B | exact tail (sp_wrong B (nI 6)) (by rw [hwA, if_pos c_138]) (hR.wrong _) ((congrFun (sp_wrong_row (by decide)) o).trans e40B) (fun z => absurd z (sp_wrong_bad (by decide)))
                      · refine wt_aload_0 (pc := 141) hc dX3_readsOwl_141 ?_
                        refine wt_bipush (pc := 142) (v := nI 6) hc dX3_readsOwl_142 (by decide) ?_
                        refine wt_gov (tw_inv (pc := 144) 1 hc hE (ct_wrong hE _) dX3_readsOwl_144 rfl q1887 q1889 qs60 q116 q1890 (by decide +kernel) rfl (by decide) (by decide) (Nat.le_of_ble_eq_true rfl) rfl) (Nat.zero_le _) (Nat.zero_le _) ?_
                        first | exact tail B (by rw [hwA, if_neg c_138]) hR e40B hk7B | exact tail (sp_wrong B (nI 6)) (by rw [hwA, if_pos c_138]) (hR.wrong _) ((congrFun (sp_wrong_row (by decide)) o).trans e40B) (fun z => absurd z (sp_wrong_bad (by decide)))
            refine wt_iload_3 (pc := 60) hc dX3_readsOwl_60 ?_
            refine wt_if_eq (pc := 61) 204 hc dX3_readsOwl_61 (by decide) (fun z => absurd z (by decide)) (fun _ => ?_)
            refine wt_aload_0 (pc := 64) hc dX3_readsOwl_64 ?_
            refine wt_gofn (tw_inv (pc := 65) 0 hc hE (ct_isGood hE) dX3_readsOwl_65 rfl q1868 q1870 qs57 q116 q1871 (by decide +kernel) rfl (by decide) (by decide) (Nat.le_of_ble_eq_true rfl) rfl) ?_
            refine wt_if_eq (pc := 68) 204 hc dX3_readsOwl_68 (by decide) (fun c_68 => ?_) (fun c_68 => ?_)
            · exact absurd hgA (sp_b_0.mp c_68)
            · refine wt_aload_0 (pc := 71) hc dX3_readsOwl_71 ?_
              refine tw_geta (pc := 72) 40 hc hE dX3_readsOwl_72 q1644 (by decide) (by decide) (fun _ _ _ => rfl) rfl ?_
              refine wt_iload_2 (pc := 75) hc dX3_readsOwl_75 ?_
              refine tw_iald (pc := 76) (k := 40) (o) (nI k) hc hE dX3_readsOwl_76 rfl (rfl) (by show _ < 5; omega) (by decide) (e40) ?_
              refine wt_bipush (pc := 77) (v := nI 8) hc dX3_readsOwl_77 (by decide) ?_
              refine wt_nicmp_ne (pc := 79) 87 (k) (8) hc dX3_readsOwl_79 (by decide) (by omega) (by omega) (fun c_79 => ?_) (fun c_79 => ?_)
              · exact wt_drop (at87 A (by unfold rd_owA; rw [if_neg (by rw [e40]; exact fun z => c_79 ((nI_eq (by omega) (by decide)).mp z))]) (fun _ => by omega)) ⟨rfl, rfl, rfl, trivial⟩
              · refine wt_aload_0 (pc := 82) hc dX3_readsOwl_82 ?_
                refine wt_iconst (pc := 83) (v := nI 2) hc dX3_readsOwl_83 (by decide) ?_
                refine wt_gov (tw_inv (pc := 84) 1 hc hE (ct_wrong hE _) dX3_readsOwl_84 rfl q1887 q1889 qs60 q116 q1890 (by decide +kernel) rfl (by decide) (by decide) (Nat.le_of_ble_eq_true rfl) rfl) (Nat.zero_le _) (Nat.zero_le _) ?_
                exact wt_drop (at87 _ (by unfold rd_owA; rw [if_pos (by rw [e40, c_79])]) (fun z => absurd z (sp_wrong_bad (by decide)))) ⟨rfl, rfl, rfl, trivial⟩
          · rw [if_neg hgA] at hv
            refine wt_iload_3 (pc := 60) hc dX3_readsOwl_60 ?_
            refine wt_if_eq (pc := 61) 204 hc dX3_readsOwl_61 (by decide) (fun z => absurd z (by decide)) (fun _ => ?_)
            refine wt_aload_0 (pc := 64) hc dX3_readsOwl_64 ?_
            refine wt_gofn (tw_inv (pc := 65) 0 hc hE (ct_isGood hE) dX3_readsOwl_65 rfl q1868 q1870 qs57 q116 q1871 (by decide +kernel) rfl (by decide) (by decide) (Nat.le_of_ble_eq_true rfl) rfl) ?_
            refine wt_if_eq (pc := 68) 204 hc dX3_readsOwl_68 (by decide) (fun c_68 => ?_) (fun c_68 => ?_)
            · exact wt_drop (fin A v hA hv) ⟨rfl, trivial⟩
            · exact absurd (sp_b_n0 c_68) hgA
      have hI1 := hI0.go
      have hI2 : rd_I (wt_up2 (rd_go M).1 38 o its) n a r f o i u t := hI1.up (by decide)
      obtain ⟨⟨p1, q1, -, hY1⟩, -⟩ := id hI2
      have hI3 := hI2.num (w := (rd_go M).2) (lo := nI 0) (hi := nI 300)
      refine wt_aload_0 (pc := 13) hc dX3_readsOwl_13 ?_
      refine wt_gofn (tw_inv (pc := 14) 0 hc hE (ct_isGood hE) dX3_readsOwl_14 rfl q1868 q1870 qs57 q116 q1871 (by decide +kernel) rfl (by decide) (by decide) (Nat.le_of_ble_eq_true rfl) rfl) ?_
      refine wt_if_ne (pc := 17) 21 hc dX3_readsOwl_17 (by decide) (fun c_17 => ?_) (fun c_17 => ?_)
      · refine wt_aload_0 (pc := 21) hc dX3_readsOwl_21 ?_
        refine wt_gov (tw_inv (pc := 22) 0 hc hE (ct_goes hE n p hY.inn) dX3_readsOwl_22 rfl q1854 q1856 qs55 q116 q1857 (by decide +kernel) rfl (by decide) (by decide) (Nat.le_of_ble_eq_true rfl) rfl) (Nat.zero_le _) (Nat.zero_le _) ?_
        refine wt_aload_0 (pc := 25) hc dX3_readsOwl_25 ?_
        refine tw_get (pc := 26) 29 (nI o) hc hE dX3_readsOwl_26 q1633 (by decide) (fun _ _ _ => rfl) rfl ((hI1.2).2.2.1) ?_
        refine wt_istore_2 (pc := 29) hc dX3_readsOwl_29 rfl ?_
        refine wt_aload_0 (pc := 30) hc dX3_readsOwl_30 ?_
        refine tw_geta (pc := 31) 38 hc hE dX3_readsOwl_31 q1642 (by decide) (by decide) (fun _ _ _ => rfl) rfl ?_
        refine wt_iload_2 (pc := 34) hc dX3_readsOwl_34 ?_
        refine wt_iload_1 (pc := 35) hc dX3_readsOwl_35 ?_
        refine tw_iast (pc := 36) (k := 38) (o) hc hE dX3_readsOwl_36 rfl (rfl) (by show _ < 5; omega) (by decide) ?_
        refine wt_aload_0 (pc := 37) hc dX3_readsOwl_37 ?_
        refine tw_geta (pc := 38) 39 hc hE dX3_readsOwl_38 q1643 (by decide) (by decide) (fun _ _ _ => rfl) rfl ?_
        refine wt_iload_2 (pc := 41) hc dX3_readsOwl_41 ?_
        refine wt_aload_0 (pc := 42) hc dX3_readsOwl_42 ?_
        refine wt_iconst (pc := 43) (v := nI 0) hc dX3_readsOwl_43 (by decide) ?_
        refine wt_sipush (pc := 44) (v := nI 300) hc dX3_readsOwl_44 (by decide) ?_
        refine wt_gofn (tw_inv (pc := 47) 2 hc hE (ct_number hE n p1 hY1.inn _ _) dX3_readsOwl_47 rfl q1891 q1893 qs61 q116 q1894 (by decide +kernel) rfl (by decide) (by decide) (Nat.le_of_ble_eq_true rfl) rfl) ?_
        refine tw_iast (pc := 50) (k := 39) (o) hc hE dX3_readsOwl_50 rfl (rfl) (by show _ < 5; omega) (by decide) ?_
        refine wt_aload_0 (pc := 51) hc dX3_readsOwl_51 ?_
        refine tw_geta (pc := 52) 40 hc hE dX3_readsOwl_52 q1644 (by decide) (by decide) (fun _ _ _ => rfl) rfl ?_
        refine wt_iload_2 (pc := 55) hc dX3_readsOwl_55 ?_
        refine wt_iconst (pc := 56) (v := nI 0) hc dX3_readsOwl_56 (by decide) ?_
        refine tw_iast (pc := 57) (k := 40) (o) hc hE dX3_readsOwl_57 rfl (rfl) (by show _ < 5; omega) (by decide) ?_
        refine wt_iconst (pc := 58) (v := nI 1) hc dX3_readsOwl_58 (by decide) ?_
        refine wt_istore_3 (pc := 59) hc dX3_readsOwl_59 rfl ?_
        refine wt_drop (loop 10 0 (rd_owS M w o its).1 (rd_owS M w o its).2 (by omega) ((hI3.up (by decide)).up (by decide)) (wt_up2_self _ _ _ _) (Or.inl rfl) (fun _ => by omega) rfl) ⟨rfl, rfl, rfl, trivial⟩
      · exact absurd hg (sp_b_0.mp c_17)
    · rw [if_neg hg] at hok
      refine wt_aload_0 (pc := 13) hc dX3_readsOwl_13 ?_
      refine wt_gofn (tw_inv (pc := 14) 0 hc hE (ct_isGood hE) dX3_readsOwl_14 rfl q1868 q1870 qs57 q116 q1871 (by decide +kernel) rfl (by decide) (by decide) (Nat.le_of_ble_eq_true rfl) rfl) ?_
      refine wt_if_ne (pc := 17) 21 hc dX3_readsOwl_17 (by decide) (fun c_17 => ?_) (fun c_17 => ?_)
      · exact absurd (sp_b_n0 c_17) hg
      · exact wt_vret (pc := 20) hc hok dX3_readsOwl_20 (fun H hZ => ⟨rfl, hZ⟩)
  · rw [if_pos (by rw [e29, c_5])] at hok
    refine wt_aload_0 (pc := 8) hc dX3_readsOwl_8 ?_
    refine wt_iconst (pc := 9) (v := nI 2) hc dX3_readsOwl_9 (by decide) ?_
    refine wt_gov (tw_inv (pc := 10) 1 hc hE (ct_wrong hE _) dX3_readsOwl_10 rfl q1887 q1889 qs60 q116 q1890 (by decide +kernel) rfl (by decide) (by decide) (Nat.le_of_ble_eq_true rfl) rfl) (Nat.zero_le _) (Nat.zero_le _) ?_
    refine wt_aload_0 (pc := 13) hc dX3_readsOwl_13 ?_
    refine wt_gofn (tw_inv (pc := 14) 0 hc hE (ct_isGood hE) dX3_readsOwl_14 rfl q1868 q1870 qs57 q116 q1871 (by decide +kernel) rfl (by decide) (by decide) (Nat.le_of_ble_eq_true rfl) rfl) ?_
    refine wt_if_ne (pc := 17) 21 hc dX3_readsOwl_17 (by decide) (fun c_17 => ?_) (fun c_17 => ?_)
    · exact absurd (sp_b_n0 c_17) (sp_wrong_bad (by decide))
    · exact wt_vret (pc := 20) hc hok dX3_readsOwl_20 (fun H hZ => ⟨rfl, hZ⟩)
end TW1
