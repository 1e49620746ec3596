/-! THE REFERENCE: expressions -/
set_option maxRecDepth 100000
def rd_vv (M : wt_It) : Prop := ∃ v, v < 10000 ∧ M 0 24 = nI v
/-- the same text, no earlier place, the same city -/
def rd_le (M M' : wt_It) : Prop := M' 0 19 = M 0 19 ∧ nn (M 0 22) ≤ nn (M' 0 22) ∧ (∀ j, 27 ≤ j → j ≤ 32 → M' 0 j = M 0 j) ∧ (∀ r, r ≠ 0 → r ≠ 44 → r ≠ 45 → r ≠ 46 → M' r = M r) ∧ (rd_vv M → rd_vv M')
theorem rd_le.rf (M : wt_It) : rd_le M M := ⟨rfl, Nat.le_refl _, fun _ _ _ => rfl, fun _ _ _ _ _ => rfl, id⟩
theorem rd_le.tr {A B C : wt_It} (h : rd_le A B) (h' : rd_le B C) : rd_le A C := ⟨h'.1.trans h.1, Nat.le_trans h.2.1 h'.2.1, fun j a b => (h'.2.2.1 j a b).trans (h.2.2.1 j a b), fun r a b c d => (h'.2.2.2.1 r a b c d).trans (h.2.2.2.1 r a b c d), fun z => h'.2.2.2.2 (h.2.2.2.2 z)⟩
theorem rd_le.of {A B : wt_It} (h : ∀ j, j ≠ 16 → j ≠ 17 → j ≠ 33 → j ≠ 34 → j ≠ 35 → B 0 j = A 0 j) (hr : ∀ r, r ≠ 0 → r ≠ 44 → r ≠ 45 → r ≠ 46 → B r = A r) : rd_le A B := ⟨h _ (by decide) (by decide) (by decide) (by decide) (by decide), by rw [h 22 (by decide) (by decide) (by decide) (by decide) (by decide)]; exact Nat.le_refl _, fun j a b => h j (by omega) (by omega) (by omega) (by omega) (by omega), hr, fun ⟨v, a, b⟩ => ⟨v, a, (h 24 (by decide) (by decide) (by decide) (by decide) (by decide)).trans b⟩⟩
theorem rd_le.up {A : wt_It} {r j : Nat} {x : Int32} (h : r = 0 ∧ (j = 33 ∨ j = 34 ∨ j = 35) ∨ r = 44 ∨ r = 45 ∨ r = 46) : rd_le A (wt_up2 A r j x) := .of (fun i _ _ a b c => wt_up2_ne (fun z => by omega)) (fun k _ _ _ _ => wt_up2_row (by omega))
theorem rd_le.waits (M : wt_It) (v : Int32) : rd_le M (rd_waits M v) := (rd_le.up (Or.inr (Or.inr (Or.inl rfl)))).tr (rd_le.up (Or.inl ⟨rfl, by decide⟩))
theorem rd_le.puts (M : wt_It) (v : Int32) : rd_le M (rd_puts M v) := (rd_le.up (Or.inr (Or.inl rfl))).tr (rd_le.up (Or.inl ⟨rfl, by decide⟩))
theorem tk_di_all {b : Nat → Int32} {n : Nat} : ∀ f p j, p ≤ j → j < tk_di b n f p → tk_isD (tk_at b n j) := by
  intro f
  induction f with
  | zero => intro p j h1 h2; rw [tk_di] at h2; omega
  | succ f ih =>
    intro p j h1 h2
    rw [tk_di] at h2
    split at h2
    · rename_i c
      by_cases e : j = p
      · rw [e]; exact c
      · exact ih (p + 1) j (by omega) h2
    · omega
theorem tk_digit {c : Int32} (h : tk_isD c) : ∃ d, d < 10 ∧ c = nI (48 + d) := by
  have h48 : (48 : Int32) = nI 48 := rfl
  have h57 : (57 : Int32) = nI 57 := rfl
  unfold tk_isD at h
  rw [h48, h57] at h
  obtain ⟨q, h1, h2, rfl⟩ := sp_ix2 h (by decide) (by decide)
  exact ⟨q - 48, by omega, by rw [show 48 + (q - 48) = q by omega]⟩
theorem tk_vl_nat {b : Nat → Int32} {n q : Nat} : ∀ k, (∀ j, j < k → tk_isD (tk_at b n (q + j))) → ∃ v, v < 10 ^ (if k < 4 then k else 4) ∧ tk_vl b n q k = nI v := by
  intro k
  induction k with
  | zero => intro _; exact ⟨0, by decide, rfl⟩
  | succ k ih =>
    intro h
    obtain ⟨v, h1, h2⟩ := ih (fun j hj => h j (by omega))
    obtain ⟨d, h3, h4⟩ := tk_digit (h k (by omega))
    rw [tk_vl]
    by_cases c : k < 4
    · rw [if_pos c] at h1 ⊢
      refine ⟨10 * v + d, ?_, ?_⟩
      · rcases (by omega : k = 0 ∨ k = 1 ∨ k = 2 ∨ k = 3) with rfl | rfl | rfl | rfl <;> simp at h1 ⊢ <;> omega
      · rw [h2, h4, pk_mul, nI_add, pk_sub (by omega), show 10 * v + (48 + d) - 48 = 10 * v + d by omega]
    · rw [if_neg c]
      refine ⟨v, ?_, h2⟩
      rw [if_neg c] at h1
      rw [if_neg (by omega)]
      exact h1
theorem rd_go_v {M : wt_It} {n p : Nat} (h : rd_in M n p) : rd_vv (rd_go M).1 := by
  rw [rd_go_in h]
  unfold rd_goN rd_tok
  have hs := tk_sk_le (b := M 14) (n := n) (n - p) p (by have := h.2.1; omega)
  split
  · exact ⟨0, by decide, rfl⟩
  · split
    · exact ⟨0, by decide, rfl⟩
    · split
      · obtain ⟨v, h1, h2⟩ := tk_vl_nat (b := M 14) (n := n) (q := tk_sk (M 14) n (n - p) p) (tk_di (M 14) n (n - tk_sk (M 14) n (n - p) p) (tk_sk (M 14) n (n - p) p) - tk_sk (M 14) n (n - p) p) (fun j hj => tk_di_all (n - tk_sk (M 14) n (n - p) p) (tk_sk (M 14) n (n - p) p) _ (by omega) (by omega))
        refine ⟨v, ?_, h2⟩
        have : 10 ^ (if tk_di (M 14) n (n - tk_sk (M 14) n (n - p) p) (tk_sk (M 14) n (n - p) p) - tk_sk (M 14) n (n - p) p < 4 then tk_di (M 14) n (n - tk_sk (M 14) n (n - p) p) (tk_sk (M 14) n (n - p) p) - tk_sk (M 14) n (n - p) p else 4) ≤ 10 ^ 4 := Nat.pow_le_pow_right (by decide) (by split <;> omega)
        omega
      · exact ⟨0, by decide, rfl⟩
theorem rd_X.lego {M : wt_It} {n p q m t d : Nat} (h : rd_X M n p q m t d) : rd_le M (rd_go M).1 ∧ (¬ M 0 21 = 0 → nn (M 0 22) + 1 ≤ nn ((rd_go M).1 0 22)) := by
  obtain ⟨a, b, q', p', h1, h2, h3, h4, h5, h6⟩ := rd_go_f h.inn
  have hn := h.1
  have hqp := h.2.1
  have hpn := h.2.2.1
  have e22 := h.2.2.2.2.2.1
  have hlt := h.2.2.2.2.2.2.2.2.2.2
  refine ⟨⟨b 19 (by decide) (by decide) (by decide) (by decide) (by decide) (by decide), ?_, fun j h1 h2 => b j (by omega) (by omega) (by omega) (by omega) (by omega) (by omega), fun r h1 _ _ _ => a r h1, fun _ => rd_go_v h.inn⟩, fun hs => ?_⟩
  · rw [e22, h4, nn_nI (by omega), nn_nI (by omega)]; omega
  · have := hlt hs
    rw [e22, h4, nn_nI (by omega), nn_nI (by omega)]; omega
theorem rd_le.wrong (M : wt_It) (k : Int32) : rd_le M (sp_wrong M k) := .of (fun _ a b _ _ _ => sp_wrong_at a b) (fun _ a _ _ _ => sp_wrong_row a)
theorem rd_le.drops {M : wt_It} {n p q m t d : Nat} (h : rd_X M n p q m t d) (hb : t + m < 2 ^ 31) (least : Int32) : rd_le M (rd_drops M least) := by
  have ed : rd_drops M least = rd_dr least m M := by
    unfold rd_drops
    rw [h.2.2.2.2.2.2.1, nn_nI (by omega)]
  obtain ⟨a, b, -⟩ := rd_dr_f least m M t h.2.2.2.2.2.2.1 h.2.2.2.2.2.2.2.1 hb
  rw [ed]
  exact .of (fun j _ _ h1 h2 _ => b j h1 h2) (fun r h1 h2 _ _ => a r h1 h2)
theorem rd_ok.x {M : wt_It} (h : rd_ok M) : ∃ n p q m t d, rd_X M n p q m t d ∧ m ≤ p + 1 ∧ t + m ≤ 2 * p + 2 := by
  rcases h with ⟨-, h⟩ | ⟨-, h⟩
  · exact h.wk.fi
  · exact h
theorem rd_nots_le : ∀ (r : Nat) (M : wt_It) (w : Int64), rd_Rd M → rd_le M (rd_nots r M w).1 ∧ (rd_nots r M w).1 0 35 = M 0 35 := by
  intro r
  induction r with
  | zero =>
    intro M w hR
    rw [rd_nots]
    split
    · split
      · exact ⟨rd_le.wrong M _, sp_wrong_at (by decide) (by decide)⟩
      · exact ⟨rd_le.rf M, rfl⟩
    · exact ⟨rd_le.rf M, rfl⟩
  | succ r ih =>
    intro M w hR
    rw [rd_nots]
    split
    · split
      · rename_i hk
        have hW := hR.wait (sp_kw_sort hk (by decide)) (nI 3) (by decide)
        obtain ⟨n, p, q, m, t, d, hX, -⟩ := id hW
        obtain ⟨g1, g2⟩ := ih _ (rd_go (rd_waits M (nI 3))).2 hW.go
        exact ⟨(rd_le.waits M (nI 3)).tr (hX.lego.1.tr g1), g2.trans ((rd_go_f hX.inn).2.1 35 (by decide) (by decide) (by decide) (by decide) (by decide) (by decide))⟩
      · exact ⟨rd_le.rf M, rfl⟩
    · exact ⟨rd_le.rf M, rfl⟩
theorem rd_pn_le (b : Bool) (M : wt_It) (w : Int64) (hR : rd_Rd M) : rd_le M (rd_pn b M w).1 ∧ (rd_pn b M w).1 0 35 = M 0 35 := by
  unfold rd_pn
  split
  · exact rd_nots_le 6 M w hR
  · exact ⟨rd_le.rf M, rfl⟩
theorem rd_deep_le (M : wt_It) : rd_le M (rd_deep M) := by
  unfold rd_deep
  split
  · exact rd_le.wrong M _
  · exact (rd_le.up (Or.inl ⟨rfl, by decide⟩)).tr (rd_le.up (Or.inr (Or.inr (Or.inr rfl))))
theorem rd_opL_le : ∀ (f : Nat) (b : Bool) (M : wt_It) (w : Int64), rd_ok M → rd_le M (rd_opL f b M w).1 := by
  intro f
  induction f with
  | zero => intro b M w _; exact rd_le.rf M
  | succ f ih =>
    intro b M w h
    rw [rd_opL]
    split
    · rename_i hg
      have hR : rd_Rd M := h.elim (fun z => z.2) (fun z => absurd hg z.1)
      have hp := rd_pn_ok b M w hg hR
      have hl := (rd_pn_le b M w hR).1
      split
      · rename_i hg2
        have hR2 : rd_Rd (rd_pn b M w).1 := hp.elim (fun z => z.2) (fun z => absurd hg2 z.1)
        split
        · rename_i hs
          obtain ⟨d, -, -, -, hk, -⟩ := rd_open_ok hg2 hR2 hs.1
          obtain ⟨n, p, q, m, t, d, hX, h1, h2, h3⟩ := hR2
          have hXw := hX.waits (v := nI 14) (by have := hX.1; have := hX.2.1; have := hX.2.2.1; omega)
          exact hl.tr ((rd_le.waits (rd_pn b M w).1 (nI 14)).tr (hXw.lego.1.tr ((rd_deep_le _).tr (ih _ _ _ hk))))
        · exact hl
      · exact hl
    · exact rd_le.rf M
theorem rd_ifgo_le {M : wt_It} {w : Int64} {n p q m t d : Nat} (h : rd_X M n p q m t d) : rd_le M (rd_ifgo M w).1 := by
  unfold rd_ifgo
  split
  · exact h.lego.1
  · exact rd_le.rf M
theorem rd_part_le (M : wt_It) (w : Int64) (h : rd_ok M) : rd_le M (rd_part M w).1 := by
  obtain ⟨n, p, q, m, t, d, hX, h1, h2⟩ := h.x
  have hn := hX.1
  have hpn := hX.2.2.1
  have key : ∀ A : wt_It, (∃ t', rd_X A n p q m t' d) → rd_le M A → rd_le M (rd_ifgo A w).1 := by
    rintro A ⟨t', hA⟩ hl
    exact hl.tr (rd_ifgo_le hA)
  have two : ∀ (A : wt_It) (a b : Int32), rd_X A n p q m t d → rd_le M A → rd_le M (rd_ifgo (rd_puts (rd_puts A a) b) w).1 := fun A a b hA hl => key _ ⟨_, (hA.puts (by omega) a).puts (by omega) b⟩ (hl.tr ((rd_le.puts _ _).tr (rd_le.puts _ _)))
  unfold rd_part
  split
  · unfold rd_pt
    split
    · split
      · exact two M _ _ hX (rd_le.rf M)
      · exact two _ _ _ (hX.wrong _) (rd_le.wrong M _)
    · split
      · split
        · exact two _ _ _ (hX.wrong _) (rd_le.wrong M _)
        · split
          · exact two M _ _ hX (rd_le.rf M)
          · exact two _ _ _ (hX.wrong _) (rd_le.wrong M _)
      · exact key _ ⟨_, hX.wrong _⟩ (rd_le.wrong M _)
  · exact rd_le.rf M
theorem rd_operand_le (b : Bool) (M : wt_It) (w : Int64) (h : rd_ok M) : rd_le M (rd_operand b M w).1 := (rd_opL_le 8 b M w h).tr (rd_part_le _ _ (rd_opL_ok 8 b M w h))
def rd_tset (M : wt_It) (x : Int32) : wt_It := wt_up2 M 46 (nn (M 0 35)) x
def rd_cl0 (M : wt_It) : wt_It := wt_up2 (wt_up2 (rd_drops M (nI 0)) 0 34 (rd_drops M (nI 0) 0 34 - nI 1)) 0 35 (rd_drops M (nI 0) 0 35 - nI 1)
abbrev rd_sgn (M : wt_It) (c : Nat) : Prop := M 0 21 = 3 ∧ M 0 25 = nI c
def rd_s1 (M : wt_It) (ls act : Nat) : wt_It := rd_waits (rd_drops M (nI ls)) (nI act)
def rd_opg (b : Bool) (M : wt_It) : wt_It × Int64 := rd_operand b (rd_go M).1 (rd_go M).2
/-- one turn of an expression's loop; none: it is over -/
def rd_step (M : wt_It) (w : Int64) : Option (wt_It × Int64) :=
  if sp_kw M w = nI 15 then some (rd_opg true (rd_tset (rd_s1 M 2 4) (nI 0)))
  else if sp_kw M w = nI 16 then some (rd_opg true (rd_tset (rd_s1 M 1 5) (nI 0)))
  else if (rd_sgn M 60 ∨ rd_sgn M 61) ∧ M 46 (nn (M 0 35)) = 0 then some (rd_opg false (rd_tset (rd_s1 M 4 (if rd_sgn M 60 then 6 else 7)) (nI 1)))
  else if rd_sgn M 43 ∨ rd_sgn M 45 then some (rd_opg false (rd_s1 M 5 (if rd_sgn M 43 then 8 else 9)))
  else if rd_sgn M 42 ∨ rd_sgn M 47 then some (rd_opg false (rd_s1 M 6 (if rd_sgn M 42 then 10 else 11)))
  else if rd_sgn M 41 ∧ rd_op M (nn (M 0 34)) = true then some (rd_go (rd_cl0 M))
  else none
def rd_exL : Nat → wt_It → Int64 → wt_It × Int64
  | 0, M, w => (M, w)
  | f + 1, M, w => if M 0 16 = 0 then (match rd_step M w with
    | some s => rd_exL f s.1 s.2
    | none => (M, w)) else (M, w)
def rd_ex0 (M : wt_It) (w : Int64) : wt_It × Int64 := rd_exL 702 (rd_operand true (rd_deep (wt_up2 (wt_up2 M 0 34 (nI 0)) 0 35 (nI 0))) w).1 (rd_operand true (rd_deep (wt_up2 (wt_up2 M 0 34 (nI 0)) 0 35 (nI 0))) w).2
def rd_ex1 (M : wt_It) : wt_It := if M 0 16 = 0 then (if M 0 35 ≤ nI 1 then M else sp_wrong M (nI 1)) else M
def rd_expr (M : wt_It) (w : Int64) : wt_It × Int64 := if M 0 16 = 0 then (rd_puts (rd_drops (rd_ex1 (rd_ex0 M w).1) (nI 0)) (nI 0), (rd_ex0 M w).2) else (M, w)
/-- an operator that waits -/
theorem rd_s1_ok {M : wt_It} (hg : M 0 16 = 0) (hR : rd_Rd M) (hs : ¬ M 0 21 = 0) (ls act : Nat) (ha : act < 14) (A : wt_It) (hA0 : A 0 = rd_s1 M ls act 0) (hA45 : A 45 = rd_s1 M ls act 45) (hAl : rd_le (rd_s1 M ls act) A) : (rd_go A).1 0 16 = 0 ∧ rd_Rd (rd_go A).1 ∧ rd_le M (rd_go A).1 ∧ nn (M 0 22) + 1 ≤ nn ((rd_go A).1 0 22) := by
  obtain ⟨n, p, q, m, t, d, hX, h1, h2, h3⟩ := hR
  have hn := hX.1
  have hpn := hX.2.2.1
  have hqp := hX.2.2.2.2.2.2.2.2.2.2 hs
  obtain ⟨m', t', g1, g2, hXd, g3, g4, g5, -⟩ := hX.drops (by omega) (nI ls)
  have hXw := hXd.waits (v := nI act) (by omega)
  have hXA : rd_X A n p q (m' + 1) t' d := by
    obtain ⟨a, b, c, e⟩ := hXw
    refine ⟨a, b, c, ?_⟩
    rw [hA0]
    exact e
  have hc : rd_cnt A (m' + 1) < d := by
    rw [rd_cnt_row (M := rd_s1 M ls act) (m' + 1) (fun j _ => by rw [hA45])]
    unfold rd_s1
    rw [rd_waits_cnt hXd.2.2.2.2.2.2.1 (by omega), g3, if_neg (fun z => by
      have e14 : (14 : Int32) = nI 14 := rfl
      rw [e14] at z
      have := (nI_leI (by decide) (by omega)).mp z
      omega)]
    exact h3
  have hWA : rd_Wk A := ⟨n, p, q, m' + 1, t', d, hXA, by omega, by omega, hc⟩
  have e16 : A 0 16 = 0 := by
    rw [hA0]
    show rd_drops M (nI ls) 0 16 = 0
    rw [g4, hg]
  have e22 : A 0 22 = M 0 22 := by rw [hXA.2.2.2.2.2.1, hX.2.2.2.2.2.1]
  have e21 : A 0 21 = M 0 21 := by
    rw [hA0]
    show rd_drops M (nI ls) 0 21 = M 0 21
    have ed : rd_drops M (nI ls) = rd_dr (nI ls) m M := by
      unfold rd_drops
      rw [hX.2.2.2.2.2.2.1, nn_nI (by omega)]
    rw [ed]
    exact (rd_dr_f (nI ls) m M t hX.2.2.2.2.2.2.1 hX.2.2.2.2.2.2.2.1 (by omega)).2.1 21 (by decide) (by decide)
  have hl := hXA.lego
  refine ⟨(rd_go_16 hXA.inn).trans e16, hWA.go, ((rd_le.drops hX (by omega) (nI ls)).tr ((rd_le.waits _ _).tr hAl)).tr hl.1, ?_⟩
  rw [← e22]
  exact hl.2 (by rw [e21]; exact hs)
theorem rd_cl_ok {M : wt_It} (hg : M 0 16 = 0) (hR : rd_Rd M) (hs : ¬ M 0 21 = 0) (ho : rd_op M (nn (M 0 34)) = true) : (rd_go (rd_cl0 M)).1 0 16 = 0 ∧ rd_Rd (rd_go (rd_cl0 M)).1 ∧ rd_le M (rd_go (rd_cl0 M)).1 ∧ nn (M 0 22) + 1 ≤ nn ((rd_go (rd_cl0 M)).1 0 22) ∧ ∃ n p m d, rd_in (rd_cl0 M) n p ∧ rd_drops M (nI 0) 0 34 = nI (m + 1) ∧ rd_drops M (nI 0) 0 35 = nI (d + 1) ∧ m < 950 ∧ d < 8 := by
  obtain ⟨n, p, q, m, t, d, hX, h1, h2, h3⟩ := hR
  have hn := hX.1
  have hpn := hX.2.2.1
  have hqp := hX.2.2.2.2.2.2.2.2.2.2 hs
  have e34 := hX.2.2.2.2.2.2.1
  rw [e34, nn_nI (by omega)] at ho
  obtain ⟨m', t', g1, g2, hXd, g3, g4, g5, g6⟩ := hX.drops (by omega) (nI 0)
  obtain ⟨h4, h5⟩ := g6 (by decide) ho
  obtain ⟨k, rfl⟩ : ∃ k, m' = k + 1 := ⟨m' - 1, by omega⟩
  rw [Nat.add_sub_cancel] at h5
  obtain ⟨e, rfl⟩ : ∃ e, d = e + 1 := ⟨d - 1, by omega⟩
  have hd6 := hX.2.2.2.2.2.2.2.2.2.1
  have f34 := hXd.2.2.2.2.2.2.1
  have f35 := hXd.2.2.2.2.2.2.2.2.1
  have hXA : rd_X (rd_cl0 M) n p q k t' e := by
    obtain ⟨a1, a2, a3, e1, e2, e3, e4, e5, e6, a4, a5⟩ := hXd
    refine ⟨a1, a2, a3, e1, e2, e3, ?_, e5, ?_, by omega, a5⟩
    · show rd_drops M (nI 0) 0 34 - nI 1 = nI k
      rw [e4]; exact nI_pred k
    · show rd_drops M (nI 0) 0 35 - nI 1 = nI e
      rw [e6]; exact nI_pred e
  have hc : rd_cnt (rd_cl0 M) k < e := by
    rw [rd_cnt_row (M := rd_drops M (nI 0)) (M' := rd_cl0 M) k (fun j _ => by unfold rd_cl0; rw [wt_up2_row (by decide), wt_up2_row (by decide)])]
    rw [rd_cnt, if_pos h5] at g3
    omega
  have hWA : rd_Wk (rd_cl0 M) := ⟨n, p, q, k, t', e, hXA, by omega, by omega, hc⟩
  have e16 : rd_cl0 M 0 16 = 0 := by
    show rd_drops M (nI 0) 0 16 = 0
    rw [g4, hg]
  have e22 : rd_cl0 M 0 22 = M 0 22 := by rw [hXA.2.2.2.2.2.1, hX.2.2.2.2.2.1]
  have e21 : rd_cl0 M 0 21 = M 0 21 := by
    show rd_drops M (nI 0) 0 21 = M 0 21
    have ed : rd_drops M (nI 0) = rd_dr (nI 0) m M := by
      unfold rd_drops
      rw [e34, nn_nI (by omega)]
    rw [ed]
    exact (rd_dr_f (nI 0) m M t e34 hX.2.2.2.2.2.2.2.1 (by omega)).2.1 21 (by decide) (by decide)
  have hl := hXA.lego
  refine ⟨(rd_go_16 hXA.inn).trans e16, hWA.go, ((rd_le.drops hX (by omega) (nI 0)).tr ((rd_le.up (Or.inl ⟨rfl, by decide⟩)).tr (rd_le.up (Or.inl ⟨rfl, by decide⟩)))).tr hl.1, ?_, n, p, k, e, hXA.inn, f34, f35, by omega, by omega⟩
  rw [← e22]
  exact hl.2 (by rw [e21]; exact hs)
theorem rd_opg_ok (b : Bool) {M A : wt_It} (h1 : (rd_go A).1 0 16 = 0) (h2 : rd_Rd (rd_go A).1) (h3 : rd_le M (rd_go A).1) (h4 : nn (M 0 22) + 1 ≤ nn ((rd_go A).1 0 22)) : rd_ok (rd_opg b A).1 ∧ rd_le M (rd_opg b A).1 ∧ nn (M 0 22) + 1 ≤ nn ((rd_opg b A).1 0 22) := by
  have hk : rd_ok (rd_go A).1 := Or.inl ⟨h1, h2⟩
  have hl := rd_operand_le b (rd_go A).1 (rd_go A).2 hk
  exact ⟨rd_operand_ok b _ _ hk, h3.tr hl, Nat.le_trans h4 hl.2.1⟩
theorem rd_step_ok {M : wt_It} {w : Int64} {s : wt_It × Int64} (hg : M 0 16 = 0) (hR : rd_Rd M) (hs : rd_step M w = some s) : rd_ok s.1 ∧ rd_le M s.1 ∧ nn (M 0 22) + 1 ≤ nn (s.1 0 22) := by
  have key : ∀ (b : Bool) (ls act : Nat) (A : wt_It), ¬ M 0 21 = 0 → act < 14 → A 0 = rd_s1 M ls act 0 → A 45 = rd_s1 M ls act 45 → rd_le (rd_s1 M ls act) A → rd_ok (rd_opg b A).1 ∧ rd_le M (rd_opg b A).1 ∧ nn (M 0 22) + 1 ≤ nn ((rd_opg b A).1 0 22) := by
    intro b ls act A hs ha h0 h45 hl
    obtain ⟨a1, a2, a3, a4⟩ := rd_s1_ok hg hR hs ls act ha A h0 h45 hl
    exact rd_opg_ok b a1 a2 a3 a4
  have sg : ∀ c, rd_sgn M c → ¬ M 0 21 = 0 := fun c h => by rw [h.1]; decide
  unfold rd_step at hs
  split at hs
  · rename_i hk
    cases hs
    exact key true 2 4 _ (sp_kw_sort hk (by decide)) (by decide) (wt_up2_row (by decide)) (wt_up2_row (by decide)) (rd_le.up (Or.inr (Or.inr (Or.inr rfl))))
  · split at hs
    · rename_i hk
      cases hs
      exact key true 1 5 _ (sp_kw_sort hk (by decide)) (by decide) (wt_up2_row (by decide)) (wt_up2_row (by decide)) (rd_le.up (Or.inr (Or.inr (Or.inr rfl))))
    · split at hs
      · rename_i hk
        cases hs
        exact key false 4 _ _ (hk.1.elim (sg _) (sg _)) (by split <;> decide) (wt_up2_row (by decide)) (wt_up2_row (by decide)) (rd_le.up (Or.inr (Or.inr (Or.inr rfl))))
      · split at hs
        · rename_i hk
          cases hs
          exact key false 5 _ _ (hk.elim (sg _) (sg _)) (by split <;> decide) rfl rfl (rd_le.rf _)
        · split at hs
          · rename_i hk
            cases hs
            exact key false 6 _ _ (hk.elim (sg _) (sg _)) (by split <;> decide) rfl rfl (rd_le.rf _)
          · split at hs
            · rename_i hk
              cases hs
              obtain ⟨a1, a2, a3, a4, -⟩ := rd_cl_ok hg hR (sg _ hk.1) hk.2
              exact ⟨Or.inl ⟨a1, a2⟩, a3, a4⟩
            · cases hs
