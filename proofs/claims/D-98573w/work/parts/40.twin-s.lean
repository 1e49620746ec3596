/-! THE REFERENCE: operands, expressions: what they do to the memory, its bounds -/
set_option maxRecDepth 100000
def rd_cnt (M : wt_It) : Nat → Nat
  | 0 => 0
  | m + 1 => rd_cnt M m + (if 14 ≤ M 45 m then 1 else 0)
theorem rd_cnt_row {M M' : wt_It} : ∀ m, (∀ j, j < m → M' 45 j = M 45 j) → rd_cnt M' m = rd_cnt M m := by
  intro m
  induction m with
  | zero => intro _; rfl
  | succ m ih => intro h; rw [rd_cnt, rd_cnt, ih (fun j hj => h j (by omega)), h m (by omega)]
theorem rd_op_cnt {M : wt_It} : ∀ m, rd_op M m = true → 1 ≤ rd_cnt M m := by
  intro m
  induction m with
  | zero => intro h; cases h
  | succ m ih =>
    intro h
    rw [rd_op] at h
    rw [rd_cnt]
    split at h
    · rename_i c; rw [if_pos c]; omega
    · have := ih h; omega
/-- the token's place q, what follows from p on, m that wait, t in the code, depth d -/
def rd_X (M : wt_It) (n p q m t d : Nat) : Prop := n ≤ 700 ∧ q ≤ p ∧ p ≤ n ∧ M 0 19 = nI n ∧ M 0 20 = nI p ∧ M 0 22 = nI q ∧ M 0 34 = nI m ∧ M 0 33 = nI t ∧ M 0 35 = nI d ∧ d ≤ 6 ∧ (¬ M 0 21 = 0 → q < p)
theorem rd_X.inn {M : wt_It} {n p q m t d : Nat} (h : rd_X M n p q m t d) : rd_in M n p := ⟨h.1, h.2.2.1, h.2.2.2.1, h.2.2.2.2.1⟩
theorem rd_X.of {M M' : wt_It} {n p q m t d : Nat} (h : rd_X M n p q m t d) (e : ∀ j, j ≠ 16 → j ≠ 17 → M' 0 j = M 0 j) : rd_X M' n p q m t d := by
  obtain ⟨a, b, c, e1, e2, e3, e4, e5, e6, f, g⟩ := h
  exact ⟨a, b, c, (e _ (by decide) (by decide)).trans e1, (e _ (by decide) (by decide)).trans e2, (e _ (by decide) (by decide)).trans e3, (e _ (by decide) (by decide)).trans e4, (e _ (by decide) (by decide)).trans e5, (e _ (by decide) (by decide)).trans e6, f, fun z => g (fun y => z ((e _ (by decide) (by decide)).trans y))⟩
theorem rd_X.wrong {M : wt_It} {n p q m t d : Nat} (h : rd_X M n p q m t d) (k : Int32) : rd_X (sp_wrong M k) n p q m t d := h.of (fun _ h1 h2 => sp_wrong_at h1 h2)
theorem rd_X.puts {M : wt_It} {n p q m t d : Nat} (h : rd_X M n p q m t d) (ht : t < 2 ^ 31) (v : Int32) : rd_X (rd_puts M v) n p q m (t + 1) d := by
  obtain ⟨a, b, c, e1, e2, e3, e4, e5, e6, f, g⟩ := h
  refine ⟨a, b, c, e1, e2, e3, e4, ?_, e6, f, g⟩
  unfold rd_puts sp_puts
  rw [wt_up2_self, e5, nn_nI ht]
theorem rd_X.waits {M : wt_It} {n p q m t d : Nat} (h : rd_X M n p q m t d) (hm : m < 2 ^ 31) (v : Int32) : rd_X (rd_waits M v) n p q (m + 1) t d := by
  obtain ⟨a, b, c, e1, e2, e3, e4, e5, e6, f, g⟩ := h
  refine ⟨a, b, c, e1, e2, e3, ?_, e5, e6, f, g⟩
  unfold rd_waits sp_waitsFor
  rw [wt_up2_self, e4, nn_nI hm]
theorem rd_waits_45 {M : wt_It} {m : Nat} (e : M 0 34 = nI m) (hm : m < 2 ^ 31) (v : Int32) : ∀ j, rd_waits M v 45 j = if j = m then v else M 45 j := by
  intro j
  unfold rd_waits sp_waitsFor
  rw [wt_up2_row (by decide), e, nn_nI hm]
  by_cases h : j = m
  · rw [h, wt_up2_self, if_pos rfl]
  · rw [wt_up2_ne (fun z => h z.2), if_neg h]
theorem rd_waits_cnt {M : wt_It} {m : Nat} (e : M 0 34 = nI m) (hm : m < 2 ^ 31) (v : Int32) : rd_cnt (rd_waits M v) (m + 1) = rd_cnt M m + (if 14 ≤ v then 1 else 0) := by
  rw [rd_cnt, rd_cnt_row m (fun j hj => by rw [rd_waits_45 e hm, if_neg (by omega)]), rd_waits_45 e hm, if_pos rfl]
/-- what a token changes -/
theorem rd_tok_f {M : wt_It} {n q : Nat} (hq : q ≤ n) : (∀ r, r ≠ 0 → (rd_tok M n q).1 r = M r) ∧ (∀ j, j ≠ 20 → j ≠ 21 → j ≠ 22 → j ≠ 23 → j ≠ 24 → j ≠ 25 → (rd_tok M n q).1 0 j = M 0 j) ∧ (rd_tok M n q).1 0 22 = nI q ∧ ∃ p', q ≤ p' ∧ p' ≤ n ∧ (rd_tok M n q).1 0 20 = nI p' ∧ (¬ (rd_tok M n q).1 0 21 = 0 → q < p') := by
  have hT : ∀ (B : wt_It) (e : Nat) (so : Int32), (∀ r, r ≠ 0 → B r = M r) → (∀ j, j ≠ 20 → j ≠ 21 → j ≠ 22 → j ≠ 23 → j ≠ 24 → j ≠ 25 → B 0 j = M 0 j) → B 0 22 = nI q → q ≤ e → e ≤ n → (¬ so = 0 → q < e) → (∀ r, r ≠ 0 → rd_T B q e so r = M r) ∧ (∀ j, j ≠ 20 → j ≠ 21 → j ≠ 22 → j ≠ 23 → j ≠ 24 → j ≠ 25 → rd_T B q e so 0 j = M 0 j) ∧ rd_T B q e so 0 22 = nI q ∧ ∃ p', q ≤ p' ∧ p' ≤ n ∧ rd_T B q e so 0 20 = nI p' ∧ (¬ rd_T B q e so 0 21 = 0 → q < p') := by
    intro B e so h1 h2 h3 h4 h5 h6
    refine ⟨fun r hr => ?_, fun j a b c d e f => ?_, h3, e, h4, h5, rfl, h6⟩
    · unfold rd_T
      rw [wt_up2_row hr, wt_up2_row hr, wt_up2_row hr, h1 r hr]
    · unfold rd_T
      rw [wt_up2_ne (fun z => d z.2), wt_up2_ne (fun z => b z.2), wt_up2_ne (fun z => a z.2), h2 j a b c d e f]
  have hB1 : ∀ r, r ≠ 0 → rd_B M n q r = M r := fun r hr => by
    unfold rd_B
    rw [wt_up2_row hr, wt_up2_row hr, wt_up2_row hr, wt_up2_row hr]
  have hB2 : ∀ j, j ≠ 20 → j ≠ 21 → j ≠ 22 → j ≠ 23 → j ≠ 24 → j ≠ 25 → rd_B M n q 0 j = M 0 j := fun j a b c d e f => by
    unfold rd_B
    rw [wt_up2_ne (fun z => f z.2), wt_up2_ne (fun z => e z.2), wt_up2_ne (fun z => c z.2), wt_up2_ne (fun z => a z.2)]
  have hB3 : rd_B M n q 0 22 = nI q := rfl
  unfold rd_tok
  by_cases c1 : n ≤ q
  · rw [if_pos c1]
    exact hT _ q _ hB1 hB2 hB3 (Nat.le_refl _) hq (fun z => absurd rfl z)
  · rw [if_neg c1]
    by_cases c2 : tk_isL (tk_at (M 14) n q)
    · rw [if_pos c2]
      have hl := tk_le_le (b := M 14) (n := n) (n - q) q (by omega)
      refine hT _ (tk_le (M 14) n (n - q) q) _ hB1 hB2 hB3 hl.2 hl.1 (fun _ => ?_)
      obtain ⟨f, hf⟩ : ∃ f, n - q = f + 1 := ⟨n - q - 1, by omega⟩
      rw [hf, tk_le, if_pos c2]
      have := tk_le_le (b := M 14) (n := n) f (q + 1) (by omega)
      omega
    · rw [if_neg c2]
      by_cases c3 : tk_isD (tk_at (M 14) n q)
      · rw [if_pos c3]
        have hl := tk_di_le (b := M 14) (n := n) (n - q) q (by omega)
        refine hT _ (tk_di (M 14) n (n - q) q) _ (fun r hr => by rw [wt_up2_row hr]; exact hB1 r hr) (fun j a b c d e f => by rw [wt_up2_ne (fun z => e z.2)]; exact hB2 j a b c d e f) hB3 hl.2 hl.1 (fun _ => ?_)
        obtain ⟨f, hf⟩ : ∃ f, n - q = f + 1 := ⟨n - q - 1, by omega⟩
        rw [hf, tk_di, if_pos c3]
        have := tk_di_le (b := M 14) (n := n) f (q + 1) (by omega)
        omega
      · rw [if_neg c3]
        exact hT _ (q + 1) _ hB1 hB2 hB3 (by omega) (by omega) (fun _ => by omega)
theorem rd_go_f {M : wt_It} {n p : Nat} (h : rd_in M n p) : (∀ r, r ≠ 0 → (rd_go M).1 r = M r) ∧ (∀ j, j ≠ 20 → j ≠ 21 → j ≠ 22 → j ≠ 23 → j ≠ 24 → j ≠ 25 → (rd_go M).1 0 j = M 0 j) ∧ ∃ q' p', p ≤ q' ∧ q' ≤ p' ∧ p' ≤ n ∧ (rd_go M).1 0 22 = nI q' ∧ (rd_go M).1 0 20 = nI p' ∧ (¬ (rd_go M).1 0 21 = 0 → q' < p') := by
  rw [rd_go_in h]
  unfold rd_goN
  have hs := tk_sk_le (b := M 14) (n := n) (n - p) p (by have := h.2.1; omega)
  obtain ⟨a, b, c, p', d, e, f, g⟩ := rd_tok_f (M := M) (n := n) (q := tk_sk (M 14) n (n - p) p) hs.1
  exact ⟨a, b, tk_sk (M 14) n (n - p) p, p', hs.2, d, e, c, f, g⟩
theorem rd_X.go {M : wt_It} {n p q m t d : Nat} (h : rd_X M n p q m t d) : ∃ q' p', p ≤ q' ∧ rd_X (rd_go M).1 n p' q' m t d := by
  obtain ⟨a, b, q', p', h1, h2, h3, h4, h5, h6⟩ := rd_go_f h.inn
  obtain ⟨g1, g2, g3, e1, e2, e3, e4, e5, e6, g4, g5⟩ := h
  exact ⟨q', p', h1, g1, h2, h3, (b _ (by decide) (by decide) (by decide) (by decide) (by decide) (by decide)).trans e1, h5, h4, (b _ (by decide) (by decide) (by decide) (by decide) (by decide) (by decide)).trans e4, (b _ (by decide) (by decide) (by decide) (by decide) (by decide) (by decide)).trans e5, (b _ (by decide) (by decide) (by decide) (by decide) (by decide) (by decide)).trans e6, g4, h6⟩
theorem rd_go_16 {M : wt_It} {n p : Nat} (h : rd_in M n p) : (rd_go M).1 0 16 = M 0 16 := (rd_go_f h).2.1 16 (by decide) (by decide) (by decide) (by decide) (by decide) (by decide)
theorem rd_go_cnt {M : wt_It} {n p m : Nat} (h : rd_in M n p) : rd_cnt (rd_go M).1 m = rd_cnt M m := rd_cnt_row m (fun j _ => congrFun ((rd_go_f h).1 45 (by decide)) j)
/-- ready for a token; after one; after something wrong -/
def rd_Rd (M : wt_It) : Prop := ∃ n p q m t d, rd_X M n p q m t d ∧ m ≤ q ∧ t + m ≤ 2 * q ∧ rd_cnt M m < d
def rd_Wk (M : wt_It) : Prop := ∃ n p q m t d, rd_X M n p q m t d ∧ m ≤ p ∧ t + m ≤ 2 * p ∧ rd_cnt M m < d
def rd_Fi (M : wt_It) : Prop := ∃ n p q m t d, rd_X M n p q m t d ∧ m ≤ p + 1 ∧ t + m ≤ 2 * p + 2
theorem rd_Wk.go {M : wt_It} (h : rd_Wk M) : rd_Rd (rd_go M).1 := by
  obtain ⟨n, p, q, m, t, d, hX, h1, h2, h3⟩ := h
  obtain ⟨q', p', g1, g2⟩ := hX.go
  exact ⟨n, p', q', m, t, d, g2, by omega, by omega, by rw [rd_go_cnt hX.inn]; exact h3⟩
theorem rd_Rd.wk {M : wt_It} (h : rd_Rd M) : rd_Wk M := by
  obtain ⟨n, p, q, m, t, d, hX, h1, h2, h3⟩ := h
  have := hX.2.1
  exact ⟨n, p, q, m, t, d, hX, by omega, by omega, h3⟩
theorem rd_Wk.fi {M : wt_It} (h : rd_Wk M) : rd_Fi M := by
  obtain ⟨n, p, q, m, t, d, hX, h1, h2, h3⟩ := h
  exact ⟨n, p, q, m, t, d, hX, by omega, by omega⟩
theorem rd_Fi.wrong {M : wt_It} (h : rd_Fi M) (k : Int32) : rd_Fi (sp_wrong M k) := by
  obtain ⟨n, p, q, m, t, d, hX, h1, h2⟩ := h
  exact ⟨n, p, q, m, t, d, hX.wrong k, h1, h2⟩
/-- what drops leaves -/
theorem rd_dr_f (least : Int32) : ∀ (k : Nat) (A : wt_It) (t : Nat), A 0 34 = nI k → A 0 33 = nI t → t + k < 2 ^ 31 → (∀ r, r ≠ 0 → r ≠ 44 → rd_dr least k A r = A r) ∧ (∀ j, j ≠ 33 → j ≠ 34 → rd_dr least k A 0 j = A 0 j) ∧ ∃ k' t', k' ≤ k ∧ t' + k' = t + k ∧ rd_dr least k A 0 34 = nI k' ∧ rd_dr least k A 0 33 = nI t' ∧ rd_cnt A k' = rd_cnt A k ∧ (least ≤ 0 → rd_op A k = true → 1 ≤ k' ∧ 14 ≤ A 45 (k' - 1)) := by
  intro k
  induction k with
  | zero =>
    intro A t h34 h33 _
    exact ⟨fun _ _ _ => rfl, fun _ _ _ => rfl, 0, t, Nat.le_refl _, rfl, h34, h33, rfl, fun _ h => by cases h⟩
  | succ k ih =>
    intro A t h34 h33 hb
    rw [rd_dr]
    by_cases c1 : 14 ≤ A 45 k
    · rw [if_pos c1]
      exact ⟨fun _ _ _ => rfl, fun _ _ _ => rfl, k + 1, t, Nat.le_refl _, rfl, h34, h33, rfl, fun _ _ => ⟨by omega, by rw [Nat.add_sub_cancel]; exact c1⟩⟩
    · rw [if_neg c1]
      by_cases c2 : sp_strength (A 45 k) < least
      · rw [if_pos c2]
        refine ⟨fun _ _ _ => rfl, fun _ _ _ => rfl, k + 1, t, Nat.le_refl _, rfl, h34, h33, rfl, fun h0 _ => ?_⟩
        exfalso
        have h3 : ¬ sp_strength (A 45 k) < 0 := by
          unfold sp_strength
          repeat' split
          all_goals decide
        exact h3 (Int32.lt_of_lt_of_le c2 h0)
      · rw [if_neg c2]
        have e33 : wt_up2 A 0 34 (nI k) 0 33 = nI t := h33
        obtain ⟨a, b, k', t', h1, h2, h3, h4, h5, h6⟩ := ih (rd_puts (wt_up2 A 0 34 (nI k)) (A 45 k)) (t + 1) (by unfold rd_puts; rfl) (by unfold rd_puts sp_puts; rw [wt_up2_self, e33, nn_nI (by omega)]) (by omega)
        have e45 : rd_puts (wt_up2 A 0 34 (nI k)) (A 45 k) 45 = A 45 := by
          unfold rd_puts sp_puts
          rw [wt_up2_row (by decide), wt_up2_row (by decide), wt_up2_row (by decide)]
        have ec : ∀ j, rd_cnt (rd_puts (wt_up2 A 0 34 (nI k)) (A 45 k)) j = rd_cnt A j := fun j => rd_cnt_row j (fun i _ => congrFun e45 i)
        refine ⟨fun r hr1 hr2 => ?_, fun j hj1 hj2 => ?_, k', t', by omega, by omega, h3, h4, ?_, fun h0 hop => ?_⟩
        · rw [a r hr1 hr2]
          unfold rd_puts sp_puts
          rw [wt_up2_row hr1, wt_up2_row hr2, wt_up2_row hr1]
        · rw [b j hj1 hj2]
          unfold rd_puts sp_puts
          rw [wt_up2_ne (fun z => hj1 z.2), wt_up2_row (by decide), wt_up2_ne (fun z => hj2 z.2)]
        · rw [ec, ec] at h5
          rw [h5]
          rw [show rd_cnt A (k + 1) = rd_cnt A k + (if 14 ≤ A 45 k then 1 else 0) from rfl, if_neg c1]
          rfl
        · rw [rd_op, if_neg c1] at hop
          have eo : ∀ j, rd_op (rd_puts (wt_up2 A 0 34 (nI k)) (A 45 k)) j = rd_op A j := by
            intro j
            induction j with
            | zero => rfl
            | succ j ihj => rw [rd_op, rd_op, ihj, e45]
          have := h6 h0 (by rw [eo]; exact hop)
          rw [e45] at this
          exact this
theorem rd_X.drops {M : wt_It} {n p q m t d : Nat} (h : rd_X M n p q m t d) (hb : t + m < 2 ^ 31) (least : Int32) : ∃ m' t', m' ≤ m ∧ t' + m' = t + m ∧ rd_X (rd_drops M least) n p q m' t' d ∧ rd_cnt (rd_drops M least) m' = rd_cnt M m ∧ rd_drops M least 0 16 = M 0 16 ∧ rd_drops M least 46 = M 46 ∧ (least ≤ 0 → rd_op M m = true → 1 ≤ m' ∧ 14 ≤ rd_drops M least 45 (m' - 1)) := by
  obtain ⟨g1, g2, g3, e1, e2, e3, e4, e5, e6, g4, g5⟩ := h
  have ed : rd_drops M least = rd_dr least m M := by
    unfold rd_drops
    rw [e4, nn_nI (by omega)]
  obtain ⟨a, b, m', t', h1, h2, h3, h4, h5, h6⟩ := rd_dr_f least m M t e4 e5 hb
  rw [← ed] at a b h3 h4
  have b' := fun j hj1 hj2 => b j hj1 hj2
  refine ⟨m', t', h1, h2, ⟨g1, g2, g3, (b _ (by decide) (by decide)).trans e1, (b _ (by decide) (by decide)).trans e2, (b _ (by decide) (by decide)).trans e3, h3, h4, (b _ (by decide) (by decide)).trans e6, g4, fun z => g5 (fun y => z ((b _ (by decide) (by decide)).trans y))⟩, ?_, b _ (by decide) (by decide), a 46 (by decide) (by decide), fun h0 ho => ?_⟩
  · rw [rd_cnt_row m' (fun j _ => congrFun (a 45 (by decide) (by decide)) j), h5]
  · have := h6 h0 ho
    rw [a 45 (by decide) (by decide)]
    exact this
def rd_nots : Nat → wt_It → Int64 → wt_It × Int64
  | 0, M, w => if M 0 16 = 0 then (if sp_kw M w = nI 17 then (sp_wrong M (nI 2), w) else (M, w)) else (M, w)
  | r + 1, M, w => if M 0 16 = 0 then (if sp_kw M w = nI 17 then rd_nots r (rd_go (rd_waits M (nI 3))).1 (rd_go (rd_waits M (nI 3))).2 else (M, w)) else (M, w)
def rd_pn (b : Bool) (M : wt_It) (w : Int64) : wt_It × Int64 := if b = true then rd_nots 6 M w else (M, w)
def rd_opL : Nat → Bool → wt_It → Int64 → wt_It × Int64
  | 0, _, M, w => (M, w)
  | f + 1, b, M, w => if M 0 16 = 0 then (if (rd_pn b M w).1 0 16 = 0 then (if (rd_pn b M w).1 0 21 = 3 ∧ (rd_pn b M w).1 0 25 = nI 40 then rd_opL f true (rd_deep (rd_go (rd_waits (rd_pn b M w).1 (nI 14))).1) (rd_go (rd_waits (rd_pn b M w).1 (nI 14))).2 else rd_pn b M w) else rd_pn b M w) else (M, w)
def rd_operand (b : Bool) (M : wt_It) (w : Int64) : wt_It × Int64 := rd_part (rd_opL 8 b M w).1 (rd_opL 8 b M w).2
theorem sp_kw_sort {M : wt_It} {w : Int64} {k : Nat} (h : sp_kw M w = nI k) (hk : k < 2 ^ 31) : ¬ M 0 21 = 0 := by
  intro z
  unfold sp_kw at h
  rw [z, if_neg (by decide)] at h
  exact sp_nI_m1 hk h.symm
/-- a good state that is ready, or a wrong one -/
def rd_ok (M : wt_It) : Prop := (M 0 16 = 0 ∧ rd_Rd M) ∨ (¬ M 0 16 = 0 ∧ rd_Fi M)
/-- a token that waits, and the next token -/
theorem rd_Rd.wait {M : wt_It} (h : rd_Rd M) (hs : ¬ M 0 21 = 0) (v : Int32) (hv : ¬ 14 ≤ v) : rd_Wk (rd_waits M v) := by
  obtain ⟨n, p, q, m, t, d, hX, h1, h2, h3⟩ := h
  have hqp := hX.2.2.2.2.2.2.2.2.2.2 hs
  have hn := hX.1
  have hpn := hX.2.2.1
  exact ⟨n, p, q, m + 1, t, d, hX.waits (by omega) v, by omega, by omega, by rw [rd_waits_cnt hX.2.2.2.2.2.2.1 (by omega), if_neg hv]; exact h3⟩
theorem rd_nots_ok : ∀ (r : Nat) (M : wt_It) (w : Int64), M 0 16 = 0 → rd_Rd M → rd_ok (rd_nots r M w).1 := by
  intro r
  induction r with
  | zero =>
    intro M w hg hR
    rw [rd_nots, if_pos hg]
    split
    · exact Or.inr ⟨sp_wrong_bad (by decide), hR.wk.fi.wrong _⟩
    · exact Or.inl ⟨hg, hR⟩
  | succ r ih =>
    intro M w hg hR
    rw [rd_nots, if_pos hg]
    split
    · rename_i hk
      have hW := hR.wait (sp_kw_sort hk (by decide)) (nI 3) (by decide)
      obtain ⟨n, p, q, m, t, d, hX, -⟩ := id hW
      exact ih _ _ ((rd_go_16 hX.inn).trans hg) hW.go
    · exact Or.inl ⟨hg, hR⟩
theorem rd_pn_ok (b : Bool) (M : wt_It) (w : Int64) (hg : M 0 16 = 0) (hR : rd_Rd M) : rd_ok (rd_pn b M w).1 := by
  unfold rd_pn
  split
  · exact rd_nots_ok 6 M w hg hR
  · exact Or.inl ⟨hg, hR⟩
/-- a parenthesis that opens -/
theorem rd_open_ok {M : wt_It} (hg : M 0 16 = 0) (hR : rd_Rd M) (hs : M 0 21 = 3) : ∃ d, d ≤ 6 ∧ (rd_go (rd_waits M (nI 14))).1 0 35 = nI d ∧ M 0 35 = nI d ∧ rd_ok (rd_deep (rd_go (rd_waits M (nI 14))).1) ∧ (d < 6 → rd_deep (rd_go (rd_waits M (nI 14))).1 0 35 = nI (d + 1)) ∧ (d = 6 → ¬ rd_deep (rd_go (rd_waits M (nI 14))).1 0 16 = 0) := by
  obtain ⟨n, p, q, m, t, d, hX, h1, h2, h3⟩ := hR
  have hqp := hX.2.2.2.2.2.2.2.2.2.2 (by rw [hs]; decide)
  have hn := hX.1
  have hpn := hX.2.2.1
  have hd6 := hX.2.2.2.2.2.2.2.2.2.1
  have hXw := hX.waits (v := nI 14) (by omega)
  obtain ⟨q', p', g1, g2⟩ := hXw.go
  have hcnt : rd_cnt (rd_go (rd_waits M (nI 14))).1 (m + 1) = rd_cnt M m + 1 := by
    rw [rd_go_cnt hXw.inn, rd_waits_cnt hX.2.2.2.2.2.2.1 (by omega), if_pos (by decide)]
  have hg' : (rd_go (rd_waits M (nI 14))).1 0 16 = 0 := (rd_go_16 hXw.inn).trans hg
  refine ⟨d, hd6, g2.2.2.2.2.2.2.2.2.1, hX.2.2.2.2.2.2.2.2.1, ?_, fun h6 => ?_, fun h6 => ?_⟩
  · unfold rd_deep
    rw [g2.2.2.2.2.2.2.2.2.1]
    by_cases c : nI 6 ≤ nI d
    · rw [if_pos c]
      refine Or.inr ⟨sp_wrong_bad ?_, rd_Fi.wrong ⟨n, p', q', m + 1, t, d, g2, by have := g2.2.1; omega, by have := g2.2.1; omega⟩ _⟩
      repeat' split
      all_goals decide
    · rw [if_neg c, nI_add, nn_nI (by omega)]
      have c6 : d < 6 := by
        rcases Nat.lt_or_ge d 6 with h | h
        · exact h
        · exact absurd (nI_le h (by omega)) c
      obtain ⟨a1, a2, a3, e1, e2, e3, e4, e5, e6, a4, a5⟩ := g2
      refine Or.inl ⟨hg', n, p', q', m + 1, t, d + 1, ⟨a1, a2, a3, e1, e2, e3, e4, e5, rfl, by omega, a5⟩, by omega, by omega, ?_⟩
      rw [rd_cnt_row (M := (rd_go (rd_waits M (nI 14))).1) (M' := wt_up2 (wt_up2 (rd_go (rd_waits M (nI 14))).1 0 35 (nI (d + 1))) 46 (d + 1) (nI 0)) (m + 1) (fun j _ => rfl), hcnt]
      omega
  · unfold rd_deep
    rw [g2.2.2.2.2.2.2.2.2.1, if_neg (nI_ge h6 (by omega)), nI_add]
    rfl
  · unfold rd_deep
    rw [g2.2.2.2.2.2.2.2.2.1, if_pos (by rw [h6]; exact nI_le (Nat.le_refl _) (by decide))]
    refine sp_wrong_bad ?_
    repeat' split
    all_goals decide
theorem rd_opL_ok : ∀ (f : Nat) (b : Bool) (M : wt_It) (w : Int64), rd_ok M → rd_ok (rd_opL f b M w).1 := by
  intro f
  induction f with
  | zero => intro b M w h; exact h
  | succ f ih =>
    intro b M w h
    rw [rd_opL]
    split
    · rename_i hg
      have hR : rd_Rd M := h.elim (fun z => z.2) (fun z => absurd hg z.1)
      have hp := rd_pn_ok b M w hg hR
      split
      · rename_i hg2
        have hR2 : rd_Rd (rd_pn b M w).1 := hp.elim (fun z => z.2) (fun z => absurd hg2 z.1)
        split
        · rename_i hs
          obtain ⟨d, -, -, -, hk, -⟩ := rd_open_ok hg2 hR2 hs.1
          exact ih _ _ _ hk
        · exact hp
      · exact hp
    · exact h
theorem rd_ifgo_ok {M : wt_It} {w : Int64} (h : M 0 16 = 0 → rd_Wk M) (h2 : ¬ M 0 16 = 0 → rd_Fi M) : rd_ok (rd_ifgo M w).1 := by
  unfold rd_ifgo
  split
  · rename_i hg
    obtain ⟨n, p, q, m, t, d, hX, -⟩ := id (h hg)
    exact Or.inl ⟨(rd_go_16 hX.inn).trans hg, (h hg).go⟩
  · rename_i hg
    exact Or.inr ⟨hg, h2 hg⟩
theorem rd_puts_16 (M : wt_It) (v : Int32) : rd_puts M v 0 16 = M 0 16 := rfl
theorem rd_puts_cnt (M : wt_It) (v : Int32) (m : Nat) : rd_cnt (rd_puts M v) m = rd_cnt M m := rd_cnt_row m (fun _ _ => rfl)
theorem rd_part_ok (M : wt_It) (w : Int64) (h : rd_ok M) : rd_ok (rd_part M w).1 := by
  unfold rd_part
  split
  · rename_i hg
    have hR : rd_Rd M := h.elim (fun z => z.2) (fun z => absurd hg z.1)
    obtain ⟨n, p, q, m, t, d, hX, h1, h2, h3⟩ := hR
    have hn := hX.1
    have hpn := hX.2.2.1
    have hqp := hX.2.1
    have two : ∀ (A : wt_It) (a b : Int32), rd_X A n p q m t d → (A 0 16 = 0 → rd_cnt A m < d) → ¬ M 0 21 = 0 → rd_ok (rd_ifgo (rd_puts (rd_puts A a) b) w).1 := by
      intro A a b hA hc hs
      have hlt := hX.2.2.2.2.2.2.2.2.2.2 hs
      have hA2 := (hA.puts (by omega) a).puts (by omega) b
      exact rd_ifgo_ok (fun z => ⟨n, p, q, m, t + 1 + 1, d, hA2, by omega, by omega, by rw [rd_puts_cnt, rd_puts_cnt]; exact hc z⟩) (fun _ => ⟨n, p, q, m, t + 1 + 1, d, hA2, by omega, by omega⟩)
    have bad : ∀ k : Int32, ¬ k = 0 → sp_wrong M k 0 16 = 0 → rd_cnt (sp_wrong M k) m < d := fun k hk z => absurd z (sp_wrong_bad hk)
    unfold rd_pt
    split
    · rename_i c
      have hs : ¬ M 0 21 = 0 := by rw [c]; decide
      split
      · exact two M _ _ hX (fun _ => h3) hs
      · exact two _ _ _ (hX.wrong _) (bad _ (by decide)) hs
    · split
      · rename_i c
        have hs : ¬ M 0 21 = 0 := by rw [c]; decide
        split
        · exact two _ _ _ (hX.wrong _) (bad _ (by decide)) hs
        · split
          · exact two M _ _ hX (fun _ => h3) hs
          · exact two _ _ _ (hX.wrong _) (bad _ (by decide)) hs
      · exact rd_ifgo_ok (fun z => absurd z (sp_wrong_bad (by decide))) (fun _ => ⟨n, p, q, m, t, d, hX.wrong _, by omega, by omega⟩)
  · exact h
theorem rd_operand_ok (b : Bool) (M : wt_It) (w : Int64) (h : rd_ok M) : rd_ok (rd_operand b M w).1 := rd_part_ok _ _ (rd_opL_ok 8 b M w h)
