/-! THE REFERENCE: straps, years -/
set_option maxRecDepth 100000
def sp_fr (c : Nat → Bool) : Nat → Int32
  | 0 => -1
  | i + 1 => if c i = true then nI i else sp_fr c i
theorem sp_fr_or (c : Nat → Bool) : ∀ n, sp_fr c n = -1 ∨ ∃ i, i < n ∧ sp_fr c n = nI i := by
  intro n
  induction n with
  | zero => exact Or.inl rfl
  | succ n ih =>
    rw [sp_fr]
    split
    · exact Or.inr ⟨n, by omega, rfl⟩
    · rcases ih with h | ⟨i, h1, h2⟩
      · exact Or.inl h
      · exact Or.inr ⟨i, by omega, h2⟩
def sp_onc (M : wt_It) (p o i : Nat) : Bool := decide (M 10 (8 * o + i) = M 11 (4 * p)) && decide (M 11 (4 * p + 2) ≤ M 55 (8 * o + i))
def sp_m1 : Nat → Int32
  | 0 => -1
  | n + 1 => nI n
theorem sp_m1_dec : ∀ n, nI n + (-1) = sp_m1 n
  | 0 => by decide
  | n + 1 => pk_m1 n
def sp_rm (h : Nat → Int32) (o : Nat) (many : Int32) : Nat → Nat → Bool
  | 0, _ => true
  | n + 1, i => if many ≤ h (8 * o + i) then false else sp_rm h o many n (i + 1)
def sp_h1 : Option (Nat × Nat) → Int32
  | none => -1
  | some q => nI q.1
def sp_h2 : Option (Nat × Nat) → Int32
  | none => -1
  | some q => nI q.2
/-- one may get off at the stop j of the owl o -/
def sp_ht (M : wt_It) (p : Nat) (many : Int32) (o j : Nat) : Bool := decide (M 10 (8 * o + j) = M 11 (4 * p + 1)) && (decide (M 54 (8 * o + j) ≤ M 0 6) && (decide (sp_fr (sp_onc M p o) j ≠ -1) && sp_rm (M 66) o many (j - nn (sp_fr (sp_onc M p o) j)) (nn (sp_fr (sp_onc M p o) j))))
def sp_hb (M : wt_It) (o j : Nat) : Option (Nat × Nat) → Option (Nat × Nat)
  | none => some (o, j)
  | some q => if M 54 (8 * q.1 + q.2) ≤ M 54 (8 * o + j) then some q else some (o, j)
def sp_hj (M : wt_It) (p : Nat) (many : Int32) (o : Nat) : Nat → Nat → Option (Nat × Nat) → Option (Nat × Nat)
  | 0, _, s => s
  | n + 1, j, s => sp_hj M p many o n (j + 1) (if sp_ht M p many o j = true then sp_hb M o j s else s)
def sp_ho (M : wt_It) (p : Nat) (many : Int32) : Nat → Nat → Option (Nat × Nat) → Option (Nat × Nat)
  | 0, _, s => s
  | n + 1, o, s => sp_ho M p many n (o + 1) (if sp_nb M o = true then s else sp_hj M p many o (nn (M 9 o) - 1) 1 s)
def sp_hg (o : Nat) : Nat → Nat → wt_It → wt_It
  | 0, _, M => M
  | n + 1, i, M => sp_hg o n (i + 1) (wt_up2 M 66 (8 * o + i) (M 66 (8 * o + i) + nI 1))
def sp_hf (M : wt_It) (p : Nat) : Option (Nat × Nat) → Bool × wt_It
  | none => (false, M)
  | some q => (true, sp_hg q.1 (q.2 - nn (sp_fr (sp_onc M p q.1) q.2)) (nn (sp_fr (sp_onc M p q.1) q.2)) M)
def sp_hs (M : wt_It) (p : Nat) (many : Int32) : Bool × wt_It := sp_hf M p (sp_ho M p many (nn (M 0 3)) 0 none)
def sp_st1 (M : wt_It) (p : Nat) (many : Int32) : Bool × wt_It := if M 11 (4 * p) = M 11 (4 * p + 1) then (decide (M 11 (4 * p + 2) ≤ M 0 6), M) else sp_hs M p many
def sp_stL (many : Int32) : Nat → Nat → Int32 → wt_It → Int32 × wt_It
  | 0, _, c, M => (c, M)
  | n + 1, p, c, M => sp_stL many n (p + 1) (c + sp_i (sp_st1 M p many).1) (sp_st1 M p many).2
def sp_stv (N : wt_It) (many : Int32) : Int32 := (sp_stL many (nn (N 0 4)) 0 (nI 0) (sp_fill (sp_night N) 66 40 (fun _ => nI 0))).1
theorem sp_hg_row (o : Nat) : ∀ (n i : Nat) (M : wt_It) (k : Nat), k ≠ 66 → sp_hg o n i M k = M k := by
  intro n
  induction n with
  | zero => intro i M k _; rfl
  | succ n ih => intro i M k hk; rw [sp_hg, ih _ _ _ hk, wt_up2_row hk]
theorem sp_st1_row (M : wt_It) (p : Nat) (many : Int32) (k : Nat) (hk : k ≠ 66) : (sp_st1 M p many).2 k = M k := by
  unfold sp_st1
  split
  · rfl
  · unfold sp_hs
    cases sp_ho M p many (nn (M 0 3)) 0 none with
    | none => rfl
    | some q => exact sp_hg_row _ _ _ _ _ hk
theorem sp_stL_row (many : Int32) : ∀ (n p : Nat) (c : Int32) (M : wt_It) (k : Nat), k ≠ 66 → (sp_stL many n p c M).2 k = M k := by
  intro n
  induction n with
  | zero => intro p c M k _; rfl
  | succ n ih => intro p c M k hk; rw [sp_stL, ih _ _ _ _ hk, sp_st1_row _ _ _ _ hk]
/-- a place to get off that stands -/
def sp_hw (M : wt_It) (p ow : Nat) : Option (Nat × Nat) → Prop
  | none => True
  | some q => q.1 < ow ∧ q.2 < 8 ∧ ∃ i, i < q.2 ∧ sp_fr (sp_onc M p q.1) q.2 = nI i
theorem sp_hb_hw {M : wt_It} {p ow o j : Nat} {s : Option (Nat × Nat)} (h : sp_hw M p ow s) (ho : o < ow) (hj : j < 8) (hf : ∃ i, i < j ∧ sp_fr (sp_onc M p o) j = nI i) : sp_hw M p ow (sp_hb M o j s) := by
  cases s with
  | none => exact ⟨ho, hj, hf⟩
  | some q =>
    show sp_hw M p ow (if M 54 (8 * q.1 + q.2) ≤ M 54 (8 * o + j) then some q else some (o, j))
    by_cases c : M 54 (8 * q.1 + q.2) ≤ M 54 (8 * o + j)
    · rw [if_pos c]
      exact h
    · rw [if_neg c]
      exact ⟨ho, hj, hf⟩
theorem sp_i0 {i : Nat} (h : nI i = 0) (hi : i < 2 ^ 31) : i = 0 := (nI_eq (b := 0) hi (by decide)).mp h
theorem sp_i0' {i : Nat} (h : ¬ nI i = 0) : ¬ i = 0 := fun e => h (by rw [e]; rfl)
section TO
variable {l : Launch} {G : wt_G} {Z : Heap → Prop} {T : tw_T} {M N : wt_It} {w : Int64}
theorem ct_onFor (hE : tw_E G T) (p o j : Nat) (hp : p < 8) (ho : o < 5) (hj1 : 1 ≤ j) (hj : j < 8) : wt_Ct l G yX3_onFor cX3_onFor 5 (some .int) 1 0 0 [.ref T.1, .int (nI p), .int (nI o), .int (nI j)] (tw_Z G T M w) (wt_fn (sp_fr (sp_onc M p o) j) (tw_Z G T M w)) := by
  refine wt_enter [some (.ref T.1), some (.int (nI p)), some (.int (nI o)), some (.int (nI j)), none] (by decide +kernel) rfl (Nat.le_of_ble_eq_true rfl) (fun X hc hok => ?_)
  have loop : ∀ n : Nat, n < 8 → sp_fr (sp_onc M p o) j = sp_fr (sp_onc M p o) n → wt_V G X 5 [some (.ref T.1), some (.int (nI p)), some (.int (nI o)), some (.int (nI j)), some (.int (sp_m1 n))] [] (tw_Z G T M w) 0 0 := by
    intro n
    induction n with
    | zero =>
      intro _ hv
      refine wt_iload_4 (pc := 5) hc dX3_onFor_5 ?_
      refine wt_if_lt (pc := 7) 67 hc dX3_onFor_7 (by decide) (fun c_7 => ?_) (fun c_7 => ?_)
      · refine wt_iconst (pc := 67) (v := (-1 : Int32)) hc dX3_onFor_67 (by decide) ?_
        exact wt_iret (pc := 68) hc hok dX3_onFor_68 (rfl) (fun H hZ => ⟨by rw [hv]; rfl, hZ⟩)
      · exact absurd (by decide) c_7
    | succ n ih =>
      intro hn hv
      conv at hv => rhs; rw [sp_fr]
      have nxt := ih (by omega)
      show wt_V G X 5 [some (.ref T.1), some (.int (nI p)), some (.int (nI o)), some (.int (nI j)), some (.int (nI n))] [] (tw_Z G T M w) 0 0
      refine wt_iload_4 (pc := 5) hc dX3_onFor_5 ?_
      refine wt_if_lt (pc := 7) 67 hc dX3_onFor_7 (by decide) (fun c_7 => ?_) (fun c_7 => ?_)
      · exact absurd c_7 (Int32.not_lt.mpr (nI_pos' (by omega)))
      · refine wt_aload_0 (pc := 10) hc dX3_onFor_10 ?_
        refine tw_geta (pc := 11) 10 hc hE dX3_onFor_11 q1614 (by decide) (by decide) (fun _ _ _ => rfl) rfl ?_
        refine wt_bipush (pc := 14) (v := nI 8) hc dX3_onFor_14 (by decide) ?_
        refine wt_iload_2 (pc := 16) hc dX3_onFor_16 ?_
        refine wt_imul (pc := 17) hc dX3_onFor_17 ?_
        rw [pk_mul 8 o]
        refine wt_iload_4 (pc := 18) hc dX3_onFor_18 ?_
        refine wt_iadd (pc := 20) hc dX3_onFor_20 ?_
        rw [nI_add (8 * o) n]
        refine tw_iald (pc := 21) (k := 10) (8 * o + n) _ hc hE dX3_onFor_21 rfl (rfl) (by show _ < 40; omega) (by decide) (rfl) ?_
        refine wt_aload_0 (pc := 22) hc dX3_onFor_22 ?_
        refine tw_geta (pc := 23) 11 hc hE dX3_onFor_23 q1615 (by decide) (by decide) (fun _ _ _ => rfl) rfl ?_
        refine wt_iconst (pc := 26) (v := nI 4) hc dX3_onFor_26 (by decide) ?_
        refine wt_iload_1 (pc := 27) hc dX3_onFor_27 ?_
        refine wt_imul (pc := 28) hc dX3_onFor_28 ?_
        rw [pk_mul 4 p]
        refine tw_iald (pc := 29) (k := 11) (4 * p) _ hc hE dX3_onFor_29 rfl (rfl) (by show _ < 32; omega) (by decide) (rfl) ?_
        refine wt_icmp_ne (pc := 30) 61 hc dX3_onFor_30 (by decide) (fun c_30 => ?_) (fun c_30 => ?_)
        · refine wt_iinc_4 (pc := 61) (v := sp_m1 n) hc dX3_onFor_61 (sp_m1_dec n) rfl ?_
          refine wt_goto (pc := 64) 5 hc dX3_onFor_64 (by decide) ?_
          first | (rw [if_neg (by unfold sp_onc; rw [decide_eq_false c_30, Bool.false_and]; decide)] at hv; exact nxt hv) | (rw [if_neg (by unfold sp_onc; rw [decide_eq_false (Int32.not_le.mpr c_55), Bool.and_false]; decide)] at hv; exact nxt hv)
        · refine wt_aload_0 (pc := 33) hc dX3_onFor_33 ?_
          refine tw_geta (pc := 34) 11 hc hE dX3_onFor_34 q1615 (by decide) (by decide) (fun _ _ _ => rfl) rfl ?_
          refine wt_iconst (pc := 37) (v := nI 4) hc dX3_onFor_37 (by decide) ?_
          refine wt_iload_1 (pc := 38) hc dX3_onFor_38 ?_
          refine wt_imul (pc := 39) hc dX3_onFor_39 ?_
          rw [pk_mul 4 p]
          refine wt_iconst (pc := 40) (v := nI 2) hc dX3_onFor_40 (by decide) ?_
          refine wt_iadd (pc := 41) hc dX3_onFor_41 ?_
          rw [nI_add (4 * p) 2]
          refine tw_iald (pc := 42) (k := 11) (4 * p + 2) _ hc hE dX3_onFor_42 rfl (rfl) (by show _ < 32; omega) (by decide) (rfl) ?_
          refine wt_aload_0 (pc := 43) hc dX3_onFor_43 ?_
          refine tw_geta (pc := 44) 55 hc hE dX3_onFor_44 q1659 (by decide) (by decide) (fun _ _ _ => rfl) rfl ?_
          refine wt_bipush (pc := 47) (v := nI 8) hc dX3_onFor_47 (by decide) ?_
          refine wt_iload_2 (pc := 49) hc dX3_onFor_49 ?_
          refine wt_imul (pc := 50) hc dX3_onFor_50 ?_
          rw [pk_mul 8 o]
          refine wt_iload_4 (pc := 51) hc dX3_onFor_51 ?_
          refine wt_iadd (pc := 53) hc dX3_onFor_53 ?_
          rw [nI_add (8 * o) n]
          refine tw_iald (pc := 54) (k := 55) (8 * o + n) _ hc hE dX3_onFor_54 rfl (rfl) (by show _ < 40; omega) (by decide) (rfl) ?_
          refine wt_icmp_gt (pc := 55) 61 hc dX3_onFor_55 (by decide) (fun c_55 => ?_) (fun c_55 => ?_)
          · refine wt_iinc_4 (pc := 61) (v := sp_m1 n) hc dX3_onFor_61 (sp_m1_dec n) rfl ?_
            refine wt_goto (pc := 64) 5 hc dX3_onFor_64 (by decide) ?_
            first | (rw [if_neg (by unfold sp_onc; rw [decide_eq_false c_30, Bool.false_and]; decide)] at hv; exact nxt hv) | (rw [if_neg (by unfold sp_onc; rw [decide_eq_false (Int32.not_le.mpr c_55), Bool.and_false]; decide)] at hv; exact nxt hv)
          · refine wt_iload_4 (pc := 58) hc dX3_onFor_58 ?_
            exact wt_iret (pc := 60) hc hok dX3_onFor_60 (rfl) (fun H hZ => ⟨by rw [hv, if_pos (by unfold sp_onc; rw [decide_eq_true c_30, Bool.true_and, decide_eq_true (Int32.not_lt.mp c_55)])], hZ⟩)
  obtain ⟨z, rfl⟩ : ∃ z, j = z + 1 := ⟨j - 1, by omega⟩
  refine wt_iload_3 (pc := 0) hc dX3_onFor_0 ?_
  refine wt_iconst (pc := 1) (v := nI 1) hc dX3_onFor_1 (by decide) ?_
  refine wt_isub (pc := 2) hc dX3_onFor_2 ?_
  rw [show nI (z + 1) - nI 1 = nI z from nI_pred z]
  refine wt_istore_4 (pc := 3) hc dX3_onFor_3 rfl ?_
  exact loop (z + 1) (by omega) rfl
theorem ct_isRoom (hE : tw_E G T) (o a b : Nat) (many : Int32) (ho : o < 5) (hab : a ≤ b) (hb : b ≤ 8) : wt_Ct l G yX3_isRoom cX3_isRoom 6 (some .boolean) 1 0 0 [.ref T.1, .int (nI o), .int (nI a), .int (nI b), .int many] (tw_Z G T M w) (wt_fn (sp_i (sp_rm (M 66) o many (b - a) a)) (tw_Z G T M w)) := by
  refine wt_enter [some (.ref T.1), some (.int (nI o)), some (.int (nI a)), some (.int (nI b)), some (.int many), none] (by decide +kernel) rfl (Nat.le_of_ble_eq_true rfl) (fun X hc hok => ?_)
  have loop : ∀ n i : Nat, i + n = b → sp_rm (M 66) o many (b - a) a = sp_rm (M 66) o many n i → wt_V G X 3 [some (.ref T.1), some (.int (nI o)), some (.int (nI a)), some (.int (nI b)), some (.int many), some (.int (nI i))] [] (tw_Z G T M w) 0 0 := by
    intro n
    induction n with
    | zero =>
      intro i hi hv
      refine wt_iload_5 (pc := 3) hc dX3_isRoom_3 ?_
      refine wt_iload_3 (pc := 5) hc dX3_isRoom_5 ?_
      refine wt_nicmp_ge (pc := 6) 34 (i) (b) hc dX3_isRoom_6 (by decide) (by omega) (by omega) (fun c_6 => ?_) (fun c_6 => ?_)
      · refine wt_iconst (pc := 34) (v := nI 1) hc dX3_isRoom_34 (by decide) ?_
        exact wt_iret (pc := 35) hc hok dX3_isRoom_35 (rfl) (fun H hZ => ⟨by rw [hv]; rfl, hZ⟩)
      · omega
    | succ n ih =>
      intro i hi hv
      conv at hv => rhs; rw [sp_rm]
      refine wt_iload_5 (pc := 3) hc dX3_isRoom_3 ?_
      refine wt_iload_3 (pc := 5) hc dX3_isRoom_5 ?_
      refine wt_nicmp_ge (pc := 6) 34 (i) (b) hc dX3_isRoom_6 (by decide) (by omega) (by omega) (fun c_6 => ?_) (fun c_6 => ?_)
      · omega
      · refine wt_aload_0 (pc := 9) hc dX3_isRoom_9 ?_
        refine tw_geta (pc := 10) 66 hc hE dX3_isRoom_10 q1670 (by decide) (by decide) (fun _ _ _ => rfl) rfl ?_
        refine wt_bipush (pc := 13) (v := nI 8) hc dX3_isRoom_13 (by decide) ?_
        refine wt_iload_1 (pc := 15) hc dX3_isRoom_15 ?_
        refine wt_imul (pc := 16) hc dX3_isRoom_16 ?_
        rw [pk_mul 8 o]
        refine wt_iload_5 (pc := 17) hc dX3_isRoom_17 ?_
        refine wt_iadd (pc := 19) hc dX3_isRoom_19 ?_
        rw [nI_add (8 * o) i]
        refine tw_iald (pc := 20) (k := 66) (8 * o + i) _ hc hE dX3_isRoom_20 rfl (rfl) (by show _ < 40; omega) (by decide) (rfl) ?_
        refine wt_iload_4 (pc := 21) hc dX3_isRoom_21 ?_
        refine wt_icmp_lt (pc := 23) 28 hc dX3_isRoom_23 (by decide) (fun c_23 => ?_) (fun c_23 => ?_)
        · refine wt_iinc_5 (pc := 28) (v := nI (i + 1)) hc dX3_isRoom_28 (nI_add i 1) rfl ?_
          refine wt_goto (pc := 31) 3 hc dX3_isRoom_31 (by decide) ?_
          rw [if_neg (Int32.not_le.mpr c_23)] at hv; exact ih (i + 1) (by omega) hv
        · refine wt_iconst (pc := 26) (v := nI 0) hc dX3_isRoom_26 (by decide) ?_
          exact wt_iret (pc := 27) hc hok dX3_isRoom_27 (rfl) (fun H hZ => ⟨by rw [hv, if_pos (Int32.not_lt.mp c_23)]; rfl, hZ⟩)
  refine wt_iload_2 (pc := 0) hc dX3_isRoom_0 ?_
  refine wt_istore_5 (pc := 1) hc dX3_isRoom_1 rfl ?_
  exact loop (b - a) a (by omega) rfl
theorem ct_hangs (hE : tw_E G T) (ro ow ri p : Nat) (hC : sp_cty M ro ow ri) (hp : p < ri) (many : Int32) : wt_Ct l G yX3_hangs cX3_hangs 8 (some .boolean) 2 0 0 [.ref T.1, .int (nI p), .int many] (tw_Z G T M w) (wt_fn (sp_i (sp_hs M p many).1) (tw_Z G T (sp_hs M p many).2 w)) := by
  have how := hC.2.1
  have hri := hC.2.2.1
  have ev : sp_hs M p many = sp_hf M p (sp_ho M p many ow 0 none) := by
    unfold sp_hs
    rw [hC.2.2.2.2.1, nn_nI (by omega)]
  rw [ev]
  refine wt_enter [some (.ref T.1), some (.int (nI p)), some (.int many), none, none, none, none, none] (by decide +kernel) rfl (Nat.le_of_ble_eq_true rfl) (fun X hc hok => ?_)
  have fin : ∀ s, sp_hw M p ow s → sp_ho M p many ow 0 none = s → wt_V G X 171 [some (.ref T.1), some (.int (nI p)), some (.int many), some (.int (sp_h1 s)), some (.int (sp_h2 s)), none, none, none] [] (tw_Z G T M w) 0 0 := by
    intro s hs es
    rw [es] at hok
    cases s with
    | none =>
      refine wt_iload_3 (pc := 171) hc dX3_hangs_171 ?_
      refine wt_iconst (pc := 172) (v := (-1 : Int32)) hc dX3_hangs_172 (by decide) ?_
      refine wt_icmp_ne (pc := 173) 178 hc dX3_hangs_173 (by decide) (fun c_173 => ?_) (fun c_173 => ?_)
      · exact absurd rfl c_173
      · refine wt_iconst (pc := 176) (v := nI 0) hc dX3_hangs_176 (by decide) ?_
        exact wt_iret (pc := 177) hc hok dX3_hangs_177 (rfl) (fun H hZ => ⟨rfl, hZ⟩)
    | some q =>
      obtain ⟨b, c⟩ := q
      obtain ⟨hb, hc8, i, hi, ei⟩ := hs
      have ef : sp_hf M p (some (b, c)) = (true, sp_hg b (c - i) i M) := by
        show (true, sp_hg b (c - nn (sp_fr (sp_onc M p b) c)) (nn (sp_fr (sp_onc M p b) c)) M) = _
        rw [show sp_fr (sp_onc M p b) c = nI i from ei, nn_nI (by omega)]
      rw [ef] at hok
      have hl : ∀ (n j : Nat) (M' : wt_It), j + n = c → sp_hg b (c - i) i M = sp_hg b n j M' → wt_V G X 188 [some (.ref T.1), some (.int (nI p)), some (.int many), some (.int (nI b)), some (.int (nI c)), some (.int (nI j)), none, none] [] (tw_Z G T M' w) 0 0 := by
        intro n
        induction n with
        | zero =>
          intro j M' hj hv
          refine wt_iload_5 (pc := 188) hc dX3_hangs_188 ?_
          refine wt_iload_4 (pc := 190) hc dX3_hangs_190 ?_
          refine wt_nicmp_ge (pc := 192) 217 (j) (c) hc dX3_hangs_192 (by decide) (by omega) (by omega) (fun c_192 => ?_) (fun c_192 => ?_)
          · refine wt_iconst (pc := 217) (v := nI 1) hc dX3_hangs_217 (by decide) ?_
            exact wt_iret (pc := 218) hc hok dX3_hangs_218 (rfl) (fun H hZ => ⟨rfl, by rw [hv]; exact hZ⟩)
          · omega
        | succ n ih =>
          intro j M' hj hv
          conv at hv => rhs; rw [sp_hg]
          refine wt_iload_5 (pc := 188) hc dX3_hangs_188 ?_
          refine wt_iload_4 (pc := 190) hc dX3_hangs_190 ?_
          refine wt_nicmp_ge (pc := 192) 217 (j) (c) hc dX3_hangs_192 (by decide) (by omega) (by omega) (fun c_192 => ?_) (fun c_192 => ?_)
          · omega
          · refine wt_aload_0 (pc := 195) hc dX3_hangs_195 ?_
            refine tw_geta (pc := 196) 66 hc hE dX3_hangs_196 q1670 (by decide) (by decide) (fun _ _ _ => rfl) rfl ?_
            refine wt_bipush (pc := 199) (v := nI 8) hc dX3_hangs_199 (by decide) ?_
            refine wt_iload_3 (pc := 201) hc dX3_hangs_201 ?_
            refine wt_imul (pc := 202) hc dX3_hangs_202 ?_
            rw [pk_mul 8 b]
            refine wt_iload_5 (pc := 203) hc dX3_hangs_203 ?_
            refine wt_iadd (pc := 205) hc dX3_hangs_205 ?_
            rw [nI_add (8 * b) j]
            refine wt_dup2 (pc := 206) hc dX3_hangs_206 rfl rfl ?_
            refine tw_iald (pc := 207) (k := 66) (8 * b + j) _ hc hE dX3_hangs_207 rfl (rfl) (by show _ < 40; omega) (by decide) (rfl) ?_
            refine wt_iconst (pc := 208) (v := nI 1) hc dX3_hangs_208 (by decide) ?_
            refine wt_iadd (pc := 209) hc dX3_hangs_209 ?_
            refine tw_iast (pc := 210) (k := 66) (8 * b + j) hc hE dX3_hangs_210 rfl (rfl) (by show _ < 40; omega) (by decide) ?_
            refine wt_iinc_5 (pc := 211) (v := nI (j + 1)) hc dX3_hangs_211 (nI_add j 1) rfl ?_
            refine wt_goto (pc := 214) 188 hc dX3_hangs_214 (by decide) ?_
            exact ih (j + 1) _ (by omega) hv
      show wt_V G X 171 [some (.ref T.1), some (.int (nI p)), some (.int many), some (.int (nI b)), some (.int (nI c)), none, none, none] [] (tw_Z G T M w) 0 0
      refine wt_iload_3 (pc := 171) hc dX3_hangs_171 ?_
      refine wt_iconst (pc := 172) (v := (-1 : Int32)) hc dX3_hangs_172 (by decide) ?_
      refine wt_icmp_ne (pc := 173) 178 hc dX3_hangs_173 (by decide) (fun c_173 => ?_) (fun c_173 => ?_)
      · refine wt_aload_0 (pc := 178) hc dX3_hangs_178 ?_
        refine wt_iload_1 (pc := 179) hc dX3_hangs_179 ?_
        refine wt_iload_3 (pc := 180) hc dX3_hangs_180 ?_
        refine wt_iload_4 (pc := 181) hc dX3_hangs_181 ?_
        refine wt_gofn (tw_inv (pc := 183) 3 hc hE (ct_onFor hE p b c (by omega) (by omega) (by omega) (by exact hc8)) dX3_hangs_183 rfl q2174 q2176 qs103 q116 q2177 (by decide +kernel) rfl (by decide) (by decide) (Nat.le_of_ble_eq_true rfl) rfl) ?_
        rw [show sp_fr (sp_onc M p b) c = nI i from ei]
        refine wt_istore_5 (pc := 186) hc dX3_hangs_186 rfl ?_
        exact wt_drop (hl (c - i) i M (by omega) rfl) ⟨rfl, rfl, rfl, rfl, rfl, rfl, trivial⟩
      · exact absurd c_173 (sp_nI_m1 (by omega))
  have jl : ∀ (o wl : Nat), o < ow → sp_way M o wl → sp_nb M o = false → ∀ (n j : Nat) (s : Option (Nat × Nat)), 1 ≤ j → j + n = wl → sp_hw M p ow s → (∀ s', sp_hw M p ow s' → sp_hj M p many o n j s = s' → wt_V G X 165 [some (.ref T.1), some (.int (nI p)), some (.int many), some (.int (sp_h1 s')), some (.int (sp_h2 s')), some (.int (nI o)), none, none] [] (tw_Z G T M w) 0 0) → wt_V G X 20 [some (.ref T.1), some (.int (nI p)), some (.int many), some (.int (sp_h1 s)), some (.int (sp_h2 s)), some (.int (nI o)), some (.int (nI j)), none] [] (tw_Z G T M w) 0 0 := by
    intro o wl ho hw hnb n
    induction n with
    | zero =>
      intro j s hj1 hj hs hend
      have hwl := hw.1
      refine wt_iload_6 (pc := 20) hc dX3_hangs_20 ?_
      refine wt_aload_0 (pc := 22) hc dX3_hangs_22 ?_
      refine tw_geta (pc := 23) 9 hc hE dX3_hangs_23 q1613 (by decide) (by decide) (fun _ _ _ => rfl) rfl ?_
      refine wt_iload_5 (pc := 26) hc dX3_hangs_26 ?_
      refine tw_iald (pc := 28) (k := 9) (o) (nI wl) hc hE dX3_hangs_28 rfl (rfl) (by show _ < 5; omega) (by decide) (hw.2.1) ?_
      refine wt_nicmp_ge (pc := 29) 165 (j) (wl) hc dX3_hangs_29 (by decide) (by omega) (by omega) (fun c_29 => ?_) (fun c_29 => ?_)
      · exact wt_drop (hend s hs rfl) ⟨rfl, rfl, rfl, rfl, rfl, rfl, trivial⟩
      · omega
    | succ n ih =>
      intro j s hj1 hj hs hend
      have hwl := hw.1
      obtain ⟨r, hr, er⟩ := hw.2.2 j (by omega)
      have skip : sp_ht M p many o j = false → wt_V G X 159 [some (.ref T.1), some (.int (nI p)), some (.int many), some (.int (sp_h1 s)), some (.int (sp_h2 s)), some (.int (nI o)), some (.int (nI j)), none] [] (tw_Z G T M w) 0 0 := by
        intro hf
        refine wt_iinc_6 (pc := 159) (v := nI (j + 1)) hc dX3_hangs_159 (nI_add j 1) rfl ?_
        refine wt_goto (pc := 162) 20 hc dX3_hangs_162 (by decide) ?_
        refine ih (j + 1) s (by omega) (by omega) hs (fun s' h1 h2 => hend s' h1 ?_)
        rw [sp_hj, hf, if_neg (by decide)]
        exact h2
      have room : ∀ i, i < j → sp_fr (sp_onc M p o) j = nI i → M 10 (8 * o + j) = M 11 (4 * p + 1) → M 54 (8 * o + j) ≤ M 0 6 → wt_V G X 99 [some (.ref T.1), some (.int (nI p)), some (.int many), some (.int (sp_h1 s)), some (.int (sp_h2 s)), some (.int (nI o)), some (.int (nI j)), some (.int (nI i))] [] (tw_Z G T M w) 0 0 := by
        intro i hi ei h1 h2
        have et : sp_ht M p many o j = sp_rm (M 66) o many (j - i) i := by
          unfold sp_ht
          rw [decide_eq_true h1, decide_eq_true h2, ei, nn_nI (by omega), decide_eq_true (sp_nI_m1 (by omega)), Bool.true_and, Bool.true_and, Bool.true_and]
        refine wt_aload_0 (pc := 99) hc dX3_hangs_99 ?_
        refine wt_iload_5 (pc := 100) hc dX3_hangs_100 ?_
        refine wt_iload_7 (pc := 102) hc dX3_hangs_102 ?_
        refine wt_iload_6 (pc := 104) hc dX3_hangs_104 ?_
        refine wt_iload_2 (pc := 106) hc dX3_hangs_106 ?_
        refine wt_gofn (tw_inv (pc := 107) 4 hc hE (ct_isRoom hE o i j many (by omega) (by omega) (by omega)) dX3_hangs_107 rfl q2178 q2180 qs104 q116 q2181 (by decide +kernel) rfl (by decide) (by decide) (Nat.le_of_ble_eq_true rfl) rfl) ?_
        rw [← et]
        cases hv : sp_ht M p many o j with
        | false =>
          refine wt_if_ne (pc := 110) 116 hc dX3_hangs_110 (by decide) (fun z => absurd z (by decide)) (fun _ => ?_)
          refine wt_goto (pc := 113) 159 hc dX3_hangs_113 (by decide) ?_
          exact wt_drop (skip hv) ⟨rfl, rfl, rfl, rfl, rfl, rfl, rfl, trivial⟩
        | true =>
          have done : wt_V G X 159 [some (.ref T.1), some (.int (nI p)), some (.int many), some (.int (sp_h1 (sp_hb M o j s))), some (.int (sp_h2 (sp_hb M o j s))), some (.int (nI o)), some (.int (nI j)), none] [] (tw_Z G T M w) 0 0 := by
            refine wt_iinc_6 (pc := 159) (v := nI (j + 1)) hc dX3_hangs_159 (nI_add j 1) rfl ?_
            refine wt_goto (pc := 162) 20 hc dX3_hangs_162 (by decide) ?_
            refine ih (j + 1) (sp_hb M o j s) (by omega) (by omega) (sp_hb_hw hs ho (by omega) ⟨i, hi, ei⟩) (fun s' h1 h2 => hend s' h1 ?_)
            rw [sp_hj, hv, if_pos rfl]
            exact h2
          cases s with
          | none =>
            refine wt_if_ne (pc := 110) 116 hc dX3_hangs_110 (by decide) (fun _ => ?_) (fun z => absurd z (by decide))
            refine wt_iload_3 (pc := 116) hc dX3_hangs_116 ?_
            refine wt_iconst (pc := 117) (v := (-1 : Int32)) hc dX3_hangs_117 (by decide) ?_
            refine wt_icmp_eq (pc := 118) 152 hc dX3_hangs_118 (by decide) (fun c_118 => ?_) (fun c_118 => ?_)
            · refine wt_iload_5 (pc := 152) hc dX3_hangs_152 ?_
              refine wt_istore_3 (pc := 154) hc dX3_hangs_154 rfl ?_
              refine wt_iload_6 (pc := 155) hc dX3_hangs_155 ?_
              refine wt_istore_4 (pc := 157) hc dX3_hangs_157 rfl ?_
              exact wt_drop done ⟨rfl, rfl, rfl, rfl, rfl, rfl, rfl, trivial⟩
            · exact absurd rfl c_118
          | some q =>
            obtain ⟨b, c⟩ := q
            obtain ⟨hb, hc8, -⟩ := hs
            have hc8' : c < 8 := hc8
            have hb' : b < ow := hb
            have eb : sp_hb M o j (some (b, c)) = if M 54 (8 * b + c) ≤ M 54 (8 * o + j) then some (b, c) else some (o, j) := rfl
            show wt_V G X 110 [some (.ref T.1), some (.int (nI p)), some (.int many), some (.int (nI b)), some (.int (nI c)), some (.int (nI o)), some (.int (nI j)), some (.int (nI i))] [.int (nI 1)] (tw_Z G T M w) 0 0
            refine wt_if_ne (pc := 110) 116 hc dX3_hangs_110 (by decide) (fun _ => ?_) (fun z => absurd z (by decide))
            refine wt_iload_3 (pc := 116) hc dX3_hangs_116 ?_
            refine wt_iconst (pc := 117) (v := (-1 : Int32)) hc dX3_hangs_117 (by decide) ?_
            refine wt_icmp_eq (pc := 118) 152 hc dX3_hangs_118 (by decide) (fun c_118 => ?_) (fun c_118 => ?_)
            · exact absurd c_118 (sp_nI_m1 (by omega))
            · refine wt_aload_0 (pc := 121) hc dX3_hangs_121 ?_
              refine tw_geta (pc := 122) 54 hc hE dX3_hangs_122 q1658 (by decide) (by decide) (fun _ _ _ => rfl) rfl ?_
              refine wt_bipush (pc := 125) (v := nI 8) hc dX3_hangs_125 (by decide) ?_
              refine wt_iload_5 (pc := 127) hc dX3_hangs_127 ?_
              refine wt_imul (pc := 129) hc dX3_hangs_129 ?_
              rw [pk_mul 8 o]
              refine wt_iload_6 (pc := 130) hc dX3_hangs_130 ?_
              refine wt_iadd (pc := 132) hc dX3_hangs_132 ?_
              rw [nI_add (8 * o) j]
              refine tw_iald (pc := 133) (k := 54) (8 * o + j) _ hc hE dX3_hangs_133 rfl (rfl) (by show _ < 40; omega) (by decide) (rfl) ?_
              refine wt_aload_0 (pc := 134) hc dX3_hangs_134 ?_
              refine tw_geta (pc := 135) 54 hc hE dX3_hangs_135 q1658 (by decide) (by decide) (fun _ _ _ => rfl) rfl ?_
              refine wt_bipush (pc := 138) (v := nI 8) hc dX3_hangs_138 (by decide) ?_
              refine wt_iload_3 (pc := 140) hc dX3_hangs_140 ?_
              refine wt_imul (pc := 141) hc dX3_hangs_141 ?_
              rw [pk_mul 8 b]
              refine wt_iload_4 (pc := 142) hc dX3_hangs_142 ?_
              refine wt_iadd (pc := 144) hc dX3_hangs_144 ?_
              rw [nI_add (8 * b) c]
              refine tw_iald (pc := 145) (k := 54) (8 * b + c) _ hc hE dX3_hangs_145 rfl (rfl) (by show _ < 40; omega) (by decide) (rfl) ?_
              refine wt_icmp_lt (pc := 146) 152 hc dX3_hangs_146 (by decide) (fun c_146 => ?_) (fun c_146 => ?_)
              · rw [if_neg (Int32.not_le.mpr c_146)] at eb
                rw [eb] at done
                refine wt_iload_5 (pc := 152) hc dX3_hangs_152 ?_
                refine wt_istore_3 (pc := 154) hc dX3_hangs_154 rfl ?_
                refine wt_iload_6 (pc := 155) hc dX3_hangs_155 ?_
                refine wt_istore_4 (pc := 157) hc dX3_hangs_157 rfl ?_
                exact wt_drop done ⟨rfl, rfl, rfl, rfl, rfl, rfl, rfl, trivial⟩
              · rw [if_pos (Int32.not_lt.mp c_146)] at eb
                rw [eb] at done
                refine wt_goto (pc := 149) 159 hc dX3_hangs_149 (by decide) ?_
                exact wt_drop done ⟨rfl, rfl, rfl, rfl, rfl, rfl, rfl, trivial⟩
      refine wt_iload_6 (pc := 20) hc dX3_hangs_20 ?_
      refine wt_aload_0 (pc := 22) hc dX3_hangs_22 ?_
      refine tw_geta (pc := 23) 9 hc hE dX3_hangs_23 q1613 (by decide) (by decide) (fun _ _ _ => rfl) rfl ?_
      refine wt_iload_5 (pc := 26) hc dX3_hangs_26 ?_
      refine tw_iald (pc := 28) (k := 9) (o) (nI wl) hc hE dX3_hangs_28 rfl (rfl) (by show _ < 5; omega) (by decide) (hw.2.1) ?_
      refine wt_nicmp_ge (pc := 29) 165 (j) (wl) hc dX3_hangs_29 (by decide) (by omega) (by omega) (fun c_29 => ?_) (fun c_29 => ?_)
      · omega
      · refine wt_aload_0 (pc := 32) hc dX3_hangs_32 ?_
        refine wt_iload_5 (pc := 33) hc dX3_hangs_33 ?_
        refine wt_gofn (tw_inv (pc := 35) 1 hc hE (ct_nests hE _) dX3_hangs_35 rfl q1997 q1999 qs82 q116 q2000 (by decide +kernel) rfl (by decide) (by decide) (Nat.le_of_ble_eq_true rfl) rfl) ?_
        refine wt_if_ne (pc := 38) 165 hc dX3_hangs_38 (by decide) (fun c_38 => ?_) (fun c_38 => ?_)
        · exact absurd (sp_b_n0 c_38) (of_decide_eq_false hnb)
        · refine wt_aload_0 (pc := 41) hc dX3_hangs_41 ?_
          refine wt_iload_1 (pc := 42) hc dX3_hangs_42 ?_
          refine wt_iload_5 (pc := 43) hc dX3_hangs_43 ?_
          refine wt_iload_6 (pc := 45) hc dX3_hangs_45 ?_
          refine wt_gofn (tw_inv (pc := 47) 3 hc hE (ct_onFor hE p o j (by omega) (by omega) hj1 (by omega)) dX3_hangs_47 rfl q2174 q2176 qs103 q116 q2177 (by decide +kernel) rfl (by decide) (by decide) (Nat.le_of_ble_eq_true rfl) rfl) ?_
          refine wt_istore_7 (pc := 50) hc dX3_hangs_50 rfl ?_
          refine wt_aload_0 (pc := 52) hc dX3_hangs_52 ?_
          refine tw_geta (pc := 53) 10 hc hE dX3_hangs_53 q1614 (by decide) (by decide) (fun _ _ _ => rfl) rfl ?_
          refine wt_bipush (pc := 56) (v := nI 8) hc dX3_hangs_56 (by decide) ?_
          refine wt_iload_5 (pc := 58) hc dX3_hangs_58 ?_
          refine wt_imul (pc := 60) hc dX3_hangs_60 ?_
          rw [pk_mul 8 o]
          refine wt_iload_6 (pc := 61) hc dX3_hangs_61 ?_
          refine wt_iadd (pc := 63) hc dX3_hangs_63 ?_
          rw [nI_add (8 * o) j]
          refine tw_iald (pc := 64) (k := 10) (8 * o + j) _ hc hE dX3_hangs_64 rfl (rfl) (by show _ < 40; omega) (by decide) (rfl) ?_
          refine wt_aload_0 (pc := 65) hc dX3_hangs_65 ?_
          refine wt_iload_1 (pc := 66) hc dX3_hangs_66 ?_
          refine wt_gofn (tw_inv (pc := 67) 1 hc hE (ct_homeOf hE p (by omega)) dX3_hangs_67 rfl q2032 q2034 qs90 q116 q2035 (by decide +kernel) rfl (by decide) (by decide) (Nat.le_of_ble_eq_true rfl) rfl) ?_
          refine wt_icmp_ne (pc := 70) 159 hc dX3_hangs_70 (by decide) (fun c_70 => ?_) (fun c_70 => ?_)
          · exact wt_drop (skip (by unfold sp_ht; rw [decide_eq_false c_70, Bool.false_and])) ⟨rfl, rfl, rfl, rfl, rfl, rfl, rfl, trivial⟩
          · refine wt_aload_0 (pc := 73) hc dX3_hangs_73 ?_
            refine tw_geta (pc := 74) 54 hc hE dX3_hangs_74 q1658 (by decide) (by decide) (fun _ _ _ => rfl) rfl ?_
            refine wt_bipush (pc := 77) (v := nI 8) hc dX3_hangs_77 (by decide) ?_
            refine wt_iload_5 (pc := 79) hc dX3_hangs_79 ?_
            refine wt_imul (pc := 81) hc dX3_hangs_81 ?_
            rw [pk_mul 8 o]
            refine wt_iload_6 (pc := 82) hc dX3_hangs_82 ?_
            refine wt_iadd (pc := 84) hc dX3_hangs_84 ?_
            rw [nI_add (8 * o) j]
            refine tw_iald (pc := 85) (k := 54) (8 * o + j) _ hc hE dX3_hangs_85 rfl (rfl) (by show _ < 40; omega) (by decide) (rfl) ?_
            refine wt_aload_0 (pc := 86) hc dX3_hangs_86 ?_
            refine tw_get (pc := 87) 6 _ hc hE dX3_hangs_87 q1610 (by decide) (fun _ _ _ => rfl) rfl (rfl) ?_
            refine wt_icmp_gt (pc := 90) 159 hc dX3_hangs_90 (by decide) (fun c_90 => ?_) (fun c_90 => ?_)
            · exact wt_drop (skip (by unfold sp_ht; rw [decide_eq_false (Int32.not_le.mpr c_90), Bool.false_and, Bool.and_false])) ⟨rfl, rfl, rfl, rfl, rfl, rfl, rfl, trivial⟩
            · refine wt_iload_7 (pc := 93) hc dX3_hangs_93 ?_
              refine wt_iconst (pc := 95) (v := (-1 : Int32)) hc dX3_hangs_95 (by decide) ?_
              refine wt_icmp_eq (pc := 96) 159 hc dX3_hangs_96 (by decide) (fun c_96 => ?_) (fun c_96 => ?_)
              · exact wt_drop (skip (by unfold sp_ht; rw [show decide (sp_fr (sp_onc M p o) j ≠ -1) = false from decide_eq_false (fun z => z c_96), Bool.false_and, Bool.and_false, Bool.and_false])) ⟨rfl, rfl, rfl, rfl, rfl, rfl, rfl, trivial⟩
              · rcases sp_fr_or (sp_onc M p o) j with h | ⟨i, hi, ei⟩
                · exact absurd h c_96
                · have := room i hi ei c_70 (Int32.not_lt.mp c_90)
                  rw [ei]
                  exact this
  have ol : ∀ (n o : Nat) (s : Option (Nat × Nat)), o + n = ow → sp_hw M p ow s → sp_ho M p many ow 0 none = sp_ho M p many n o s → wt_V G X 8 [some (.ref T.1), some (.int (nI p)), some (.int many), some (.int (sp_h1 s)), some (.int (sp_h2 s)), some (.int (nI o)), none, none] [] (tw_Z G T M w) 0 0 := by
    intro n
    induction n with
    | zero =>
      intro o s ho hs hv
      have e : o = ow := by omega
      subst e
      refine wt_iload_5 (pc := 8) hc dX3_hangs_8 ?_
      refine wt_aload_0 (pc := 10) hc dX3_hangs_10 ?_
      refine tw_get (pc := 11) 3 (nI o) hc hE dX3_hangs_11 q1607 (by decide) (fun _ _ _ => rfl) rfl (hC.2.2.2.2.1) ?_
      refine wt_nicmp_ge (pc := 14) 171 (o) (o) hc dX3_hangs_14 (by decide) (by omega) (by omega) (fun c_14 => ?_) (fun c_14 => ?_)
      · exact wt_drop (fin s hs hv) ⟨rfl, rfl, rfl, rfl, rfl, trivial⟩
      · omega
    | succ n ih =>
      intro o s ho hs hv
      obtain ⟨wl, hw⟩ := hC.2.2.2.2.2.2.1 o (by omega)
      have hwl := hw.1
      conv at hv => rhs; rw [sp_ho]
      rw [hw.2.1, nn_nI (by omega)] at hv
      have nxt : ∀ s', sp_hw M p ow s' → sp_ho M p many ow 0 none = sp_ho M p many n (o + 1) s' → wt_V G X 165 [some (.ref T.1), some (.int (nI p)), some (.int many), some (.int (sp_h1 s')), some (.int (sp_h2 s')), some (.int (nI o)), none, none] [] (tw_Z G T M w) 0 0 := by
        intro s' h1 h2
        refine wt_iinc_5 (pc := 165) (v := nI (o + 1)) hc dX3_hangs_165 (nI_add o 1) rfl ?_
        refine wt_goto (pc := 168) 8 hc dX3_hangs_168 (by decide) ?_
        exact ih (o + 1) s' (by omega) h1 h2
      refine wt_iload_5 (pc := 8) hc dX3_hangs_8 ?_
      refine wt_aload_0 (pc := 10) hc dX3_hangs_10 ?_
      refine tw_get (pc := 11) 3 (nI ow) hc hE dX3_hangs_11 q1607 (by decide) (fun _ _ _ => rfl) rfl (hC.2.2.2.2.1) ?_
      refine wt_nicmp_ge (pc := 14) 171 (o) (ow) hc dX3_hangs_14 (by decide) (by omega) (by omega) (fun c_14 => ?_) (fun c_14 => ?_)
      · omega
      · refine wt_iconst (pc := 17) (v := nI 1) hc dX3_hangs_17 (by decide) ?_
        refine wt_istore_6 (pc := 18) hc dX3_hangs_18 rfl ?_
        cases hnb : sp_nb M o with
        | true =>
          rw [hnb, if_pos rfl] at hv
          refine wt_iload_6 (pc := 20) hc dX3_hangs_20 ?_
          refine wt_aload_0 (pc := 22) hc dX3_hangs_22 ?_
          refine tw_geta (pc := 23) 9 hc hE dX3_hangs_23 q1613 (by decide) (by decide) (fun _ _ _ => rfl) rfl ?_
          refine wt_iload_5 (pc := 26) hc dX3_hangs_26 ?_
          refine tw_iald (pc := 28) (k := 9) (o) (nI wl) hc hE dX3_hangs_28 rfl (rfl) (by show _ < 5; omega) (by decide) (hw.2.1) ?_
          refine wt_nicmp_ge (pc := 29) 165 (1) (wl) hc dX3_hangs_29 (by decide) (by omega) (by omega) (fun c_29 => ?_) (fun c_29 => ?_)
          · exact wt_drop (nxt s hs hv) ⟨rfl, rfl, rfl, rfl, rfl, rfl, trivial⟩
          · refine wt_aload_0 (pc := 32) hc dX3_hangs_32 ?_
            refine wt_iload_5 (pc := 33) hc dX3_hangs_33 ?_
            refine wt_gofn (tw_inv (pc := 35) 1 hc hE (ct_nests hE _) dX3_hangs_35 rfl q1997 q1999 qs82 q116 q2000 (by decide +kernel) rfl (by decide) (by decide) (Nat.le_of_ble_eq_true rfl) rfl) ?_
            refine wt_if_ne (pc := 38) 165 hc dX3_hangs_38 (by decide) (fun c_38 => ?_) (fun c_38 => ?_)
            · exact wt_drop (nxt s hs hv) ⟨rfl, rfl, rfl, rfl, rfl, rfl, trivial⟩
            · exact absurd (of_decide_eq_true hnb) (sp_b_0.mp c_38)
        | false =>
          rw [hnb, if_neg (by decide)] at hv
          rcases Nat.lt_or_ge wl 1 with h1 | h1
          · have e : wl = 0 := by omega
            subst e
            refine wt_iload_6 (pc := 20) hc dX3_hangs_20 ?_
            refine wt_aload_0 (pc := 22) hc dX3_hangs_22 ?_
            refine tw_geta (pc := 23) 9 hc hE dX3_hangs_23 q1613 (by decide) (by decide) (fun _ _ _ => rfl) rfl ?_
            refine wt_iload_5 (pc := 26) hc dX3_hangs_26 ?_
            refine tw_iald (pc := 28) (k := 9) (o) (nI 0) hc hE dX3_hangs_28 rfl (rfl) (by show _ < 5; omega) (by decide) (hw.2.1) ?_
            refine wt_nicmp_ge (pc := 29) 165 (1) (0) hc dX3_hangs_29 (by decide) (by omega) (by omega) (fun c_29 => ?_) (fun c_29 => ?_)
            · exact wt_drop (nxt s hs hv) ⟨rfl, rfl, rfl, rfl, rfl, rfl, trivial⟩
            · omega
          · exact jl o wl (by omega) hw hnb (wl - 1) 1 s (by omega) (by omega) hs (fun s' a b => nxt s' a (by rw [hv, b]))
  refine wt_iconst (pc := 0) (v := (-1 : Int32)) hc dX3_hangs_0 (by decide) ?_
  refine wt_istore_3 (pc := 1) hc dX3_hangs_1 rfl ?_
  refine wt_iconst (pc := 2) (v := (-1 : Int32)) hc dX3_hangs_2 (by decide) ?_
  refine wt_istore_4 (pc := 3) hc dX3_hangs_3 rfl ?_
  refine wt_iconst (pc := 5) (v := nI 0) hc dX3_hangs_5 (by decide) ?_
  refine wt_istore_5 (pc := 6) hc dX3_hangs_6 rfl ?_
  exact ol ow 0 none (by omega) trivial rfl
theorem ct_straps (hE : tw_E G T) (hN : sp_t0 M = N) (hcy : sp_city N) (hf : sp_fok N) (k : Int32) : wt_Ct l G yX3_straps cX3_straps 5 (some .int) 5 0 0 [.ref T.1, .int k] (tw_Z G T M w) (sp_ans G T N w (if nI 1 ≤ k ∧ k ≤ nI 8 then 0 else 1) (sp_stv N k)) := by
  obtain ⟨ro, ow, ri, hC⟩ := hcy.cty
  have h0 : N 0 0 = 0 := by rw [← hN]; rfl
  have hri := hC.2.2.1
  refine wt_enter [some (.ref T.1), some (.int k), none, none, none] (by decide +kernel) rfl (Nat.le_of_ble_eq_true rfl) (fun X hc hok => ?_)
  by_cases hp : nI 1 ≤ k ∧ k ≤ nI 8
  · rw [if_pos hp] at hok
    have ev : sp_stv N k = (sp_stL k ri 0 (nI 0) (sp_fill (sp_night N) 66 40 (fun _ => nI 0))).1 := by
      unfold sp_stv
      rw [hC.2.2.2.2.2.1, nn_nI (by omega)]
    have hC1 := hC.same (sp_night_same N)
    have loop : ∀ (n p : Nat) (c : Int32) (M' : wt_It), p + n = ri → (∀ r, r ≠ 66 → M' r = sp_night N r) → sp_stv N k = (sp_stL k n p c M').1 → wt_V G X 51 [some (.ref T.1), some (.int k), some (.int c), some (.int (nI p)), none] [] (tw_Z G T M' w) 0 0 := by
      intro n
      induction n with
      | zero =>
        intro p c M' hp hr hv
        have e : p = ri := by omega
        subst e
        refine wt_iload_3 (pc := 51) hc dX3_straps_51 ?_
        refine wt_aload_0 (pc := 52) hc dX3_straps_52 ?_
        refine tw_get (pc := 53) 4 (nI p) hc hE dX3_straps_53 q1608 (by decide) (fun _ _ _ => rfl) rfl ((congrFun (hr 0 (by decide)) 4).trans hC1.2.2.2.2.2.1) ?_
        refine wt_nicmp_ge (pc := 56) 119 (p) (p) hc dX3_straps_56 (by decide) (by omega) (by omega) (fun c_56 => ?_) (fun c_56 => ?_)
        · refine wt_iload_2 (pc := 119) hc dX3_straps_119 ?_
          exact wt_iret (pc := 120) hc hok dX3_straps_120 (rfl) (fun H hZ => sp_ans_ok (sp_Q.of fun r hk => (hr r (sp_S_ne hk).2.2.2.2.2.2.2.2.2.2.2.2.2.1).trans (sp_S_night N hk)) ((congrFun (hr 0 (by decide)) 0).trans ((congrFun (sp_S_night N rfl) 0).trans h0)) hv.symm hZ)
        · omega
      | succ n ih =>
        intro p c M' hp hr hv
        rw [sp_stL] at hv
        have hC2 : sp_cty M' ro ow ri := hC1.row (fun j _ => congrFun (hr 0 (by decide)) j) (hr 9 (by decide)) (hr 10 (by decide)) (hr 11 (by decide))
        have hr2 : ∀ r, r ≠ 66 → (sp_st1 M' p k).2 r = sp_night N r := fun r hr' => (sp_st1_row _ _ _ _ hr').trans (hr r hr')
        have nxt := ih (p + 1) _ _ (by omega) hr2 hv
        refine wt_iload_3 (pc := 51) hc dX3_straps_51 ?_
        refine wt_aload_0 (pc := 52) hc dX3_straps_52 ?_
        refine tw_get (pc := 53) 4 (nI ri) hc hE dX3_straps_53 q1608 (by decide) (fun _ _ _ => rfl) rfl (hC2.2.2.2.2.2.1) ?_
        refine wt_nicmp_ge (pc := 56) 119 (p) (ri) hc dX3_straps_56 (by decide) (by omega) (by omega) (fun c_56 => ?_) (fun c_56 => ?_)
        · omega
        · refine wt_aload_0 (pc := 59) hc dX3_straps_59 ?_
          refine wt_iload_3 (pc := 60) hc dX3_straps_60 ?_
          refine wt_gofn (tw_inv (pc := 61) 1 hc hE (ct_isThere hE p (by omega)) dX3_straps_61 rfl q2139 q2141 qs100 q116 q2142 (by decide +kernel) rfl (by decide) (by decide) (Nat.le_of_ble_eq_true rfl) rfl) ?_
          refine wt_if_eq (pc := 64) 92 hc dX3_straps_64 (by decide) (fun c_64 => ?_) (fun c_64 => ?_)
          · have c2 : ¬ M' 11 (4 * p) = M' 11 (4 * p + 1) := sp_b_0.mp c_64
            have e : sp_st1 M' p k = sp_hs M' p k := if_neg c2
            rw [e] at nxt
            refine wt_aload_0 (pc := 92) hc dX3_straps_92 ?_
            refine wt_iload_3 (pc := 93) hc dX3_straps_93 ?_
            refine wt_iload_1 (pc := 94) hc dX3_straps_94 ?_
            refine wt_gofn (tw_inv (pc := 95) 2 hc hE (ct_hangs hE ro ow ri p hC2 (by omega) k) dX3_straps_95 rfl q2170 q2172 qs102 q116 q2173 (by decide +kernel) rfl (by decide) (by decide) (Nat.le_of_ble_eq_true rfl) rfl) ?_
            cases hb : (sp_hs M' p k).1 with
            | true =>
              rw [hb] at nxt
              refine wt_istore_4 (pc := 98) hc dX3_straps_98 rfl ?_
              refine wt_iload_2 (pc := 100) hc dX3_straps_100 ?_
              refine wt_iload_4 (pc := 101) hc dX3_straps_101 ?_
              refine wt_if_eq (pc := 103) 110 hc dX3_straps_103 (by decide) (fun z => absurd z (by decide)) (fun _ => ?_)
              refine wt_iconst (pc := 106) (v := nI 1) hc dX3_straps_106 (by decide) ?_
              refine wt_goto (pc := 107) 111 hc dX3_straps_107 (by decide) ?_
              refine wt_iadd (pc := 111) hc dX3_straps_111 ?_
              refine wt_istore_2 (pc := 112) hc dX3_straps_112 rfl ?_
              refine wt_iinc_3 (pc := 113) (v := nI (p + 1)) hc dX3_straps_113 (nI_add p 1) rfl ?_
              refine wt_goto (pc := 116) 51 hc dX3_straps_116 (by decide) ?_
              exact wt_drop nxt ⟨rfl, rfl, rfl, rfl, trivial⟩
            | false =>
              rw [hb] at nxt
              refine wt_istore_4 (pc := 98) hc dX3_straps_98 rfl ?_
              refine wt_iload_2 (pc := 100) hc dX3_straps_100 ?_
              refine wt_iload_4 (pc := 101) hc dX3_straps_101 ?_
              refine wt_if_eq (pc := 103) 110 hc dX3_straps_103 (by decide) (fun _ => ?_) (fun z => absurd z (by decide))
              refine wt_iconst (pc := 110) (v := nI 0) hc dX3_straps_110 (by decide) ?_
              refine wt_iadd (pc := 111) hc dX3_straps_111 ?_
              refine wt_istore_2 (pc := 112) hc dX3_straps_112 rfl ?_
              refine wt_iinc_3 (pc := 113) (v := nI (p + 1)) hc dX3_straps_113 (nI_add p 1) rfl ?_
              refine wt_goto (pc := 116) 51 hc dX3_straps_116 (by decide) ?_
              exact wt_drop nxt ⟨rfl, rfl, rfl, rfl, trivial⟩
          · have c2 : M' 11 (4 * p) = M' 11 (4 * p + 1) := sp_b_n0 c_64
            have e : sp_st1 M' p k = (decide (M' 11 (4 * p + 2) ≤ M' 0 6), M') := if_pos c2
            rw [e] at nxt
            refine wt_aload_0 (pc := 67) hc dX3_straps_67 ?_
            refine tw_geta (pc := 68) 11 hc hE dX3_straps_68 q1615 (by decide) (by decide) (fun _ _ _ => rfl) rfl ?_
            refine wt_iconst (pc := 71) (v := nI 4) hc dX3_straps_71 (by decide) ?_
            refine wt_iload_3 (pc := 72) hc dX3_straps_72 ?_
            refine wt_imul (pc := 73) hc dX3_straps_73 ?_
            rw [pk_mul 4 p]
            refine wt_iconst (pc := 74) (v := nI 2) hc dX3_straps_74 (by decide) ?_
            refine wt_iadd (pc := 75) hc dX3_straps_75 ?_
            rw [nI_add (4 * p) 2]
            refine tw_iald (pc := 76) (k := 11) (4 * p + 2) _ hc hE dX3_straps_76 rfl (rfl) (by show _ < 32; omega) (by decide) (rfl) ?_
            refine wt_aload_0 (pc := 77) hc dX3_straps_77 ?_
            refine tw_get (pc := 78) 6 _ hc hE dX3_straps_78 q1610 (by decide) (fun _ _ _ => rfl) rfl (rfl) ?_
            refine wt_icmp_gt (pc := 81) 88 hc dX3_straps_81 (by decide) (fun c_81 => ?_) (fun c_81 => ?_)
            · rw [show (decide (M' 11 (4 * p + 2) ≤ M' 0 6), M').1 = false from decide_eq_false (Int32.not_le.mpr c_81)] at nxt
              refine wt_iconst (pc := 88) (v := nI 0) hc dX3_straps_88 (by decide) ?_
              refine wt_goto (pc := 89) 98 hc dX3_straps_89 (by decide) ?_
              refine wt_istore_4 (pc := 98) hc dX3_straps_98 rfl ?_
              refine wt_iload_2 (pc := 100) hc dX3_straps_100 ?_
              refine wt_iload_4 (pc := 101) hc dX3_straps_101 ?_
              refine wt_if_eq (pc := 103) 110 hc dX3_straps_103 (by decide) (fun _ => ?_) (fun z => absurd z (by decide))
              refine wt_iconst (pc := 110) (v := nI 0) hc dX3_straps_110 (by decide) ?_
              refine wt_iadd (pc := 111) hc dX3_straps_111 ?_
              refine wt_istore_2 (pc := 112) hc dX3_straps_112 rfl ?_
              refine wt_iinc_3 (pc := 113) (v := nI (p + 1)) hc dX3_straps_113 (nI_add p 1) rfl ?_
              refine wt_goto (pc := 116) 51 hc dX3_straps_116 (by decide) ?_
              exact wt_drop nxt ⟨rfl, rfl, rfl, rfl, trivial⟩
            · rw [show (decide (M' 11 (4 * p + 2) ≤ M' 0 6), M').1 = true from decide_eq_true (Int32.not_lt.mp c_81)] at nxt
              refine wt_iconst (pc := 84) (v := nI 1) hc dX3_straps_84 (by decide) ?_
              refine wt_goto (pc := 85) 98 hc dX3_straps_85 (by decide) ?_
              refine wt_istore_4 (pc := 98) hc dX3_straps_98 rfl ?_
              refine wt_iload_2 (pc := 100) hc dX3_straps_100 ?_
              refine wt_iload_4 (pc := 101) hc dX3_straps_101 ?_
              refine wt_if_eq (pc := 103) 110 hc dX3_straps_103 (by decide) (fun z => absurd z (by decide)) (fun _ => ?_)
              refine wt_iconst (pc := 106) (v := nI 1) hc dX3_straps_106 (by decide) ?_
              refine wt_goto (pc := 107) 111 hc dX3_straps_107 (by decide) ?_
              refine wt_iadd (pc := 111) hc dX3_straps_111 ?_
              refine wt_istore_2 (pc := 112) hc dX3_straps_112 rfl ?_
              refine wt_iinc_3 (pc := 113) (v := nI (p + 1)) hc dX3_straps_113 (nI_add p 1) rfl ?_
              refine wt_goto (pc := 116) 51 hc dX3_straps_116 (by decide) ?_
              exact wt_drop nxt ⟨rfl, rfl, rfl, rfl, trivial⟩
    have init : ∀ n j : Nat, j + n = 40 → wt_V G X 47 [some (.ref T.1), some (.int k), none, none, none] [] (tw_Z G T (sp_fill (sp_night N) 66 40 (fun _ => nI 0)) w) 0 0 → wt_V G X 28 [some (.ref T.1), some (.int k), some (.int (nI j)), none, none] [] (tw_Z G T (sp_fill (sp_night N) 66 j (fun _ => nI 0)) w) 0 0 := by
      intro n
      induction n with
      | zero =>
        intro j hj hend
        have e : j = 40 := by omega
        subst e
        refine wt_iload_2 (pc := 28) hc dX3_straps_28 ?_
        refine wt_bipush (pc := 29) (v := nI 40) hc dX3_straps_29 (by decide) ?_
        refine wt_nicmp_ge (pc := 31) 47 (40) (40) hc dX3_straps_31 (by decide) (by omega) (by omega) (fun c_31 => ?_) (fun c_31 => ?_)
        · exact wt_drop hend ⟨rfl, rfl, trivial⟩
        · omega
      | succ n ih =>
        intro j hj hend
        refine wt_iload_2 (pc := 28) hc dX3_straps_28 ?_
        refine wt_bipush (pc := 29) (v := nI 40) hc dX3_straps_29 (by decide) ?_
        refine wt_nicmp_ge (pc := 31) 47 (j) (40) hc dX3_straps_31 (by decide) (by omega) (by omega) (fun c_31 => ?_) (fun c_31 => ?_)
        · omega
        · refine wt_aload_0 (pc := 34) hc dX3_straps_34 ?_
          refine tw_geta (pc := 35) 66 hc hE dX3_straps_35 q1670 (by decide) (by decide) (fun _ _ _ => rfl) rfl ?_
          refine wt_iload_2 (pc := 38) hc dX3_straps_38 ?_
          refine wt_iconst (pc := 39) (v := nI 0) hc dX3_straps_39 (by decide) ?_
          refine tw_iast (pc := 40) (k := 66) (j) hc hE dX3_straps_40 rfl (rfl) (by show _ < 40; omega) (by decide) ?_
          refine tw_eq (sp_fill_up (sp_night N) 66 j (fun _ => nI 0)) ?_
          refine wt_iinc_2 (pc := 41) (v := nI (j + 1)) hc dX3_straps_41 (nI_add j 1) rfl ?_
          refine wt_goto (pc := 44) 28 hc dX3_straps_44 (by decide) ?_
          exact ih (j + 1) (by omega) hend
    refine wt_aload_0 (pc := 0) hc dX3_straps_0 ?_
    refine wt_iconst (pc := 1) (v := nI 0) hc dX3_straps_1 (by decide) ?_
    refine tw_put (pc := 2) 0 hc hE dX3_straps_2 q1604 (by decide) (fun _ _ _ => rfl) rfl rfl (rfl) rfl ?_
    refine tw_eq hN ?_
    refine wt_aload_0 (pc := 5) hc dX3_straps_5 ?_
    refine wt_iload_1 (pc := 6) hc dX3_straps_6 ?_
    refine wt_iconst (pc := 7) (v := nI 1) hc dX3_straps_7 (by decide) ?_
    refine wt_bipush (pc := 8) (v := nI 8) hc dX3_straps_8 (by decide) ?_
    refine wt_gofn (wt_invS (pc := 10) 3 hc (ct_within _ _ _) dX3_straps_10 rfl q1986 q1987 q116 q1988 (by decide +kernel) rfl (by decide) (by decide) (Nat.le_of_ble_eq_true rfl) rfl) ?_
    rw [sp_b_t hp]
    refine wt_iconst (pc := 13) (v := nI 1) hc dX3_straps_13 (by decide) ?_
    refine wt_gofn (tw_inv (pc := 14) 2 hc hE (ct_right0 hE h0 _ _) dX3_straps_14 rfl q1850 q1852 qs54 q116 q1853 (by decide +kernel) rfl (by decide) (by decide) (Nat.le_of_ble_eq_true rfl) rfl) ?_
    rw [if_neg (show ¬ (1 : Int32) = 0 by decide), sp_b_t (show ¬ (1 : Int32) = 0 ∨ nI 1 = 0 from Or.inl (by decide))]
    refine wt_if_ne (pc := 17) 22 hc dX3_straps_17 (by decide) (fun c_17 => ?_) (fun c_17 => ?_)
    · refine wt_aload_0 (pc := 22) hc dX3_straps_22 ?_
      refine wt_gov (tw_inv (pc := 23) 0 hc hE (ct_nights hE hcy hf) dX3_straps_23 rfl q1993 q1995 qs81 q116 q1996 (by decide +kernel) rfl (by decide) (by decide) (Nat.le_of_ble_eq_true rfl) rfl) (Nat.zero_le _) (Nat.zero_le _) ?_
      refine wt_iconst (pc := 26) (v := nI 0) hc dX3_straps_26 (by decide) ?_
      refine wt_istore_2 (pc := 27) hc dX3_straps_27 rfl ?_
      rw [← sp_fill_0 (sp_night N) 66 (fun _ => nI 0)]
      refine init 40 0 (by omega) ?_
      refine wt_iconst (pc := 47) (v := nI 0) hc dX3_straps_47 (by decide) ?_
      refine wt_istore_2 (pc := 48) hc dX3_straps_48 rfl ?_
      refine wt_iconst (pc := 49) (v := nI 0) hc dX3_straps_49 (by decide) ?_
      refine wt_istore_3 (pc := 50) hc dX3_straps_50 rfl ?_
      exact loop ri 0 (nI 0) _ (by omega) (fun r hr => sp_fill_row hr) ev
    · exact absurd c_17 (by decide)
  · rw [if_neg hp] at hok
    refine wt_aload_0 (pc := 0) hc dX3_straps_0 ?_
    refine wt_iconst (pc := 1) (v := nI 0) hc dX3_straps_1 (by decide) ?_
    refine tw_put (pc := 2) 0 hc hE dX3_straps_2 q1604 (by decide) (fun _ _ _ => rfl) rfl rfl (rfl) rfl ?_
    refine tw_eq hN ?_
    refine wt_aload_0 (pc := 5) hc dX3_straps_5 ?_
    refine wt_iload_1 (pc := 6) hc dX3_straps_6 ?_
    refine wt_iconst (pc := 7) (v := nI 1) hc dX3_straps_7 (by decide) ?_
    refine wt_bipush (pc := 8) (v := nI 8) hc dX3_straps_8 (by decide) ?_
    refine wt_gofn (wt_invS (pc := 10) 3 hc (ct_within _ _ _) dX3_straps_10 rfl q1986 q1987 q116 q1988 (by decide +kernel) rfl (by decide) (by decide) (Nat.le_of_ble_eq_true rfl) rfl) ?_
    rw [sp_b_f hp]
    refine wt_iconst (pc := 13) (v := nI 1) hc dX3_straps_13 (by decide) ?_
    refine wt_gofn (tw_inv (pc := 14) 2 hc hE (ct_right0 hE h0 _ _) dX3_straps_14 rfl q1850 q1852 qs54 q116 q1853 (by decide +kernel) rfl (by decide) (by decide) (Nat.le_of_ble_eq_true rfl) rfl) ?_
    rw [if_pos (show (0 : Int32) = 0 from rfl), sp_b_f (show ¬ (¬ (0 : Int32) = 0 ∨ nI 1 = 0) from fun z => z.elim (fun z => z rfl) (by decide))]
    refine wt_if_ne (pc := 17) 22 hc dX3_straps_17 (by decide) (fun c_17 => ?_) (fun c_17 => ?_)
    · exact absurd rfl c_17
    · refine wt_iconst (pc := 20) (v := nI 0) hc dX3_straps_20 (by decide) ?_
      exact wt_iret (pc := 21) hc hok dX3_straps_21 (rfl) (fun H hZ => sp_ans_bad (by decide) hZ)
def sp_ys (seed : Int32) : Nat → Int32
  | 0 => seed
  | k + 1 => sp_ys seed k * nI 1103515245 + nI 12345
def sp_ym (N : wt_It) : Nat → Int32
  | 0 => N 47 1
  | k + 1 => (sp_ym N k + nI 1) - (sp_ym N k + nI 1) / nI 8 * nI 8
def sp_yw (seed : Int32) (k : Nat) : Int32 := if (sp_ys seed (k + 1) >>> (nI 16 &&& 31) &&& nI 32767) - (sp_ys seed (k + 1) >>> (nI 16 &&& 31) &&& nI 32767) / nI 4 * nI 4 = 0 then nI 1 else nI 0
def sp_yN (N : wt_It) (seed : Int32) (k : Nat) : wt_It := wt_up2 (wt_up2 N 47 1 (sp_ym N (k + 1))) 47 2 (sp_yw seed k)
def sp_yh (N : wt_It) (seed : Int32) (k : Nat) : Int32 := sp_hv (sp_yN N seed k)
def sp_ya (N : wt_It) (seed : Int32) : Nat → Int32
  | 0 => nI 0
  | k + 1 => sp_ya N seed k + sp_yh N seed k
def sp_yl (N : wt_It) (seed : Int32) : Nat → Int32
  | 0 => nI 0
  | k + 1 => if k = 0 then sp_yh N seed k else if sp_yl N seed k ≤ sp_yh N seed k then sp_yl N seed k else sp_yh N seed k
def sp_yf (N : wt_It) (seed : Int32) : Nat → Int32
  | 0 => nI 0
  | k + 1 => sp_yf N seed k + (if sp_yh N seed k = N 0 4 then nI 1 else nI 0)
def sp_yv (N : wt_It) (seed k : Int32) (n : Nat) : Int32 := if k = 0 then sp_ya N seed n else if k = nI 1 then sp_yl N seed n else sp_yf N seed n
theorem sp_homes_48 (M : wt_It) : (sp_homes M).2 48 = M 48 := by
  unfold sp_homes
  rw [sp_hm_row _ _ _ _ _ (by decide)]
  exact sp_night_same M 48 (by decide) (by decide) (by decide) (by decide) (by decide) (by decide) (by decide) (by decide)
theorem ct_years (hE : tw_E G T) (hN : sp_t0 M = N) (hcy : sp_city N) (hf : sp_fok N) (a b k : Int32) : wt_Ct l G yX3_years cX3_years 10 (some .int) 6 0 0 [.ref T.1, .int a, .int b, .int k] (tw_Z G T M w) (sp_ans G T N w (if 0 ≤ k ∧ k ≤ nI 2 then (if nI 0 ≤ b ∧ b ≤ nI 60 then 0 else 2) else 1) (sp_yv N a k (nn b))) := by
  obtain ⟨ro, ow, ri, hC⟩ := hcy.cty
  have h0 : N 0 0 = 0 := by rw [← hN]; rfl
  have hri := hC.2.2.1
  refine wt_enter [some (.ref T.1), some (.int a), some (.int b), some (.int k), none, none, none, none, none, none] (by decide +kernel) rfl (Nat.le_of_ble_eq_true rfl) (fun X hc hok => ?_)
  by_cases hp : 0 ≤ k ∧ k ≤ nI 2
  · by_cases hp2 : nI 0 ≤ b ∧ b ≤ nI 60
    · rw [if_pos hp, if_pos hp2] at hok
      obtain ⟨m, -, hm, rfl⟩ := sp_ix2 (a := 0) hp2 (by decide) (by decide)
      rw [nn_nI (by omega)] at hok
      have fin : ∀ (x y : Int32) (M' : wt_It), sp_Q (wt_up2 (wt_up2 N 47 1 x) 47 2 y) M' → M' 0 0 = 0 → (∀ j, j < 19 → M' 48 j = N 47 j) → wt_V G X 177 [some (.ref T.1), some (.int a), some (.int (nI m)), some (.int k), none, some (.int (sp_ya N a m)), some (.int (sp_yl N a m)), some (.int (sp_yf N a m)), none, none] [] (tw_Z G T M' w) 0 0 := by
        intro x y M' hQ' hT' h48
        have hQ2 : sp_Q N (sp_cp M' 48 47 19) := by
          refine ⟨fun r hr0 hr => ?_, fun j hj => ?_⟩
          · by_cases e : r = 47
            · subst e
              funext j
              by_cases hj : j < 19
              · exact (if_pos ⟨rfl, hj⟩).trans (h48 j hj)
              · refine (if_neg (fun z => hj z.2)).trans ?_
                rw [hQ'.row (k := 47) (by decide) rfl, wt_up2_ne (fun z => by omega), wt_up2_ne (fun z => by omega)]
            · rw [sp_cp_row e, hQ'.row hr0 hr, wt_up2_row e, wt_up2_row e]
          · rw [sp_cp_row (by decide)]
            exact hQ'.2 j hj
        have hT2 : sp_cp M' 48 47 19 0 0 = 0 := (congrFun (sp_cp_row (by decide)) 0).trans hT'
        refine wt_aload_0 (pc := 177) hc dX3_years_177 ?_
        refine wt_aload_0 (pc := 178) hc dX3_years_178 ?_
        refine tw_geta (pc := 179) 48 hc hE dX3_years_179 q1652 (by decide) (by decide) (fun _ _ _ => rfl) rfl ?_
        refine wt_aload_0 (pc := 182) hc dX3_years_182 ?_
        refine tw_geta (pc := 183) 47 hc hE dX3_years_183 q1651 (by decide) (by decide) (fun _ _ _ => rfl) rfl ?_
        refine wt_gov (tw_inv (pc := 186) 2 hc hE (ct_copies hE 48 47 (by decide) (by decide) (by decide) (by decide) rfl rfl) dX3_years_186 rfl q1965 q1967 qs78 q116 q1968 (by decide +kernel) rfl (by decide) (by decide) (Nat.le_of_ble_eq_true rfl) rfl) (Nat.zero_le _) (Nat.zero_le _) ?_
        refine wt_iload_3 (pc := 189) hc dX3_years_189 ?_
        refine wt_if_ne (pc := 190) 198 hc dX3_years_190 (by decide) (fun c_190 => ?_) (fun c_190 => ?_)
        · refine wt_iload_3 (pc := 198) hc dX3_years_198 ?_
          refine wt_iconst (pc := 199) (v := nI 1) hc dX3_years_199 (by decide) ?_
          refine wt_icmp_ne (pc := 200) 208 hc dX3_years_200 (by decide) (fun c_200 => ?_) (fun c_200 => ?_)
          · refine wt_iload_7 (pc := 208) hc dX3_years_208 ?_
            exact wt_iret (pc := 210) hc hok dX3_years_210 (rfl) (fun H hZ => sp_ans_ok hQ2 hT2 (by unfold sp_yv; first | rw [if_pos c_190] | rw [if_neg c_190, if_pos c_200] | rw [if_neg c_190, if_neg c_200]) hZ)
          · refine wt_iload_6 (pc := 203) hc dX3_years_203 ?_
            refine wt_goto (pc := 205) 210 hc dX3_years_205 (by decide) ?_
            exact wt_iret (pc := 210) hc hok dX3_years_210 (rfl) (fun H hZ => sp_ans_ok hQ2 hT2 (by unfold sp_yv; first | rw [if_pos c_190] | rw [if_neg c_190, if_pos c_200] | rw [if_neg c_190, if_neg c_200]) hZ)
        · refine wt_iload_5 (pc := 193) hc dX3_years_193 ?_
          refine wt_goto (pc := 195) 210 hc dX3_years_195 (by decide) ?_
          exact wt_iret (pc := 210) hc hok dX3_years_210 (rfl) (fun H hZ => sp_ans_ok hQ2 hT2 (by unfold sp_yv; first | rw [if_pos c_190] | rw [if_neg c_190, if_pos c_200] | rw [if_neg c_190, if_neg c_200]) hZ)
      have loop : ∀ (n i : Nat) (y : Int32) (M' : wt_It), i + n = m → sp_Q (wt_up2 (wt_up2 N 47 1 (sp_ym N i)) 47 2 y) M' → M' 0 0 = 0 → (∀ j, j < 19 → M' 48 j = N 47 j) → wt_V G X 58 [some (.ref T.1), some (.int a), some (.int (nI m)), some (.int k), some (.int (sp_ys a i)), some (.int (sp_ya N a i)), some (.int (sp_yl N a i)), some (.int (sp_yf N a i)), some (.int (nI i)), none] [] (tw_Z G T M' w) 0 0 := by
        intro n
        induction n with
        | zero =>
          intro i y M' hi hQ' hT' h48
          have e : i = m := by omega
          subst e
          refine wt_iload_8 (pc := 58) hc dX3_years_58 ?_
          refine wt_iload_2 (pc := 60) hc dX3_years_60 ?_
          refine wt_nicmp_ge (pc := 61) 177 (i) (i) hc dX3_years_61 (by decide) (by omega) (by omega) (fun c_61 => ?_) (fun c_61 => ?_)
          · exact wt_drop (fin _ y M' hQ' hT' h48) ⟨rfl, rfl, rfl, rfl, rfl, rfl, rfl, trivial⟩
          · omega
        | succ n ih =>
          intro i y M' hi hQ' hT' h48
          have e1 : M' 47 1 = sp_ym N i := by
            rw [hQ'.row (k := 47) (by decide) rfl]
            rfl
          have hQ2 : sp_Q (sp_yN N a i) (wt_up2 (wt_up2 M' 47 1 (sp_ym N (i + 1))) 47 2 (sp_yw a i)) := by
            have h1 := (hQ'.up 47 1 (sp_ym N (i + 1)) (by decide)).up 47 2 (sp_yw a i) (by decide)
            have e : wt_up2 (wt_up2 (wt_up2 (wt_up2 N 47 1 (sp_ym N i)) 47 2 y) 47 1 (sp_ym N (i + 1))) 47 2 (sp_yw a i) = sp_yN N a i := by
              funext r j
              unfold sp_yN
              simp only [wt_up2]
              split
              · rfl
              · split
                · rfl
                · rfl
            rw [e] at h1
            exact h1
          have hf2 : sp_fok (sp_yN N a i) := (hf.now 1 _ (by decide)).now 2 _ (by decide)
          have hcy2 : sp_city (sp_yN N a i) := hcy
          have hC2 : sp_cty (sp_yN N a i) ro ow ri := hC
          have hv : (sp_homes (wt_up2 (wt_up2 M' 47 1 (sp_ym N (i + 1))) 47 2 (sp_yw a i))).1 = sp_yh N a i := sp_hv_cong hcy2 hf2 hQ2
          have nxt := ih (i + 1) (sp_yw a i) (sp_homes (wt_up2 (wt_up2 M' 47 1 (sp_ym N (i + 1))) 47 2 (sp_yw a i))).2 (by omega) (hQ2.tr (sp_Q.homes _)) ((congrFun (sp_S_homes _ rfl) 0).trans hT') (fun j hj => by rw [sp_homes_48]; exact h48 j hj)
          have e4 : (sp_homes (wt_up2 (wt_up2 M' 47 1 (sp_ym N (i + 1))) 47 2 (sp_yw a i))).2 0 4 = N 0 4 := (congrFun (sp_S_homes _ rfl) 4).trans (hQ'.2 4 (by decide))
          rw [show sp_ya N a (i + 1) = sp_ya N a i + sp_yh N a i from rfl, show sp_yl N a (i + 1) = (if i = 0 then sp_yh N a i else if sp_yl N a i ≤ sp_yh N a i then sp_yl N a i else sp_yh N a i) from rfl, show sp_yf N a (i + 1) = sp_yf N a i + (if sp_yh N a i = N 0 4 then nI 1 else nI 0) from rfl] at nxt
          have key : ∀ x : Int32, x = sp_yw a i → wt_V G X 117 [some (.ref T.1), some (.int a), some (.int (nI m)), some (.int k), some (.int (sp_ys a (i + 1))), some (.int (sp_ya N a i)), some (.int (sp_yl N a i)), some (.int (sp_yf N a i)), some (.int (nI i)), none] [.int x, .int (nI 2), .ref (T.2.1 47)] (tw_Z G T (wt_up2 M' 47 1 (sp_ym N (i + 1))) w) 0 0 := by
            intro x ex
            subst ex
            refine tw_iast (pc := 117) (k := 47) (2) hc hE dX3_years_117 rfl (rfl) (by show _ < 19; omega) (by decide) ?_
            refine wt_aload_0 (pc := 118) hc dX3_years_118 ?_
            refine wt_gofn (tw_inv (pc := 119) 0 hc hE (ct_homes hE ro ow ri (hcy2.Q hQ2) (hC2.Q hQ2) (hf2.Q hQ2)) dX3_years_119 rfl q1989 q1991 qs80 q116 q1992 (by decide +kernel) rfl (by decide) (by decide) (Nat.le_of_ble_eq_true rfl) rfl) ?_
            rw [hv]
            refine wt_istore_9 (pc := 122) hc dX3_years_122 rfl ?_
            refine wt_iload_5 (pc := 124) hc dX3_years_124 ?_
            refine wt_iload_9 (pc := 126) hc dX3_years_126 ?_
            refine wt_iadd (pc := 128) hc dX3_years_128 ?_
            refine wt_istore_5 (pc := 129) hc dX3_years_129 rfl ?_
            refine wt_iload_8 (pc := 131) hc dX3_years_131 ?_
            refine wt_if_eq (pc := 133) 143 hc dX3_years_133 (by decide) (fun c_133 => ?_) (fun c_133 => ?_)
            · refine wt_iload_9 (pc := 143) hc dX3_years_143 ?_
              refine wt_goto (pc := 145) 150 hc dX3_years_145 (by decide) ?_
              refine wt_istore_6 (pc := 150) hc dX3_years_150 rfl ?_
              refine wt_iload_7 (pc := 152) hc dX3_years_152 ?_
              refine wt_iload_9 (pc := 154) hc dX3_years_154 ?_
              refine wt_aload_0 (pc := 156) hc dX3_years_156 ?_
              refine tw_get (pc := 157) 4 (N 0 4) hc hE dX3_years_157 q1608 (by decide) (fun _ _ _ => rfl) rfl (e4) ?_
              refine wt_icmp_ne (pc := 160) 167 hc dX3_years_160 (by decide) (fun c_160 => ?_) (fun c_160 => ?_)
              · refine wt_iconst (pc := 167) (v := nI 0) hc dX3_years_167 (by decide) ?_
                refine wt_iadd (pc := 168) hc dX3_years_168 ?_
                refine wt_istore_7 (pc := 169) hc dX3_years_169 rfl ?_
                refine wt_iinc_8 (pc := 171) (v := nI (i + 1)) hc dX3_years_171 (nI_add i 1) rfl ?_
                refine wt_goto (pc := 174) 58 hc dX3_years_174 (by decide) ?_
                first | (rw [if_pos (show i = 0 from sp_i0 c_133 (by omega)), if_pos c_160] at nxt; exact wt_drop nxt ⟨rfl, rfl, rfl, rfl, rfl, rfl, rfl, rfl, rfl, trivial⟩) | (rw [if_pos (show i = 0 from sp_i0 c_133 (by omega)), if_neg c_160] at nxt; exact wt_drop nxt ⟨rfl, rfl, rfl, rfl, rfl, rfl, rfl, rfl, rfl, trivial⟩) | (rw [if_neg (show ¬ i = 0 from sp_i0' c_133), if_pos c_140, if_pos c_160] at nxt; exact wt_drop nxt ⟨rfl, rfl, rfl, rfl, rfl, rfl, rfl, rfl, rfl, trivial⟩) | (rw [if_neg (show ¬ i = 0 from sp_i0' c_133), if_pos c_140, if_neg c_160] at nxt; exact wt_drop nxt ⟨rfl, rfl, rfl, rfl, rfl, rfl, rfl, rfl, rfl, trivial⟩) | (rw [if_neg (show ¬ i = 0 from sp_i0' c_133), if_neg c_140, if_pos c_160] at nxt; exact wt_drop nxt ⟨rfl, rfl, rfl, rfl, rfl, rfl, rfl, rfl, rfl, trivial⟩) | (rw [if_neg (show ¬ i = 0 from sp_i0' c_133), if_neg c_140, if_neg c_160] at nxt; exact wt_drop nxt ⟨rfl, rfl, rfl, rfl, rfl, rfl, rfl, rfl, rfl, trivial⟩)
              · refine wt_iconst (pc := 163) (v := nI 1) hc dX3_years_163 (by decide) ?_
                refine wt_goto (pc := 164) 168 hc dX3_years_164 (by decide) ?_
                refine wt_iadd (pc := 168) hc dX3_years_168 ?_
                refine wt_istore_7 (pc := 169) hc dX3_years_169 rfl ?_
                refine wt_iinc_8 (pc := 171) (v := nI (i + 1)) hc dX3_years_171 (nI_add i 1) rfl ?_
                refine wt_goto (pc := 174) 58 hc dX3_years_174 (by decide) ?_
                first | (rw [if_pos (show i = 0 from sp_i0 c_133 (by omega)), if_pos c_160] at nxt; exact wt_drop nxt ⟨rfl, rfl, rfl, rfl, rfl, rfl, rfl, rfl, rfl, trivial⟩) | (rw [if_pos (show i = 0 from sp_i0 c_133 (by omega)), if_neg c_160] at nxt; exact wt_drop nxt ⟨rfl, rfl, rfl, rfl, rfl, rfl, rfl, rfl, rfl, trivial⟩) | (rw [if_neg (show ¬ i = 0 from sp_i0' c_133), if_pos c_140, if_pos c_160] at nxt; exact wt_drop nxt ⟨rfl, rfl, rfl, rfl, rfl, rfl, rfl, rfl, rfl, trivial⟩) | (rw [if_neg (show ¬ i = 0 from sp_i0' c_133), if_pos c_140, if_neg c_160] at nxt; exact wt_drop nxt ⟨rfl, rfl, rfl, rfl, rfl, rfl, rfl, rfl, rfl, trivial⟩) | (rw [if_neg (show ¬ i = 0 from sp_i0' c_133), if_neg c_140, if_pos c_160] at nxt; exact wt_drop nxt ⟨rfl, rfl, rfl, rfl, rfl, rfl, rfl, rfl, rfl, trivial⟩) | (rw [if_neg (show ¬ i = 0 from sp_i0' c_133), if_neg c_140, if_neg c_160] at nxt; exact wt_drop nxt ⟨rfl, rfl, rfl, rfl, rfl, rfl, rfl, rfl, rfl, trivial⟩)
            · refine wt_iload_9 (pc := 136) hc dX3_years_136 ?_
              refine wt_iload_6 (pc := 138) hc dX3_years_138 ?_
              refine wt_icmp_ge (pc := 140) 148 hc dX3_years_140 (by decide) (fun c_140 => ?_) (fun c_140 => ?_)
              · refine wt_iload_6 (pc := 148) hc dX3_years_148 ?_
                refine wt_istore_6 (pc := 150) hc dX3_years_150 rfl ?_
                refine wt_iload_7 (pc := 152) hc dX3_years_152 ?_
                refine wt_iload_9 (pc := 154) hc dX3_years_154 ?_
                refine wt_aload_0 (pc := 156) hc dX3_years_156 ?_
                refine tw_get (pc := 157) 4 (N 0 4) hc hE dX3_years_157 q1608 (by decide) (fun _ _ _ => rfl) rfl (e4) ?_
                refine wt_icmp_ne (pc := 160) 167 hc dX3_years_160 (by decide) (fun c_160 => ?_) (fun c_160 => ?_)
                · refine wt_iconst (pc := 167) (v := nI 0) hc dX3_years_167 (by decide) ?_
                  refine wt_iadd (pc := 168) hc dX3_years_168 ?_
                  refine wt_istore_7 (pc := 169) hc dX3_years_169 rfl ?_
                  refine wt_iinc_8 (pc := 171) (v := nI (i + 1)) hc dX3_years_171 (nI_add i 1) rfl ?_
                  refine wt_goto (pc := 174) 58 hc dX3_years_174 (by decide) ?_
                  first | (rw [if_pos (show i = 0 from sp_i0 c_133 (by omega)), if_pos c_160] at nxt; exact wt_drop nxt ⟨rfl, rfl, rfl, rfl, rfl, rfl, rfl, rfl, rfl, trivial⟩) | (rw [if_pos (show i = 0 from sp_i0 c_133 (by omega)), if_neg c_160] at nxt; exact wt_drop nxt ⟨rfl, rfl, rfl, rfl, rfl, rfl, rfl, rfl, rfl, trivial⟩) | (rw [if_neg (show ¬ i = 0 from sp_i0' c_133), if_pos c_140, if_pos c_160] at nxt; exact wt_drop nxt ⟨rfl, rfl, rfl, rfl, rfl, rfl, rfl, rfl, rfl, trivial⟩) | (rw [if_neg (show ¬ i = 0 from sp_i0' c_133), if_pos c_140, if_neg c_160] at nxt; exact wt_drop nxt ⟨rfl, rfl, rfl, rfl, rfl, rfl, rfl, rfl, rfl, trivial⟩) | (rw [if_neg (show ¬ i = 0 from sp_i0' c_133), if_neg c_140, if_pos c_160] at nxt; exact wt_drop nxt ⟨rfl, rfl, rfl, rfl, rfl, rfl, rfl, rfl, rfl, trivial⟩) | (rw [if_neg (show ¬ i = 0 from sp_i0' c_133), if_neg c_140, if_neg c_160] at nxt; exact wt_drop nxt ⟨rfl, rfl, rfl, rfl, rfl, rfl, rfl, rfl, rfl, trivial⟩)
                · refine wt_iconst (pc := 163) (v := nI 1) hc dX3_years_163 (by decide) ?_
                  refine wt_goto (pc := 164) 168 hc dX3_years_164 (by decide) ?_
                  refine wt_iadd (pc := 168) hc dX3_years_168 ?_
                  refine wt_istore_7 (pc := 169) hc dX3_years_169 rfl ?_
                  refine wt_iinc_8 (pc := 171) (v := nI (i + 1)) hc dX3_years_171 (nI_add i 1) rfl ?_
                  refine wt_goto (pc := 174) 58 hc dX3_years_174 (by decide) ?_
                  first | (rw [if_pos (show i = 0 from sp_i0 c_133 (by omega)), if_pos c_160] at nxt; exact wt_drop nxt ⟨rfl, rfl, rfl, rfl, rfl, rfl, rfl, rfl, rfl, trivial⟩) | (rw [if_pos (show i = 0 from sp_i0 c_133 (by omega)), if_neg c_160] at nxt; exact wt_drop nxt ⟨rfl, rfl, rfl, rfl, rfl, rfl, rfl, rfl, rfl, trivial⟩) | (rw [if_neg (show ¬ i = 0 from sp_i0' c_133), if_pos c_140, if_pos c_160] at nxt; exact wt_drop nxt ⟨rfl, rfl, rfl, rfl, rfl, rfl, rfl, rfl, rfl, trivial⟩) | (rw [if_neg (show ¬ i = 0 from sp_i0' c_133), if_pos c_140, if_neg c_160] at nxt; exact wt_drop nxt ⟨rfl, rfl, rfl, rfl, rfl, rfl, rfl, rfl, rfl, trivial⟩) | (rw [if_neg (show ¬ i = 0 from sp_i0' c_133), if_neg c_140, if_pos c_160] at nxt; exact wt_drop nxt ⟨rfl, rfl, rfl, rfl, rfl, rfl, rfl, rfl, rfl, trivial⟩) | (rw [if_neg (show ¬ i = 0 from sp_i0' c_133), if_neg c_140, if_neg c_160] at nxt; exact wt_drop nxt ⟨rfl, rfl, rfl, rfl, rfl, rfl, rfl, rfl, rfl, trivial⟩)
              · refine wt_iload_9 (pc := 143) hc dX3_years_143 ?_
                refine wt_goto (pc := 145) 150 hc dX3_years_145 (by decide) ?_
                refine wt_istore_6 (pc := 150) hc dX3_years_150 rfl ?_
                refine wt_iload_7 (pc := 152) hc dX3_years_152 ?_
                refine wt_iload_9 (pc := 154) hc dX3_years_154 ?_
                refine wt_aload_0 (pc := 156) hc dX3_years_156 ?_
                refine tw_get (pc := 157) 4 (N 0 4) hc hE dX3_years_157 q1608 (by decide) (fun _ _ _ => rfl) rfl (e4) ?_
                refine wt_icmp_ne (pc := 160) 167 hc dX3_years_160 (by decide) (fun c_160 => ?_) (fun c_160 => ?_)
                · refine wt_iconst (pc := 167) (v := nI 0) hc dX3_years_167 (by decide) ?_
                  refine wt_iadd (pc := 168) hc dX3_years_168 ?_
                  refine wt_istore_7 (pc := 169) hc dX3_years_169 rfl ?_
                  refine wt_iinc_8 (pc := 171) (v := nI (i + 1)) hc dX3_years_171 (nI_add i 1) rfl ?_
                  refine wt_goto (pc := 174) 58 hc dX3_years_174 (by decide) ?_
                  first | (rw [if_pos (show i = 0 from sp_i0 c_133 (by omega)), if_pos c_160] at nxt; exact wt_drop nxt ⟨rfl, rfl, rfl, rfl, rfl, rfl, rfl, rfl, rfl, trivial⟩) | (rw [if_pos (show i = 0 from sp_i0 c_133 (by omega)), if_neg c_160] at nxt; exact wt_drop nxt ⟨rfl, rfl, rfl, rfl, rfl, rfl, rfl, rfl, rfl, trivial⟩) | (rw [if_neg (show ¬ i = 0 from sp_i0' c_133), if_pos c_140, if_pos c_160] at nxt; exact wt_drop nxt ⟨rfl, rfl, rfl, rfl, rfl, rfl, rfl, rfl, rfl, trivial⟩) | (rw [if_neg (show ¬ i = 0 from sp_i0' c_133), if_pos c_140, if_neg c_160] at nxt; exact wt_drop nxt ⟨rfl, rfl, rfl, rfl, rfl, rfl, rfl, rfl, rfl, trivial⟩) | (rw [if_neg (show ¬ i = 0 from sp_i0' c_133), if_neg c_140, if_pos c_160] at nxt; exact wt_drop nxt ⟨rfl, rfl, rfl, rfl, rfl, rfl, rfl, rfl, rfl, trivial⟩) | (rw [if_neg (show ¬ i = 0 from sp_i0' c_133), if_neg c_140, if_neg c_160] at nxt; exact wt_drop nxt ⟨rfl, rfl, rfl, rfl, rfl, rfl, rfl, rfl, rfl, trivial⟩)
                · refine wt_iconst (pc := 163) (v := nI 1) hc dX3_years_163 (by decide) ?_
                  refine wt_goto (pc := 164) 168 hc dX3_years_164 (by decide) ?_
                  refine wt_iadd (pc := 168) hc dX3_years_168 ?_
                  refine wt_istore_7 (pc := 169) hc dX3_years_169 rfl ?_
                  refine wt_iinc_8 (pc := 171) (v := nI (i + 1)) hc dX3_years_171 (nI_add i 1) rfl ?_
                  refine wt_goto (pc := 174) 58 hc dX3_years_174 (by decide) ?_
                  first | (rw [if_pos (show i = 0 from sp_i0 c_133 (by omega)), if_pos c_160] at nxt; exact wt_drop nxt ⟨rfl, rfl, rfl, rfl, rfl, rfl, rfl, rfl, rfl, trivial⟩) | (rw [if_pos (show i = 0 from sp_i0 c_133 (by omega)), if_neg c_160] at nxt; exact wt_drop nxt ⟨rfl, rfl, rfl, rfl, rfl, rfl, rfl, rfl, rfl, trivial⟩) | (rw [if_neg (show ¬ i = 0 from sp_i0' c_133), if_pos c_140, if_pos c_160] at nxt; exact wt_drop nxt ⟨rfl, rfl, rfl, rfl, rfl, rfl, rfl, rfl, rfl, trivial⟩) | (rw [if_neg (show ¬ i = 0 from sp_i0' c_133), if_pos c_140, if_neg c_160] at nxt; exact wt_drop nxt ⟨rfl, rfl, rfl, rfl, rfl, rfl, rfl, rfl, rfl, trivial⟩) | (rw [if_neg (show ¬ i = 0 from sp_i0' c_133), if_neg c_140, if_pos c_160] at nxt; exact wt_drop nxt ⟨rfl, rfl, rfl, rfl, rfl, rfl, rfl, rfl, rfl, trivial⟩) | (rw [if_neg (show ¬ i = 0 from sp_i0' c_133), if_neg c_140, if_neg c_160] at nxt; exact wt_drop nxt ⟨rfl, rfl, rfl, rfl, rfl, rfl, rfl, rfl, rfl, trivial⟩)
          refine wt_iload_8 (pc := 58) hc dX3_years_58 ?_
          refine wt_iload_2 (pc := 60) hc dX3_years_60 ?_
          refine wt_nicmp_ge (pc := 61) 177 (i) (m) hc dX3_years_61 (by decide) (by omega) (by omega) (fun c_61 => ?_) (fun c_61 => ?_)
          · omega
          · refine wt_aload_0 (pc := 64) hc dX3_years_64 ?_
            refine tw_geta (pc := 65) 47 hc hE dX3_years_65 q1651 (by decide) (by decide) (fun _ _ _ => rfl) rfl ?_
            refine wt_iconst (pc := 68) (v := nI 1) hc dX3_years_68 (by decide) ?_
            refine wt_aload_0 (pc := 69) hc dX3_years_69 ?_
            refine tw_geta (pc := 70) 47 hc hE dX3_years_70 q1651 (by decide) (by decide) (fun _ _ _ => rfl) rfl ?_
            refine wt_iconst (pc := 73) (v := nI 1) hc dX3_years_73 (by decide) ?_
            refine tw_iald (pc := 74) (k := 47) (1) (sp_ym N i) hc hE dX3_years_74 rfl (rfl) (by show _ < 19; omega) (by decide) (e1) ?_
            refine wt_iconst (pc := 75) (v := nI 1) hc dX3_years_75 (by decide) ?_
            refine wt_iadd (pc := 76) hc dX3_years_76 ?_
            refine wt_bipush (pc := 77) (v := nI 8) hc dX3_years_77 (by decide) ?_
            refine wt_irem (pc := 79) hc dX3_years_79 (by decide) ?_
            refine tw_iast (pc := 80) (k := 47) (1) hc hE dX3_years_80 rfl (rfl) (by show _ < 19; omega) (by decide) ?_
            refine wt_iload_4 (pc := 81) hc dX3_years_81 ?_
            refine wt_ldcw (pc := 83) (v := nI 1103515245) hc dX3_years_83 q2257 ?_
            refine wt_imul (pc := 86) hc dX3_years_86 ?_
            refine wt_sipush (pc := 87) (v := nI 12345) hc dX3_years_87 (by decide) ?_
            refine wt_iadd (pc := 90) hc dX3_years_90 ?_
            refine wt_istore_4 (pc := 91) hc dX3_years_91 rfl ?_
            refine wt_aload_0 (pc := 93) hc dX3_years_93 ?_
            refine tw_geta (pc := 94) 47 hc hE dX3_years_94 q1651 (by decide) (by decide) (fun _ _ _ => rfl) rfl ?_
            refine wt_iconst (pc := 97) (v := nI 2) hc dX3_years_97 (by decide) ?_
            refine wt_iload_4 (pc := 98) hc dX3_years_98 ?_
            refine wt_bipush (pc := 100) (v := nI 16) hc dX3_years_100 (by decide) ?_
            refine wt_ishr (pc := 102) hc dX3_years_102 ?_
            refine wt_sipush (pc := 103) (v := nI 32767) hc dX3_years_103 (by decide) ?_
            refine wt_iand (pc := 106) hc dX3_years_106 ?_
            refine wt_iconst (pc := 107) (v := nI 4) hc dX3_years_107 (by decide) ?_
            refine wt_irem (pc := 108) hc dX3_years_108 (by decide) ?_
            refine wt_if_ne (pc := 109) 116 hc dX3_years_109 (by decide) (fun c_109 => ?_) (fun c_109 => ?_)
            · refine wt_iconst (pc := 116) (v := nI 0) hc dX3_years_116 (by decide) ?_
              exact key _ (by first | exact (if_pos c_109).symm | exact (if_neg c_109).symm)
            · refine wt_iconst (pc := 112) (v := nI 1) hc dX3_years_112 (by decide) ?_
              refine wt_goto (pc := 113) 117 hc dX3_years_113 (by decide) ?_
              exact key _ (by first | exact (if_pos c_109).symm | exact (if_neg c_109).symm)
      refine wt_aload_0 (pc := 0) hc dX3_years_0 ?_
      refine wt_iconst (pc := 1) (v := nI 0) hc dX3_years_1 (by decide) ?_
      refine tw_put (pc := 2) 0 hc hE dX3_years_2 q1604 (by decide) (fun _ _ _ => rfl) rfl rfl (rfl) rfl ?_
      refine tw_eq hN ?_
      refine wt_aload_0 (pc := 5) hc dX3_years_5 ?_
      refine wt_iload_3 (pc := 6) hc dX3_years_6 ?_
      refine wt_iconst (pc := 7) (v := nI 2) hc dX3_years_7 (by decide) ?_
      refine wt_gofn (tw_inv (pc := 8) 2 hc hE (ct_isWhat hE h0 _ _) dX3_years_8 rfl q2044 q2046 qs92 q116 q2047 (by decide +kernel) rfl (by decide) (by decide) (Nat.le_of_ble_eq_true rfl) rfl) ?_
      rw [if_pos hp, sp_b_t hp]
      refine wt_if_eq (pc := 11) 29 hc dX3_years_11 (by decide) (fun c_11 => ?_) (fun c_11 => ?_)
      · exact absurd c_11 (by decide)
      · refine wt_aload_0 (pc := 14) hc dX3_years_14 ?_
        refine wt_iload_2 (pc := 15) hc dX3_years_15 ?_
        refine wt_iconst (pc := 16) (v := nI 0) hc dX3_years_16 (by decide) ?_
        refine wt_bipush (pc := 17) (v := nI 60) hc dX3_years_17 (by decide) ?_
        refine wt_gofn (wt_invS (pc := 19) 3 hc (ct_within _ _ _) dX3_years_19 rfl q1986 q1987 q116 q1988 (by decide +kernel) rfl (by decide) (by decide) (Nat.le_of_ble_eq_true rfl) rfl) ?_
        rw [sp_b_t hp2]
        refine wt_iconst (pc := 22) (v := nI 2) hc dX3_years_22 (by decide) ?_
        refine wt_gofn (tw_inv (pc := 23) 2 hc hE (ct_right0 hE h0 _ _) dX3_years_23 rfl q1850 q1852 qs54 q116 q1853 (by decide +kernel) rfl (by decide) (by decide) (Nat.le_of_ble_eq_true rfl) rfl) ?_
        rw [if_neg (show ¬ (1 : Int32) = 0 by decide), sp_b_t (show ¬ (1 : Int32) = 0 ∨ nI 2 = 0 from Or.inl (by decide))]
        refine wt_if_ne (pc := 26) 31 hc dX3_years_26 (by decide) (fun c_26 => ?_) (fun c_26 => ?_)
        · refine wt_aload_0 (pc := 31) hc dX3_years_31 ?_
          refine wt_aload_0 (pc := 32) hc dX3_years_32 ?_
          refine tw_geta (pc := 33) 47 hc hE dX3_years_33 q1651 (by decide) (by decide) (fun _ _ _ => rfl) rfl ?_
          refine wt_aload_0 (pc := 36) hc dX3_years_36 ?_
          refine tw_geta (pc := 37) 48 hc hE dX3_years_37 q1652 (by decide) (by decide) (fun _ _ _ => rfl) rfl ?_
          refine wt_gov (tw_inv (pc := 40) 2 hc hE (ct_copies hE 47 48 (by decide) (by decide) (by decide) (by decide) rfl rfl) dX3_years_40 rfl q1965 q1967 qs78 q116 q1968 (by decide +kernel) rfl (by decide) (by decide) (Nat.le_of_ble_eq_true rfl) rfl) (Nat.zero_le _) (Nat.zero_le _) ?_
          refine wt_iload_1 (pc := 43) hc dX3_years_43 ?_
          refine wt_istore_4 (pc := 44) hc dX3_years_44 rfl ?_
          refine wt_iconst (pc := 46) (v := nI 0) hc dX3_years_46 (by decide) ?_
          refine wt_istore_5 (pc := 47) hc dX3_years_47 rfl ?_
          refine wt_iconst (pc := 49) (v := nI 0) hc dX3_years_49 (by decide) ?_
          refine wt_istore_6 (pc := 50) hc dX3_years_50 rfl ?_
          refine wt_iconst (pc := 52) (v := nI 0) hc dX3_years_52 (by decide) ?_
          refine wt_istore_7 (pc := 53) hc dX3_years_53 rfl ?_
          refine wt_iconst (pc := 55) (v := nI 0) hc dX3_years_55 (by decide) ?_
          refine wt_istore_8 (pc := 56) hc dX3_years_56 rfl ?_
          exact loop m 0 (N 47 2) _ (by omega) (by rw [show sp_ym N 0 = N 47 1 from rfl, wt_up2_id, wt_up2_id]; exact sp_Q.of fun r hr => sp_cp_row (sp_S_ne hr).1) ((congrFun (sp_cp_row (by decide)) 0).trans h0) (fun j hj => if_pos ⟨rfl, hj⟩)
        · exact absurd c_26 (by decide)
    · rw [if_pos hp, if_neg hp2] at hok
      refine wt_aload_0 (pc := 0) hc dX3_years_0 ?_
      refine wt_iconst (pc := 1) (v := nI 0) hc dX3_years_1 (by decide) ?_
      refine tw_put (pc := 2) 0 hc hE dX3_years_2 q1604 (by decide) (fun _ _ _ => rfl) rfl rfl (rfl) rfl ?_
      refine tw_eq hN ?_
      refine wt_aload_0 (pc := 5) hc dX3_years_5 ?_
      refine wt_iload_3 (pc := 6) hc dX3_years_6 ?_
      refine wt_iconst (pc := 7) (v := nI 2) hc dX3_years_7 (by decide) ?_
      refine wt_gofn (tw_inv (pc := 8) 2 hc hE (ct_isWhat hE h0 _ _) dX3_years_8 rfl q2044 q2046 qs92 q116 q2047 (by decide +kernel) rfl (by decide) (by decide) (Nat.le_of_ble_eq_true rfl) rfl) ?_
      rw [if_pos hp, sp_b_t hp]
      refine wt_if_eq (pc := 11) 29 hc dX3_years_11 (by decide) (fun c_11 => ?_) (fun c_11 => ?_)
      · exact absurd c_11 (by decide)
      · refine wt_aload_0 (pc := 14) hc dX3_years_14 ?_
        refine wt_iload_2 (pc := 15) hc dX3_years_15 ?_
        refine wt_iconst (pc := 16) (v := nI 0) hc dX3_years_16 (by decide) ?_
        refine wt_bipush (pc := 17) (v := nI 60) hc dX3_years_17 (by decide) ?_
        refine wt_gofn (wt_invS (pc := 19) 3 hc (ct_within _ _ _) dX3_years_19 rfl q1986 q1987 q116 q1988 (by decide +kernel) rfl (by decide) (by decide) (Nat.le_of_ble_eq_true rfl) rfl) ?_
        rw [sp_b_f hp2]
        refine wt_iconst (pc := 22) (v := nI 2) hc dX3_years_22 (by decide) ?_
        refine wt_gofn (tw_inv (pc := 23) 2 hc hE (ct_right0 hE h0 _ _) dX3_years_23 rfl q1850 q1852 qs54 q116 q1853 (by decide +kernel) rfl (by decide) (by decide) (Nat.le_of_ble_eq_true rfl) rfl) ?_
        rw [if_pos (show (0 : Int32) = 0 from rfl), sp_b_f (show ¬ (¬ (0 : Int32) = 0 ∨ nI 2 = 0) from fun z => z.elim (fun z => z rfl) (by decide))]
        refine wt_if_ne (pc := 26) 31 hc dX3_years_26 (by decide) (fun c_26 => ?_) (fun c_26 => ?_)
        · exact absurd rfl c_26
        · refine wt_iconst (pc := 29) (v := nI 0) hc dX3_years_29 (by decide) ?_
          exact wt_iret (pc := 30) hc hok dX3_years_30 (rfl) (fun H hZ => sp_ans_bad (by decide) hZ)
  · rw [if_neg hp] at hok
    refine wt_aload_0 (pc := 0) hc dX3_years_0 ?_
    refine wt_iconst (pc := 1) (v := nI 0) hc dX3_years_1 (by decide) ?_
    refine tw_put (pc := 2) 0 hc hE dX3_years_2 q1604 (by decide) (fun _ _ _ => rfl) rfl rfl (rfl) rfl ?_
    refine tw_eq hN ?_
    refine wt_aload_0 (pc := 5) hc dX3_years_5 ?_
    refine wt_iload_3 (pc := 6) hc dX3_years_6 ?_
    refine wt_iconst (pc := 7) (v := nI 2) hc dX3_years_7 (by decide) ?_
    refine wt_gofn (tw_inv (pc := 8) 2 hc hE (ct_isWhat hE h0 _ _) dX3_years_8 rfl q2044 q2046 qs92 q116 q2047 (by decide +kernel) rfl (by decide) (by decide) (Nat.le_of_ble_eq_true rfl) rfl) ?_
    rw [if_neg hp, sp_b_f hp]
    refine wt_if_eq (pc := 11) 29 hc dX3_years_11 (by decide) (fun c_11 => ?_) (fun c_11 => ?_)
    · refine wt_iconst (pc := 29) (v := nI 0) hc dX3_years_29 (by decide) ?_
      exact wt_iret (pc := 30) hc hok dX3_years_30 (rfl) (fun H hZ => sp_ans_bad (by decide) hZ)
    · exact absurd rfl c_11
end TO
