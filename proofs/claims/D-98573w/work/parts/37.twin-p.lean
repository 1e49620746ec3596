/-! THE REFERENCE: a lure -/
set_option maxRecDepth 100000
theorem sp_s32 : ∀ n, n < 32 → ((nI n &&& 31).toBitVec.smod 32).toNat = n := by decide +kernel
/-- the r-th of ro digits by fours -/
def sp_dg (ro x r : Nat) : Nat := x / 4 ^ (ro - 1 - r) % 4
theorem sp_dig {ro x r : Nat} (hro : ro ≤ 10) (hx : x < 2 ^ 31) : nI x >>> (nI (2 * (ro - 1 - r)) &&& 31) &&& nI 3 = nI (sp_dg ro x r) := by
  rw [pk_shrN hx _ (2 * (ro - 1 - r)) (sp_s32 _ (by omega)), pk_andN (Nat.lt_of_le_of_lt (Nat.div_le_self _ _) (by omega)) 2 (by decide)]
  unfold sp_dg
  rw [Nat.pow_mul]
theorem sp_shl4 : ∀ r, r ≤ 10 → nI 1 <<< (nI (2 * r) &&& 31) = nI (4 ^ r) := by decide +kernel
theorem sp_pow4 : ∀ r, r ≤ 10 → 4 ^ r ≤ 1048576 := by decide +kernel
def sp_dsum (ro x : Nat) : Nat → Nat
  | 0 => 0
  | r + 1 => sp_dsum ro x r + sp_dg ro x r
theorem sp_dsum_le (ro x : Nat) : ∀ n, sp_dsum ro x n ≤ 3 * n := by
  intro n
  induction n with
  | zero => exact Nat.le_refl _
  | succ n ih =>
    rw [sp_dsum]
    have : sp_dg ro x n < 4 := Nat.mod_lt _ (by decide)
    omega
theorem sp_dsum_mono (ro x : Nat) : ∀ {n m : Nat}, n ≤ m → sp_dsum ro x n ≤ sp_dsum ro x m := by
  intro n m h
  induction h with
  | refl => exact Nat.le_refl _
  | step _ ih => rw [sp_dsum]; omega
def sp_dfit (g : Nat → Nat) (ro x : Nat) : Nat → Bool
  | 0 => true
  | r + 1 => sp_dfit g ro x r && decide (g r + sp_dg ro x r ≤ 9)
/-- some more at 47, from the place 4 on -/
def sp_g4 (f : Nat → Int32) (n : Nat) (M : wt_It) : wt_It := fun k j => if k = 47 ∧ 4 ≤ j ∧ j < 4 + n then f (j - 4) else M k j
theorem sp_g4_0 (f : Nat → Int32) (M : wt_It) : sp_g4 f 0 M = M := by
  funext k j
  exact if_neg (fun z => by omega)
theorem sp_g4_up (f : Nat → Int32) (n : Nat) (M : wt_It) : wt_up2 (sp_g4 f n M) 47 (4 + n) (f n) = sp_g4 f (n + 1) M := by
  funext k j
  simp only [wt_up2, sp_g4]
  by_cases h1 : k = 47 ∧ j = 4 + n
  · rw [if_pos h1, if_pos ⟨h1.1, by omega, by omega⟩, h1.2, Nat.add_sub_cancel_left]
  · rw [if_neg h1]
    by_cases h2 : k = 47 ∧ 4 ≤ j ∧ j < 4 + n
    · rw [if_pos h2, if_pos ⟨h2.1, h2.2.1, by omega⟩]
    · rw [if_neg h2, if_neg (fun z => by
        by_cases e : j = 4 + n
        · exact h1 ⟨z.1, e⟩
        · exact h2 ⟨z.1, z.2.1, by omega⟩)]
theorem sp_g4_at (f : Nat → Int32) (n : Nat) (M : wt_It) : sp_g4 f n M 47 (4 + n) = M 47 (4 + n) := if_neg (fun z => by omega)
theorem sp_g4_row {f : Nat → Int32} {n : Nat} {M : wt_It} {k : Nat} (h : k ≠ 47) : sp_g4 f n M k = M k := by
  funext j
  exact if_neg (fun z => h z.1)
theorem sp_g4_hi {f : Nat → Int32} {n j : Nat} {M : wt_It} (h : ¬ (4 ≤ j ∧ j < 4 + n)) : sp_g4 f n M 47 j = M 47 j := if_neg (fun z => h z.2)
theorem sp_g4_in {f : Nat → Int32} {n r : Nat} {M : wt_It} (h : r < n) : sp_g4 f n M 47 (4 + r) = f r := by
  refine (if_pos ⟨rfl, by omega, by omega⟩).trans ?_
  rw [Nat.add_sub_cancel_left]
/-- the memory with more grains -/
def sp_gr (N : wt_It) (ro x : Nat) : wt_It := sp_g4 (fun r => N 47 (4 + r) + nI (sp_dg ro x r)) ro N
def sp_ahL (set mi : Int32) : Nat → Nat → wt_It → Bool × wt_It
  | 0, _, M => (true, M)
  | n + 1, p, M => if set >>> (nI p &&& 31) &&& nI 1 = nI 1 then (if sp_soon M p ≤ mi then sp_ahL set mi n (p + 1) (sp_rides M p) else (false, sp_rides M p)) else sp_ahL set mi n (p + 1) M
theorem sp_ahL_row (set mi : Int32) : ∀ (n p : Nat) (M : wt_It) (k : Nat), k ≠ 60 → (sp_ahL set mi n p M).2 k = M k := by
  intro n
  induction n with
  | zero => intro p M k _; rfl
  | succ n ih =>
    intro p M k hk
    rw [sp_ahL]
    split
    · split
      · rw [ih _ _ _ hk, sp_rides_row hk]
      · exact congrFun (congrArg _ rfl) _ |>.trans (sp_rides_row hk)
    · exact ih _ _ _ hk
/-- with it all of the set are at home by the minute -/
def sp_ahv (N : wt_It) (set mi : Int32) : Bool := (sp_ahL set mi (nn (N 0 4)) 0 (sp_night N)).1
theorem sp_ahL_cong {ro ow : Nat} (set mi : Int32) : ∀ (n p : Nat) (M M' : wt_It), sp_wy M ro ow → sp_Ln ro ow M M' → (∀ q, p ≤ q → q < p + n → ∃ b, b < 10 ∧ M 11 (4 * q + 1) = nI b) → (sp_ahL set mi n p M').1 = (sp_ahL set mi n p M).1 := by
  intro n
  induction n with
  | zero => intro p M M' _ _ _; rfl
  | succ n ih =>
    intro p M M' hw hL hp
    rw [sp_ahL, sp_ahL, sp_soon_cong hw hL p (hp p (by omega) (by omega))]
    by_cases c1 : set >>> (nI p &&& 31) &&& nI 1 = nI 1
    · rw [if_pos c1, if_pos c1]
      by_cases c2 : sp_soon M p ≤ mi
      · rw [if_pos c2, if_pos c2]
        exact ih (p + 1) _ _ (hw.Q (sp_Q.rides M p)) (sp_rides_cong hw hL p).2 (fun q h1 h2 => by rw [sp_rides_row (by decide)]; exact hp q (by omega) (by omega))
      · rw [if_neg c2, if_neg c2]
    · rw [if_neg c1, if_neg c1]
      exact ih (p + 1) _ _ hw hL (fun q h1 h2 => hp q (by omega) (by omega))
theorem sp_ahv_cong {M M' : wt_It} (hc : sp_city M) (hf : sp_fok M) (hq : sp_Q M M') (set mi : Int32) : sp_ahv M' set mi = sp_ahv M set mi := by
  obtain ⟨ro, ow, hw⟩ := hc.wy
  obtain ⟨ro', ow', ri, hC⟩ := hc.cty
  unfold sp_ahv
  rw [hq.2 4 (by decide), hC.2.2.2.2.2.1, nn_nI (by have := hC.2.2.1; omega)]
  exact sp_ahL_cong set mi ri 0 _ _ (hw.Q (sp_Q.night M)) (sp_night_cong hw hf hq) (fun q _ h2 => by
    rw [sp_S_night M rfl]
    exact (hC.2.2.2.2.2.2.2 q (by omega)).2)
/-- grains as they are now -/
def sp_grs (N : wt_It) (ro : Nat) (g : Nat → Nat) : Prop := ∀ r, r < ro → g r ≤ 9 ∧ N 47 (4 + r) = nI (g r)
def sp_cand (g : Nat → Nat) (ro n x : Nat) : Bool := sp_dfit g ro x ro && decide (sp_dsum ro x ro = n)
def sp_lx (N : wt_It) (g : Nat → Nat) (ro : Nat) (set mi : Int32) (n : Nat) : Nat → Nat → Option Nat
  | 0, _ => none
  | k + 1, x => if sp_cand g ro n x = true ∧ sp_ahv (sp_gr N ro x) set mi = true then some x else sp_lx N g ro set mi n k (x + 1)
def sp_ln (N : wt_It) (g : Nat → Nat) (ro : Nat) (set mi : Int32) : Nat → Nat → Option (Nat × Nat)
  | 0, _ => none
  | k + 1, n => if n ≤ 3 * ro then (match sp_lx N g ro set mi n (4 ^ ro) 0 with
    | some x => some (n, x)
    | none => sp_ln N g ro set mi k (n + 1)) else none
def sp_end (N : wt_It) (m : Int32) : Int32 := if N 0 6 ≤ m then N 0 6 else m
/-- all but the row of a lure and scratch -/
def sp_Q63 (N M : wt_It) : Prop := (∀ k, k ≠ 0 → k ≠ 63 → sp_S k = false → M k = N k) ∧ ∀ j, j ≠ 0 → j ≠ 65 → M 0 j = N 0 j
def sp_luR (N M : wt_It) (ro : Nat) (r : Int32) : Option (Nat × Nat) → Prop
  | none => r = -1 ∧ sp_Q N M
  | some q => r = nI q.1 ∧ sp_Q63 N M ∧ M 0 65 = nI 1 ∧ ∀ j, j < ro → M 63 j = nI (sp_dg ro q.2 j)
def sp_luP (G : wt_G) (T : tw_T) (N : wt_It) (w : Int64) (ro : Nat) (thr : Int32) (res : Option (Nat × Nat)) : Option Value → Heap → Prop := fun v H => ∃ (r : Int32) (M : wt_It), v = some (.int r) ∧ M 0 0 = thr ∧ (if thr = 0 then sp_luR N M ro r res else sp_Q N M) ∧ tw_Z G T M w H
section TP
variable {l : Launch} {G : wt_G} {Z : Heap → Prop} {T : tw_T} {M N : wt_It} {w : Int64}
theorem ct_areHome (hE : tw_E G T) (ro ow ri : Nat) (hcy : sp_city M) (hC : sp_cty M ro ow ri) (hf : sp_fok M) (set mi : Int32) : wt_Ct l G yX3_areHome cX3_areHome 4 (some .boolean) 5 0 0 [.ref T.1, .int set, .int mi] (tw_Z G T M w) (wt_fn (sp_i (sp_ahL set mi ri 0 (sp_night M)).1) (tw_Z G T (sp_ahL set mi ri 0 (sp_night M)).2 w)) := by
  have hri := hC.2.2.1
  refine wt_enter [some (.ref T.1), some (.int set), some (.int mi), none] (by decide +kernel) rfl (Nat.le_of_ble_eq_true rfl) (fun X hc hok => ?_)
  have loop : ∀ (n p : Nat) (M' : wt_It), p + n = ri → sp_cty M' ro ow ri → sp_ahL set mi ri 0 (sp_night M) = sp_ahL set mi n p M' → wt_V G X 6 [some (.ref T.1), some (.int set), some (.int mi), some (.int (nI p))] [] (tw_Z G T M' w) 0 0 := by
    intro n
    induction n with
    | zero =>
      intro p M' hp hC hv
      refine wt_iload_3 (pc := 6) hc dX3_areHome_6 ?_
      refine wt_aload_0 (pc := 7) hc dX3_areHome_7 ?_
      refine tw_get (pc := 8) 4 (nI ri) hc hE dX3_areHome_8 q1608 (by decide) (fun _ _ _ => rfl) rfl (hC.2.2.2.2.2.1) ?_
      refine wt_nicmp_ge (pc := 11) 40 (p) (ri) hc dX3_areHome_11 (by decide) (by omega) (by omega) (fun c_11 => ?_) (fun c_11 => ?_)
      · refine wt_iconst (pc := 40) (v := nI 1) hc dX3_areHome_40 (by decide) ?_
        exact wt_iret (pc := 41) hc hok dX3_areHome_41 (rfl) (fun H hZ => ⟨by rw [hv]; rfl, by rw [hv]; exact hZ⟩)
      · omega
    | succ n ih =>
      intro p M' hp hC hv
      conv at hv => rhs; rw [sp_ahL]
      refine wt_iload_3 (pc := 6) hc dX3_areHome_6 ?_
      refine wt_aload_0 (pc := 7) hc dX3_areHome_7 ?_
      refine tw_get (pc := 8) 4 (nI ri) hc hE dX3_areHome_8 q1608 (by decide) (fun _ _ _ => rfl) rfl (hC.2.2.2.2.2.1) ?_
      refine wt_nicmp_ge (pc := 11) 40 (p) (ri) hc dX3_areHome_11 (by decide) (by omega) (by omega) (fun c_11 => ?_) (fun c_11 => ?_)
      · omega
      · refine wt_iload_1 (pc := 14) hc dX3_areHome_14 ?_
        refine wt_iload_3 (pc := 15) hc dX3_areHome_15 ?_
        refine wt_ishr (pc := 16) hc dX3_areHome_16 ?_
        refine wt_iconst (pc := 17) (v := nI 1) hc dX3_areHome_17 (by decide) ?_
        refine wt_iand (pc := 18) hc dX3_areHome_18 ?_
        refine wt_iconst (pc := 19) (v := nI 1) hc dX3_areHome_19 (by decide) ?_
        refine wt_icmp_ne (pc := 20) 34 hc dX3_areHome_20 (by decide) (fun c_20 => ?_) (fun c_20 => ?_)
        · rw [if_neg c_20] at hv
          refine wt_iinc_3 (pc := 34) (v := nI (p + 1)) hc dX3_areHome_34 (nI_add p 1) rfl ?_
          refine wt_goto (pc := 37) 6 hc dX3_areHome_37 (by decide) ?_
          exact ih (p + 1) M' (by omega) hC hv
        · rw [if_pos c_20] at hv
          refine wt_aload_0 (pc := 23) hc dX3_areHome_23 ?_
          refine wt_iload_3 (pc := 24) hc dX3_areHome_24 ?_
          refine wt_gofn (tw_inv (pc := 25) 1 hc hE (ct_soonest hE ro ow ri p hC (by omega)) dX3_areHome_25 rfl q2016 q2018 qs86 q116 q2019 (by decide +kernel) rfl (by decide) (by decide) (Nat.le_of_ble_eq_true rfl) rfl) ?_
          refine wt_iload_2 (pc := 28) hc dX3_areHome_28 ?_
          refine wt_icmp_le (pc := 29) 34 hc dX3_areHome_29 (by decide) (fun c_29 => ?_) (fun c_29 => ?_)
          · rw [if_pos c_29] at hv
            refine wt_iinc_3 (pc := 34) (v := nI (p + 1)) hc dX3_areHome_34 (nI_add p 1) rfl ?_
            refine wt_goto (pc := 37) 6 hc dX3_areHome_37 (by decide) ?_
            exact ih (p + 1) _ (by omega) (hC.r60 (fun k hk => sp_rides_row hk)) hv
          · rw [if_neg c_29] at hv
            refine wt_iconst (pc := 32) (v := nI 0) hc dX3_areHome_32 (by decide) ?_
            exact wt_iret (pc := 33) hc hok dX3_areHome_33 (rfl) (fun H hZ => ⟨by rw [hv]; rfl, by rw [hv]; exact hZ⟩)
  refine wt_aload_0 (pc := 0) hc dX3_areHome_0 ?_
  refine wt_gov (tw_inv (pc := 1) 0 hc hE (ct_nights hE hcy hf) dX3_areHome_1 rfl q1993 q1995 qs81 q116 q1996 (by decide +kernel) rfl (by decide) (by decide) (Nat.le_of_ble_eq_true rfl) rfl) (Nat.zero_le _) (Nat.zero_le _) ?_
  refine wt_iconst (pc := 4) (v := nI 0) hc dX3_areHome_4 (by decide) ?_
  refine wt_istore_3 (pc := 5) hc dX3_areHome_5 rfl ?_
  exact loop ri 0 _ (by omega) (hC.same (sp_night_same M)) rfl
theorem ct_lure (hE : tw_E G T) (hN : sp_t0 M = N) (hcy : sp_city N) (hf : sp_fok N) (ro ow ri d : Nat) (hC : sp_cty N ro ow ri) (g : Nat → Nat) (hg : sp_grs N ro g) (a b : Int32) : wt_Ct l G yX3_lure cX3_lure 11 (some .int) 6 0 0 [.ref T.1, .int a, .int b] (tw_Z G T M w) (sp_luP G T N w ro (if 0 ≤ a ∧ a < nI (2 ^ ri) ∧ 0 ≤ b then 0 else 1) (sp_ln N g ro a (sp_end N b) 4 0)) := by
  have h0 : N 0 0 = 0 := by rw [← hN]; rfl
  have hro := hC.1
  have hri := hC.2.2.1
  have h4r := sp_pow4 ro hro
  refine wt_enter [some (.ref T.1), some (.int a), some (.int b), none, none, none, none, none, none, none, none] (by decide +kernel) rfl (Nat.le_of_ble_eq_true rfl) (fun X hc hok => ?_)
  by_cases hp : 0 ≤ a ∧ a < nI (2 ^ ri) ∧ 0 ≤ b
  · rw [if_pos hp] at hok
    -- one number by fours
    have scan : ∀ (n x : Nat), n ≤ 3 → x < 4 ^ ro → ∀ (k r : Nat) (M' : wt_It), r + k = ro → sp_Q N M' → M' 0 0 = 0 → (∀ j, j < r → M' 64 j = nI (sp_dg ro x j)) → (∀ M'', sp_Q N M'' → M'' 0 0 = 0 → (∀ j, j < ro → M'' 64 j = nI (sp_dg ro x j)) → sp_cand g ro n x = true → wt_V G X 210 [some (.ref T.1), some (.int a), some (.int b), some (.int (sp_end N b)), some (.int (nI (4 ^ ro))), some (.int (nI n)), some (.int (nI x)), none, none, none, none] [] (tw_Z G T M'' w) 0 0) → (∀ M'', sp_Q N M'' → M'' 0 0 = 0 → sp_cand g ro n x = false → wt_V G X 320 [some (.ref T.1), some (.int a), some (.int b), some (.int (sp_end N b)), some (.int (nI (4 ^ ro))), some (.int (nI n)), some (.int (nI x)), none, none, none, none] [] (tw_Z G T M'' w) 0 0) → wt_V G X 104 [some (.ref T.1), some (.int a), some (.int b), some (.int (sp_end N b)), some (.int (nI (4 ^ ro))), some (.int (nI n)), some (.int (nI x)), some (.int (nI (sp_dsum ro x r))), some (.int (sp_i (sp_dfit g ro x r))), some (.int (nI r)), none] [] (tw_Z G T M' w) 0 0 := by
      intro n x hn hx k
      have out : ∀ (r : Nat) (M' : wt_It), r ≤ ro → sp_Q N M' → M' 0 0 = 0 → (∀ j, j < r → M' 64 j = nI (sp_dg ro x j)) → (r = ro ∨ n < sp_dsum ro x r) → (∀ M'', sp_Q N M'' → M'' 0 0 = 0 → (∀ j, j < ro → M'' 64 j = nI (sp_dg ro x j)) → sp_cand g ro n x = true → wt_V G X 210 [some (.ref T.1), some (.int a), some (.int b), some (.int (sp_end N b)), some (.int (nI (4 ^ ro))), some (.int (nI n)), some (.int (nI x)), none, none, none, none] [] (tw_Z G T M'' w) 0 0) → (∀ M'', sp_Q N M'' → M'' 0 0 = 0 → sp_cand g ro n x = false → wt_V G X 320 [some (.ref T.1), some (.int a), some (.int b), some (.int (sp_end N b)), some (.int (nI (4 ^ ro))), some (.int (nI n)), some (.int (nI x)), none, none, none, none] [] (tw_Z G T M'' w) 0 0) → wt_V G X 195 [some (.ref T.1), some (.int a), some (.int b), some (.int (sp_end N b)), some (.int (nI (4 ^ ro))), some (.int (nI n)), some (.int (nI x)), some (.int (nI (sp_dsum ro x r))), some (.int (sp_i (sp_dfit g ro x r))), some (.int (nI r)), none] [] (tw_Z G T M' w) 0 0 := by
        intro r M' hr hQ' hT' h64 hcase hyes hno
        have hsl := sp_dsum_le ro x r
        have hgt : n < sp_dsum ro x r → sp_cand g ro n x = false := fun h => by
          have := sp_dsum_mono ro x hr
          unfold sp_cand
          rw [decide_eq_false (show ¬ sp_dsum ro x ro = n by omega), Bool.and_false]
        cases hfv : sp_dfit g ro x r with
        | false =>
          have cf : sp_cand g ro n x = false := by
            rcases hcase with e | h
            · subst e
              unfold sp_cand
              rw [hfv, Bool.false_and]
            · exact hgt h
          refine wt_iload_8 (pc := 195) hc dX3_lure_195 ?_
          refine wt_if_eq (pc := 197) 320 hc dX3_lure_197 (by decide) (fun _ => ?_) (fun z => absurd z (by decide))
          exact wt_drop (hno M' hQ' hT' cf) ⟨rfl, rfl, rfl, rfl, rfl, rfl, rfl, trivial⟩
        | true =>
          refine wt_iload_8 (pc := 195) hc dX3_lure_195 ?_
          refine wt_if_eq (pc := 197) 320 hc dX3_lure_197 (by decide) (fun z => absurd z (by decide)) (fun _ => ?_)
          refine wt_iload_7 (pc := 200) hc dX3_lure_200 ?_
          refine wt_iload_5 (pc := 202) hc dX3_lure_202 ?_
          refine wt_nicmp_eq (pc := 204) 210 (sp_dsum ro x r) (n) hc dX3_lure_204 (by decide) (by omega) (by omega) (fun c_204 => ?_) (fun c_204 => ?_)
          · rcases hcase with e | h
            · subst e
              exact wt_drop (hyes M' hQ' hT' h64 (by unfold sp_cand; rw [hfv, decide_eq_true c_204, Bool.true_and])) ⟨rfl, rfl, rfl, rfl, rfl, rfl, rfl, trivial⟩
            · omega
          · have cf : sp_cand g ro n x = false := by
              rcases hcase with e | h
              · subst e
                unfold sp_cand
                rw [decide_eq_false c_204, Bool.and_false]
              · exact hgt h
            refine wt_goto (pc := 207) 320 hc dX3_lure_207 (by decide) ?_
            exact wt_drop (hno M' hQ' hT' cf) ⟨rfl, rfl, rfl, rfl, rfl, rfl, rfl, trivial⟩
      induction k with
      | zero =>
        intro r M' hr hQ' hT' h64 hyes hno
        have e : r = ro := by omega
        refine wt_iload_9 (pc := 104) hc dX3_lure_104 ?_
        refine wt_aload_0 (pc := 106) hc dX3_lure_106 ?_
        refine tw_get (pc := 107) 1 (nI ro) hc hE dX3_lure_107 q1605 (by decide) (fun _ _ _ => rfl) rfl ((hC.Q hQ').2.2.2.1) ?_
        refine wt_nicmp_ge (pc := 110) 195 (r) (ro) hc dX3_lure_110 (by decide) (by omega) (by omega) (fun c_110 => ?_) (fun c_110 => ?_)
        · exact out r M' (by omega) hQ' hT' h64 (Or.inl e) hyes hno
        · omega
      | succ k ih =>
        intro r M' hr hQ' hT' h64 hyes hno
        have hsl := sp_dsum_le ro x r
        have e1 := (hC.Q hQ').2.2.2.1
        obtain ⟨hg9, eg⟩ := hg r (by omega)
        have hdg : sp_dg ro x r < 4 := Nat.mod_lt _ (by decide)
        have eg' : M' 47 (4 + r) = nI (g r) := by rw [hQ'.row (k := 47) (by decide) rfl, eg]
        have hqq : sp_Q M' (wt_up2 M' 64 r (nI (sp_dg ro x r))) := sp_Q.of fun k hk => wt_up2_row (sp_S_ne hk).2.2.2.2.2.2.2.2.2.2.2.2.1
        have nxt := ih (r + 1) (wt_up2 M' 64 r (nI (sp_dg ro x r))) (by omega) (hQ'.tr hqq) hT' (fun j hj => by
          by_cases e : j = r
          · rw [e, wt_up2_self]
          · rw [wt_up2_ne (fun z => e z.2)]
            exact h64 j (by omega)) hyes hno
        rw [sp_dsum, sp_dfit] at nxt
        refine wt_iload_9 (pc := 104) hc dX3_lure_104 ?_
        refine wt_aload_0 (pc := 106) hc dX3_lure_106 ?_
        refine tw_get (pc := 107) 1 (nI ro) hc hE dX3_lure_107 q1605 (by decide) (fun _ _ _ => rfl) rfl (e1) ?_
        refine wt_nicmp_ge (pc := 110) 195 (r) (ro) hc dX3_lure_110 (by decide) (by omega) (by omega) (fun c_110 => ?_) (fun c_110 => ?_)
        · omega
        · refine wt_iload_7 (pc := 113) hc dX3_lure_113 ?_
          refine wt_iload_5 (pc := 115) hc dX3_lure_115 ?_
          refine wt_nicmp_gt (pc := 117) 195 (sp_dsum ro x r) (n) hc dX3_lure_117 (by decide) (by omega) (by omega) (fun c_117 => ?_) (fun c_117 => ?_)
          · exact out r M' (by omega) hQ' hT' h64 (Or.inr (by omega)) hyes hno
          · cases hfv : sp_dfit g ro x r with
            | false =>
              rw [hfv, Bool.false_and] at nxt
              refine wt_aload_0 (pc := 120) hc dX3_lure_120 ?_
              refine tw_geta (pc := 121) 64 hc hE dX3_lure_121 q1668 (by decide) (by decide) (fun _ _ _ => rfl) rfl ?_
              refine wt_iload_9 (pc := 124) hc dX3_lure_124 ?_
              refine wt_iload_6 (pc := 126) hc dX3_lure_126 ?_
              refine wt_iconst (pc := 128) (v := nI 2) hc dX3_lure_128 (by decide) ?_
              refine wt_aload_0 (pc := 129) hc dX3_lure_129 ?_
              refine tw_get (pc := 130) 1 (nI ro) hc hE dX3_lure_130 q1605 (by decide) (fun _ _ _ => rfl) rfl (e1) ?_
              refine wt_iconst (pc := 133) (v := nI 1) hc dX3_lure_133 (by decide) ?_
              refine wt_isub (pc := 134) hc dX3_lure_134 ?_
              rw [pk_sub (a := ro) (b := 1) (by omega)]
              refine wt_iload_9 (pc := 135) hc dX3_lure_135 ?_
              refine wt_isub (pc := 137) hc dX3_lure_137 ?_
              rw [pk_sub (a := ro - 1) (b := r) (by omega)]
              refine wt_imul (pc := 138) hc dX3_lure_138 ?_
              rw [pk_mul 2 (ro - 1 - r)]
              refine wt_ishr (pc := 139) hc dX3_lure_139 ?_
              refine wt_iconst (pc := 140) (v := nI 3) hc dX3_lure_140 (by decide) ?_
              refine wt_iand (pc := 141) hc dX3_lure_141 ?_
              rw [sp_dig hro (by omega)]
              refine tw_iast (pc := 142) (k := 64) (r) hc hE dX3_lure_142 rfl (rfl) (by show _ < 10; omega) (by decide) ?_
              refine wt_iload_7 (pc := 143) hc dX3_lure_143 ?_
              refine wt_aload_0 (pc := 145) hc dX3_lure_145 ?_
              refine tw_geta (pc := 146) 64 hc hE dX3_lure_146 q1668 (by decide) (by decide) (fun _ _ _ => rfl) rfl ?_
              refine wt_iload_9 (pc := 149) hc dX3_lure_149 ?_
              refine tw_iald (pc := 151) (k := 64) (r) (nI (sp_dg ro x r)) hc hE dX3_lure_151 rfl (rfl) (by show _ < 10; omega) (by decide) (wt_up2_self _ _ _ _) ?_
              refine wt_iadd (pc := 152) hc dX3_lure_152 ?_
              rw [nI_add (sp_dsum ro x r) (sp_dg ro x r)]
              refine wt_istore_7 (pc := 153) hc dX3_lure_153 rfl ?_
              refine wt_iload_8 (pc := 155) hc dX3_lure_155 ?_
              refine wt_if_eq (pc := 157) 186 hc dX3_lure_157 (by decide) (fun _ => ?_) (fun z => absurd z (by decide))
              refine wt_iconst (pc := 186) (v := nI 0) hc dX3_lure_186 (by decide) ?_
              refine wt_istore_8 (pc := 187) hc dX3_lure_187 rfl ?_
              refine wt_iinc_9 (pc := 189) (v := nI (r + 1)) hc dX3_lure_189 (nI_add r 1) rfl ?_
              refine wt_goto (pc := 192) 104 hc dX3_lure_192 (by decide) ?_
              exact nxt
            | true =>
              rw [hfv, Bool.true_and] at nxt
              refine wt_aload_0 (pc := 120) hc dX3_lure_120 ?_
              refine tw_geta (pc := 121) 64 hc hE dX3_lure_121 q1668 (by decide) (by decide) (fun _ _ _ => rfl) rfl ?_
              refine wt_iload_9 (pc := 124) hc dX3_lure_124 ?_
              refine wt_iload_6 (pc := 126) hc dX3_lure_126 ?_
              refine wt_iconst (pc := 128) (v := nI 2) hc dX3_lure_128 (by decide) ?_
              refine wt_aload_0 (pc := 129) hc dX3_lure_129 ?_
              refine tw_get (pc := 130) 1 (nI ro) hc hE dX3_lure_130 q1605 (by decide) (fun _ _ _ => rfl) rfl (e1) ?_
              refine wt_iconst (pc := 133) (v := nI 1) hc dX3_lure_133 (by decide) ?_
              refine wt_isub (pc := 134) hc dX3_lure_134 ?_
              rw [pk_sub (a := ro) (b := 1) (by omega)]
              refine wt_iload_9 (pc := 135) hc dX3_lure_135 ?_
              refine wt_isub (pc := 137) hc dX3_lure_137 ?_
              rw [pk_sub (a := ro - 1) (b := r) (by omega)]
              refine wt_imul (pc := 138) hc dX3_lure_138 ?_
              rw [pk_mul 2 (ro - 1 - r)]
              refine wt_ishr (pc := 139) hc dX3_lure_139 ?_
              refine wt_iconst (pc := 140) (v := nI 3) hc dX3_lure_140 (by decide) ?_
              refine wt_iand (pc := 141) hc dX3_lure_141 ?_
              rw [sp_dig hro (by omega)]
              refine tw_iast (pc := 142) (k := 64) (r) hc hE dX3_lure_142 rfl (rfl) (by show _ < 10; omega) (by decide) ?_
              refine wt_iload_7 (pc := 143) hc dX3_lure_143 ?_
              refine wt_aload_0 (pc := 145) hc dX3_lure_145 ?_
              refine tw_geta (pc := 146) 64 hc hE dX3_lure_146 q1668 (by decide) (by decide) (fun _ _ _ => rfl) rfl ?_
              refine wt_iload_9 (pc := 149) hc dX3_lure_149 ?_
              refine tw_iald (pc := 151) (k := 64) (r) (nI (sp_dg ro x r)) hc hE dX3_lure_151 rfl (rfl) (by show _ < 10; omega) (by decide) (wt_up2_self _ _ _ _) ?_
              refine wt_iadd (pc := 152) hc dX3_lure_152 ?_
              rw [nI_add (sp_dsum ro x r) (sp_dg ro x r)]
              refine wt_istore_7 (pc := 153) hc dX3_lure_153 rfl ?_
              refine wt_iload_8 (pc := 155) hc dX3_lure_155 ?_
              refine wt_if_eq (pc := 157) 186 hc dX3_lure_157 (by decide) (fun z => absurd z (by decide)) (fun _ => ?_)
              refine wt_aload_0 (pc := 160) hc dX3_lure_160 ?_
              refine tw_geta (pc := 161) 47 hc hE dX3_lure_161 q1651 (by decide) (by decide) (fun _ _ _ => rfl) rfl ?_
              refine wt_iconst (pc := 164) (v := nI 4) hc dX3_lure_164 (by decide) ?_
              refine wt_iload_9 (pc := 165) hc dX3_lure_165 ?_
              refine wt_iadd (pc := 167) hc dX3_lure_167 ?_
              rw [nI_add 4 r]
              refine tw_iald (pc := 168) (k := 47) (4 + r) (nI (g r)) hc hE dX3_lure_168 rfl (rfl) (by show _ < 19; omega) (by decide) (eg') ?_
              refine wt_aload_0 (pc := 169) hc dX3_lure_169 ?_
              refine tw_geta (pc := 170) 64 hc hE dX3_lure_170 q1668 (by decide) (by decide) (fun _ _ _ => rfl) rfl ?_
              refine wt_iload_9 (pc := 173) hc dX3_lure_173 ?_
              refine tw_iald (pc := 175) (k := 64) (r) (nI (sp_dg ro x r)) hc hE dX3_lure_175 rfl (rfl) (by show _ < 10; omega) (by decide) (wt_up2_self _ _ _ _) ?_
              refine wt_iadd (pc := 176) hc dX3_lure_176 ?_
              rw [nI_add (g r) (sp_dg ro x r)]
              refine wt_bipush (pc := 177) (v := nI 9) hc dX3_lure_177 (by decide) ?_
              refine wt_nicmp_gt (pc := 179) 186 (g r + (sp_dg ro x r)) (9) hc dX3_lure_179 (by decide) (by omega) (by omega) (fun c_179 => ?_) (fun c_179 => ?_)
              · refine wt_iconst (pc := 186) (v := nI 0) hc dX3_lure_186 (by decide) ?_
                refine wt_istore_8 (pc := 187) hc dX3_lure_187 rfl ?_
                refine wt_iinc_9 (pc := 189) (v := nI (r + 1)) hc dX3_lure_189 (nI_add r 1) rfl ?_
                refine wt_goto (pc := 192) 104 hc dX3_lure_192 (by decide) ?_
                first | (rw [decide_eq_true (show g r + sp_dg ro x r ≤ 9 by omega)] at nxt; exact nxt) | (rw [decide_eq_false (show ¬ g r + sp_dg ro x r ≤ 9 by omega)] at nxt; exact nxt)
              · refine wt_iconst (pc := 182) (v := nI 1) hc dX3_lure_182 (by decide) ?_
                refine wt_goto (pc := 183) 187 hc dX3_lure_183 (by decide) ?_
                refine wt_istore_8 (pc := 187) hc dX3_lure_187 rfl ?_
                refine wt_iinc_9 (pc := 189) (v := nI (r + 1)) hc dX3_lure_189 (nI_add r 1) rfl ?_
                refine wt_goto (pc := 192) 104 hc dX3_lure_192 (by decide) ?_
                first | (rw [decide_eq_true (show g r + sp_dg ro x r ≤ 9 by omega)] at nxt; exact nxt) | (rw [decide_eq_false (show ¬ g r + sp_dg ro x r ≤ 9 by omega)] at nxt; exact nxt)
    -- one number tried
    have one : ∀ (n x : Nat), n ≤ 3 → x < 4 ^ ro → (sp_ln N g ro a (sp_end N b) 4 0 = some (n, x) ∨ ¬ sp_ahv (sp_gr N ro x) a (sp_end N b) = true) → (sp_ahv (sp_gr N ro x) a (sp_end N b) = false → ∀ M'', sp_Q N M'' → M'' 0 0 = 0 → wt_V G X 320 [some (.ref T.1), some (.int a), some (.int b), some (.int (sp_end N b)), some (.int (nI (4 ^ ro))), some (.int (nI n)), some (.int (nI x)), none, none, none, none] [] (tw_Z G T M'' w) 0 0) → ∀ M', sp_Q N M' → M' 0 0 = 0 → (∀ j, j < ro → M' 64 j = nI (sp_dg ro x j)) → wt_V G X 210 [some (.ref T.1), some (.int a), some (.int b), some (.int (sp_end N b)), some (.int (nI (4 ^ ro))), some (.int (nI n)), some (.int (nI x)), none, none, none, none] [] (tw_Z G T M' w) 0 0 := by
      intro n x hn hx hres hno M' hQ' hT' h64
      have hQg : sp_Q (sp_gr N ro x) (sp_g4 (fun r => M' 47 (4 + r) + M' 64 r) ro M') := by
        refine ⟨fun k hk0 hk => ?_, fun j hj => ?_⟩
        · by_cases e : k = 47
          · subst e
            funext j
            unfold sp_gr
            by_cases hj : 4 ≤ j ∧ j < 4 + ro
            · obtain ⟨r, rfl⟩ : ∃ r, j = 4 + r := ⟨j - 4, by omega⟩
              rw [sp_g4_in (by omega), sp_g4_in (by omega), h64 r (by omega), hQ'.row (k := 47) (by decide) rfl]
            · rw [sp_g4_hi hj, sp_g4_hi hj, hQ'.row (k := 47) (by decide) rfl]
          · unfold sp_gr
            rw [sp_g4_row e, sp_g4_row e, hQ'.row hk0 hk]
        · unfold sp_gr
          rw [sp_g4_row (by decide), sp_g4_row (by decide), hQ'.2 j hj]
      have hcyg : sp_city (sp_gr N ro x) := by
        unfold sp_city sp_gr
        rw [sp_g4_row (k := 0) (by decide), sp_g4_row (k := 9) (by decide), sp_g4_row (k := 10) (by decide), sp_g4_row (k := 11) (by decide)]
        exact hcy
      have hCg : sp_cty (sp_gr N ro x) ro ow ri := hC.row (fun j _ => congrFun (sp_g4_row (by decide)) j) (sp_g4_row (by decide)) (sp_g4_row (by decide)) (sp_g4_row (by decide))
      have hfg : sp_fok (sp_gr N ro x) := by
        unfold sp_fok sp_gr
        rw [sp_g4_hi (by omega), sp_g4_row (k := 12) (by decide), sp_g4_row (k := 13) (by decide)]
        exact hf
      have hv : (sp_ahL a (sp_end N b) ri 0 (sp_night (sp_g4 (fun r => M' 47 (4 + r) + M' 64 r) ro M'))).1 = sp_ahv (sp_gr N ro x) a (sp_end N b) := by
        rw [← sp_ahv_cong hcyg hfg hQg a (sp_end N b)]
        unfold sp_ahv
        rw [(hCg.Q hQg).2.2.2.2.2.1, nn_nI (by omega)]
      generalize hM3 : (sp_ahL a (sp_end N b) ri 0 (sp_night (sp_g4 (fun r => M' 47 (4 + r) + M' 64 r) ro M'))).2 = M3
      have hQ3 : sp_Q (sp_gr N ro x) M3 := by
        rw [← hM3]
        exact hQg.tr ((sp_Q.night _).tr (sp_Q.of fun k hk => sp_ahL_row _ _ _ _ _ _ (sp_S_ne hk).2.2.2.2.2.2.2.2.2.1))
      have e64 : M3 64 = M' 64 := by
        rw [← hM3, sp_ahL_row _ _ _ _ _ _ (by decide), sp_night_same _ 64 (by decide) (by decide) (by decide) (by decide) (by decide) (by decide) (by decide) (by decide), sp_g4_row (by decide)]
      have hT3 : M3 0 0 = 0 := by
        rw [← hM3, sp_ahL_row _ _ _ _ _ _ (by decide), sp_S_night _ rfl, sp_g4_row (by decide)]
        exact hT'
      have hQ4 : sp_Q N (sp_g4 (fun r => M3 47 (4 + r) - M3 64 r) ro M3) := by
        refine ⟨fun k hk0 hk => ?_, fun j hj => ?_⟩
        · by_cases e : k = 47
          · subst e
            funext j
            have e47 : M3 47 = sp_gr N ro x 47 := hQ3.row (by decide) rfl
            by_cases hj : 4 ≤ j ∧ j < 4 + ro
            · obtain ⟨r, rfl⟩ : ∃ r, j = 4 + r := ⟨j - 4, by omega⟩
              rw [sp_g4_in (by omega), e47, e64, h64 r (by omega)]
              unfold sp_gr
              rw [sp_g4_in (by omega)]
              exact Int32.add_sub_cancel _ _
            · rw [sp_g4_hi hj, e47]
              unfold sp_gr
              rw [sp_g4_hi hj]
          · rw [sp_g4_row e, hQ3.row hk0 hk]
            unfold sp_gr
            rw [sp_g4_row e]
        · rw [sp_g4_row (by decide), hQ3.2 j hj]
          unfold sp_gr
          rw [sp_g4_row (by decide)]
      have hT4 : sp_g4 (fun r => M3 47 (4 + r) - M3 64 r) ro M3 0 0 = 0 := (congrFun (sp_g4_row (by decide)) 0).trans hT3
      have e164 : ∀ j, sp_g4 (fun r => M3 47 (4 + r) - M3 64 r) ro M3 64 j = M' 64 j := fun j => (congrFun (sp_g4_row (by decide)) j).trans (congrFun e64 j)
      have fin : wt_V G X 292 [some (.ref T.1), some (.int a), some (.int b), some (.int (sp_end N b)), some (.int (nI (4 ^ ro))), some (.int (nI n)), some (.int (nI x)), none, none, some (.int (sp_i (sp_ahv (sp_gr N ro x) a (sp_end N b)))), none] [] (tw_Z G T (sp_g4 (fun r => M3 47 (4 + r) - M3 64 r) ro M3) w) 0 0 := by
        cases hb : sp_ahv (sp_gr N ro x) a (sp_end N b) with
        | false =>
          refine wt_iload_9 (pc := 292) hc dX3_lure_292 ?_
          refine wt_if_ne (pc := 294) 300 hc dX3_lure_294 (by decide) (fun z => absurd z (by decide)) (fun _ => ?_)
          refine wt_goto (pc := 297) 320 hc dX3_lure_297 (by decide) ?_
          exact wt_drop (hno hb _ hQ4 hT4) ⟨rfl, rfl, rfl, rfl, rfl, rfl, rfl, trivial⟩
        | true =>
          have hr := hres.resolve_right (fun z => z hb)
          rw [hr] at hok
          refine wt_iload_9 (pc := 292) hc dX3_lure_292 ?_
          refine wt_if_ne (pc := 294) 300 hc dX3_lure_294 (by decide) (fun _ => ?_) (fun z => absurd z (by decide))
          refine wt_aload_0 (pc := 300) hc dX3_lure_300 ?_
          refine wt_aload_0 (pc := 301) hc dX3_lure_301 ?_
          refine tw_geta (pc := 302) 64 hc hE dX3_lure_302 q1668 (by decide) (by decide) (fun _ _ _ => rfl) rfl ?_
          refine wt_aload_0 (pc := 305) hc dX3_lure_305 ?_
          refine tw_geta (pc := 306) 63 hc hE dX3_lure_306 q1667 (by decide) (by decide) (fun _ _ _ => rfl) rfl ?_
          refine wt_gov (tw_inv (pc := 309) 2 hc hE (ct_copies hE 64 63 (by decide) (by decide) (by decide) (by decide) rfl rfl) dX3_lure_309 rfl q1965 q1967 qs78 q116 q1968 (by decide +kernel) rfl (by decide) (by decide) (Nat.le_of_ble_eq_true rfl) rfl) (Nat.zero_le _) (Nat.zero_le _) ?_
          refine wt_aload_0 (pc := 312) hc dX3_lure_312 ?_
          refine wt_iconst (pc := 313) (v := nI 1) hc dX3_lure_313 (by decide) ?_
          refine tw_put (pc := 314) 65 hc hE dX3_lure_314 q1669 (by decide) (fun _ _ _ => rfl) rfl rfl (rfl) rfl ?_
          refine wt_iload_5 (pc := 317) hc dX3_lure_317 ?_
          exact wt_iret (pc := 319) hc hok dX3_lure_319 (rfl) (fun H hZ => ⟨_, wt_up2 (sp_cp (sp_g4 (fun r => M3 47 (4 + r) - M3 64 r) ro M3) 64 63 10) 0 65 (nI 1), rfl, (wt_up2_ne (fun z => by cases z.2)).trans ((congrFun (sp_cp_row (by decide)) 0).trans hT4), by
            rw [if_pos rfl]
            refine ⟨rfl, ⟨fun k h1 h2 h3 => ?_, fun j h1 h2 => ?_⟩, rfl, fun j hj => ?_⟩
            · rw [wt_up2_row h1, sp_cp_row h2]; exact hQ4.row h1 h3
            · rw [wt_up2_ne (fun z => h2 z.2), sp_cp_row (by decide)]; exact hQ4.2 j h1
            · rw [wt_up2_row (by decide)]
              exact (if_pos ⟨rfl, by show j < 10; omega⟩).trans ((e164 j).trans (h64 j hj)), hZ⟩)
      have undo : ∀ (k r : Nat), r + k = ro → wt_V G X 258 [some (.ref T.1), some (.int a), some (.int b), some (.int (sp_end N b)), some (.int (nI (4 ^ ro))), some (.int (nI n)), some (.int (nI x)), none, none, some (.int (sp_i (sp_ahv (sp_gr N ro x) a (sp_end N b)))), some (.int (nI r))] [] (tw_Z G T (sp_g4 (fun r => M3 47 (4 + r) - M3 64 r) r M3) w) 0 0 := by
        intro k
        induction k with
        | zero =>
          intro r hr
          have e : r = ro := by omega
          subst e
          refine wt_iload_10 (pc := 258) hc dX3_lure_258 ?_
          refine wt_aload_0 (pc := 260) hc dX3_lure_260 ?_
          refine tw_get (pc := 261) 1 (nI r) hc hE dX3_lure_261 q1605 (by decide) (fun _ _ _ => rfl) rfl ((hC.Q hQ4).2.2.2.1) ?_
          refine wt_nicmp_ge (pc := 264) 292 (r) (r) hc dX3_lure_264 (by decide) (by omega) (by omega) (fun c_264 => ?_) (fun c_264 => ?_)
          · exact wt_drop fin ⟨rfl, rfl, rfl, rfl, rfl, rfl, rfl, rfl, trivial⟩
          · omega
        | succ k ih =>
          intro r hr
          refine wt_iload_10 (pc := 258) hc dX3_lure_258 ?_
          refine wt_aload_0 (pc := 260) hc dX3_lure_260 ?_
          refine tw_get (pc := 261) 1 (nI ro) hc hE dX3_lure_261 q1605 (by decide) (fun _ _ _ => rfl) rfl ((congrFun (sp_g4_row (by decide)) 1).trans (hCg.Q hQ3).2.2.2.1) ?_
          refine wt_nicmp_ge (pc := 264) 292 (r) (ro) hc dX3_lure_264 (by decide) (by omega) (by omega) (fun c_264 => ?_) (fun c_264 => ?_)
          · omega
          · refine wt_aload_0 (pc := 267) hc dX3_lure_267 ?_
            refine tw_geta (pc := 268) 47 hc hE dX3_lure_268 q1651 (by decide) (by decide) (fun _ _ _ => rfl) rfl ?_
            refine wt_iconst (pc := 271) (v := nI 4) hc dX3_lure_271 (by decide) ?_
            refine wt_iload_10 (pc := 272) hc dX3_lure_272 ?_
            refine wt_iadd (pc := 274) hc dX3_lure_274 ?_
            rw [nI_add 4 r]
            refine wt_dup2 (pc := 275) hc dX3_lure_275 rfl rfl ?_
            refine tw_iald (pc := 276) (k := 47) (4 + r) (M3 47 (4 + r)) hc hE dX3_lure_276 rfl (rfl) (by show _ < 19; omega) (by decide) (sp_g4_at _ r M3) ?_
            refine wt_aload_0 (pc := 277) hc dX3_lure_277 ?_
            refine tw_geta (pc := 278) 64 hc hE dX3_lure_278 q1668 (by decide) (by decide) (fun _ _ _ => rfl) rfl ?_
            refine wt_iload_10 (pc := 281) hc dX3_lure_281 ?_
            refine tw_iald (pc := 283) (k := 64) (r) (M3 64 r) hc hE dX3_lure_283 rfl (rfl) (by show _ < 10; omega) (by decide) (congrFun (sp_g4_row (by decide)) r) ?_
            refine wt_isub (pc := 284) hc dX3_lure_284 ?_
            refine tw_iast (pc := 285) (k := 47) (4 + r) hc hE dX3_lure_285 rfl (rfl) (by show _ < 19; omega) (by decide) ?_
            refine tw_eq (sp_g4_up (fun r => M3 47 (4 + r) - M3 64 r) r M3) ?_
            refine wt_iinc_10 (pc := 286) (v := nI (r + 1)) hc dX3_lure_286 (nI_add r 1) rfl ?_
            refine wt_goto (pc := 289) 258 hc dX3_lure_289 (by decide) ?_
            exact ih (r + 1) (by omega)
      have put : ∀ (k r : Nat), r + k = ro → wt_V G X 213 [some (.ref T.1), some (.int a), some (.int b), some (.int (sp_end N b)), some (.int (nI (4 ^ ro))), some (.int (nI n)), some (.int (nI x)), none, none, some (.int (nI r)), none] [] (tw_Z G T (sp_g4 (fun r => M' 47 (4 + r) + M' 64 r) r M') w) 0 0 := by
        intro k
        induction k with
        | zero =>
          intro r hr
          have e : r = ro := by omega
          subst e
          refine wt_iload_9 (pc := 213) hc dX3_lure_213 ?_
          refine wt_aload_0 (pc := 215) hc dX3_lure_215 ?_
          refine tw_get (pc := 216) 1 (nI r) hc hE dX3_lure_216 q1605 (by decide) (fun _ _ _ => rfl) rfl ((hCg.Q hQg).2.2.2.1) ?_
          refine wt_nicmp_ge (pc := 219) 247 (r) (r) hc dX3_lure_219 (by decide) (by omega) (by omega) (fun c_219 => ?_) (fun c_219 => ?_)
          · refine wt_aload_0 (pc := 247) hc dX3_lure_247 ?_
            refine wt_iload_1 (pc := 248) hc dX3_lure_248 ?_
            refine wt_iload_3 (pc := 249) hc dX3_lure_249 ?_
            refine wt_gofn (tw_inv (pc := 250) 2 hc hE (ct_areHome hE r ow ri (hcyg.Q hQg) (hCg.Q hQg) (hfg.Q hQg) a (sp_end N b)) dX3_lure_250 rfl q2151 q2153 qs101 q116 q2154 (by decide +kernel) rfl (by decide) (by decide) (Nat.le_of_ble_eq_true rfl) rfl) ?_
            rw [hv, hM3]
            refine wt_istore_9 (pc := 253) hc dX3_lure_253 rfl ?_
            refine wt_iconst (pc := 255) (v := nI 0) hc dX3_lure_255 (by decide) ?_
            refine wt_istore_10 (pc := 256) hc dX3_lure_256 rfl ?_
            have u0 := undo r 0 (by omega)
            rw [sp_g4_0] at u0
            exact wt_drop u0 ⟨rfl, rfl, rfl, rfl, rfl, rfl, rfl, rfl, rfl, trivial⟩
          · omega
        | succ k ih =>
          intro r hr
          refine wt_iload_9 (pc := 213) hc dX3_lure_213 ?_
          refine wt_aload_0 (pc := 215) hc dX3_lure_215 ?_
          refine tw_get (pc := 216) 1 (nI ro) hc hE dX3_lure_216 q1605 (by decide) (fun _ _ _ => rfl) rfl ((congrFun (sp_g4_row (by decide)) 1).trans (hC.Q hQ').2.2.2.1) ?_
          refine wt_nicmp_ge (pc := 219) 247 (r) (ro) hc dX3_lure_219 (by decide) (by omega) (by omega) (fun c_219 => ?_) (fun c_219 => ?_)
          · omega
          · refine wt_aload_0 (pc := 222) hc dX3_lure_222 ?_
            refine tw_geta (pc := 223) 47 hc hE dX3_lure_223 q1651 (by decide) (by decide) (fun _ _ _ => rfl) rfl ?_
            refine wt_iconst (pc := 226) (v := nI 4) hc dX3_lure_226 (by decide) ?_
            refine wt_iload_9 (pc := 227) hc dX3_lure_227 ?_
            refine wt_iadd (pc := 229) hc dX3_lure_229 ?_
            rw [nI_add 4 r]
            refine wt_dup2 (pc := 230) hc dX3_lure_230 rfl rfl ?_
            refine tw_iald (pc := 231) (k := 47) (4 + r) (M' 47 (4 + r)) hc hE dX3_lure_231 rfl (rfl) (by show _ < 19; omega) (by decide) (sp_g4_at _ r M') ?_
            refine wt_aload_0 (pc := 232) hc dX3_lure_232 ?_
            refine tw_geta (pc := 233) 64 hc hE dX3_lure_233 q1668 (by decide) (by decide) (fun _ _ _ => rfl) rfl ?_
            refine wt_iload_9 (pc := 236) hc dX3_lure_236 ?_
            refine tw_iald (pc := 238) (k := 64) (r) (M' 64 r) hc hE dX3_lure_238 rfl (rfl) (by show _ < 10; omega) (by decide) (congrFun (sp_g4_row (by decide)) r) ?_
            refine wt_iadd (pc := 239) hc dX3_lure_239 ?_
            refine tw_iast (pc := 240) (k := 47) (4 + r) hc hE dX3_lure_240 rfl (rfl) (by show _ < 19; omega) (by decide) ?_
            refine tw_eq (sp_g4_up (fun r => M' 47 (4 + r) + M' 64 r) r M') ?_
            refine wt_iinc_9 (pc := 241) (v := nI (r + 1)) hc dX3_lure_241 (nI_add r 1) rfl ?_
            refine wt_goto (pc := 244) 213 hc dX3_lure_244 (by decide) ?_
            exact ih (r + 1) (by omega)
      refine wt_iconst (pc := 210) (v := nI 0) hc dX3_lure_210 (by decide) ?_
      refine wt_istore_9 (pc := 211) hc dX3_lure_211 rfl ?_
      have p0 := put ro 0 (by omega)
      rw [sp_g4_0] at p0
      exact wt_drop p0 ⟨rfl, rfl, rfl, rfl, rfl, rfl, rfl, rfl, trivial⟩
    have xl : ∀ (n : Nat), n ≤ 3 → n ≤ 3 * ro → ∀ (k x : Nat) (M' : wt_It), x + k = 4 ^ ro → sp_Q N M' → M' 0 0 = 0 → (∀ y, sp_lx N g ro a (sp_end N b) n k x = some y → sp_ln N g ro a (sp_end N b) 4 0 = some (n, y)) → (sp_lx N g ro a (sp_end N b) n k x = none → ∀ M'', sp_Q N M'' → M'' 0 0 = 0 → wt_V G X 326 [some (.ref T.1), some (.int a), some (.int b), some (.int (sp_end N b)), some (.int (nI (4 ^ ro))), some (.int (nI n)), none, none, none, none, none] [] (tw_Z G T M'' w) 0 0) → wt_V G X 88 [some (.ref T.1), some (.int a), some (.int b), some (.int (sp_end N b)), some (.int (nI (4 ^ ro))), some (.int (nI n)), some (.int (nI x)), none, none, none, none] [] (tw_Z G T M' w) 0 0 := by
      intro n hn hn3 k
      induction k with
      | zero =>
        intro x M' hx hQ' hT' hyes hno
        refine wt_iload_6 (pc := 88) hc dX3_lure_88 ?_
        refine wt_iload_4 (pc := 90) hc dX3_lure_90 ?_
        refine wt_nicmp_ge (pc := 92) 326 (x) (4 ^ ro) hc dX3_lure_92 (by decide) (by omega) (by omega) (fun c_92 => ?_) (fun c_92 => ?_)
        · exact wt_drop (hno rfl M' hQ' hT') ⟨rfl, rfl, rfl, rfl, rfl, rfl, trivial⟩
        · omega
      | succ k ih =>
        intro x M' hx hQ' hT' hyes hno
        have elx : sp_lx N g ro a (sp_end N b) n (k + 1) x = if sp_cand g ro n x = true ∧ sp_ahv (sp_gr N ro x) a (sp_end N b) = true then some x else sp_lx N g ro a (sp_end N b) n k (x + 1) := rfl
        have nxt : ¬ (sp_cand g ro n x = true ∧ sp_ahv (sp_gr N ro x) a (sp_end N b) = true) → ∀ M'', sp_Q N M'' → M'' 0 0 = 0 → wt_V G X 320 [some (.ref T.1), some (.int a), some (.int b), some (.int (sp_end N b)), some (.int (nI (4 ^ ro))), some (.int (nI n)), some (.int (nI x)), none, none, none, none] [] (tw_Z G T M'' w) 0 0 := by
          intro hc' M'' h1 h2
          rw [if_neg hc'] at elx
          rw [elx] at hyes hno
          refine wt_iinc_6 (pc := 320) (v := nI (x + 1)) hc dX3_lure_320 (nI_add x 1) rfl ?_
          refine wt_goto (pc := 323) 88 hc dX3_lure_323 (by decide) ?_
          exact ih (x + 1) M'' (by omega) h1 h2 hyes hno
        refine wt_iload_6 (pc := 88) hc dX3_lure_88 ?_
        refine wt_iload_4 (pc := 90) hc dX3_lure_90 ?_
        refine wt_nicmp_ge (pc := 92) 326 (x) (4 ^ ro) hc dX3_lure_92 (by decide) (by omega) (by omega) (fun c_92 => ?_) (fun c_92 => ?_)
        · omega
        · refine wt_iconst (pc := 95) (v := nI 0) hc dX3_lure_95 (by decide) ?_
          refine wt_istore_7 (pc := 96) hc dX3_lure_96 rfl ?_
          refine wt_iconst (pc := 98) (v := nI 1) hc dX3_lure_98 (by decide) ?_
          refine wt_istore_8 (pc := 99) hc dX3_lure_99 rfl ?_
          refine wt_iconst (pc := 101) (v := nI 0) hc dX3_lure_101 (by decide) ?_
          refine wt_istore_9 (pc := 102) hc dX3_lure_102 rfl ?_
          refine scan n x hn (by omega) ro 0 M' (by omega) hQ' hT' (fun j hj => absurd hj (Nat.not_lt_zero _)) (fun M'' h1 h2 h3 hcd => ?_) (fun M'' h1 h2 hcd => nxt (fun z => by rw [hcd] at z; cases z.1) M'' h1 h2)
          refine one n x hn (by omega) ?_ (fun hb => nxt (fun z => by rw [hb] at z; cases z.2)) M'' h1 h2 h3
          by_cases hb : sp_ahv (sp_gr N ro x) a (sp_end N b) = true
          · exact Or.inl (hyes x (by rw [elx, if_pos ⟨hcd, hb⟩]))
          · exact Or.inr hb
    have fail : ∀ M', sp_Q N M' → M' 0 0 = 0 → sp_ln N g ro a (sp_end N b) 4 0 = none → wt_V G X 332 [some (.ref T.1), none, none, none, none, none, none, none, none, none, none] [] (tw_Z G T M' w) 0 0 := by
      intro M' h1 h2 h3
      rw [h3] at hok
      refine wt_iconst (pc := 332) (v := (-1 : Int32)) hc dX3_lure_332 (by decide) ?_
      exact wt_iret (pc := 333) hc hok dX3_lure_333 (rfl) (fun H hZ => ⟨_, _, rfl, h2, by rw [if_pos rfl]; exact ⟨rfl, h1⟩, hZ⟩)
    have nl : ∀ (k n : Nat) (M' : wt_It), n + k = 4 → sp_Q N M' → M' 0 0 = 0 → sp_ln N g ro a (sp_end N b) 4 0 = sp_ln N g ro a (sp_end N b) k n → wt_V G X 68 [some (.ref T.1), some (.int a), some (.int b), some (.int (sp_end N b)), some (.int (nI (4 ^ ro))), some (.int (nI n)), none, none, none, none, none] [] (tw_Z G T M' w) 0 0 := by
      intro k
      induction k with
      | zero =>
        intro n M' hn hQ' hT' hv
        refine wt_iload_5 (pc := 68) hc dX3_lure_68 ?_
        refine wt_iconst (pc := 70) (v := nI 3) hc dX3_lure_70 (by decide) ?_
        refine wt_nicmp_gt (pc := 71) 332 (n) (3) hc dX3_lure_71 (by decide) (by omega) (by omega) (fun c_71 => ?_) (fun c_71 => ?_)
        · exact wt_drop (fail M' hQ' hT' hv) ⟨rfl, trivial⟩
        · omega
      | succ k ih =>
        intro n M' hn hQ' hT' hv
        conv at hv => rhs; rw [sp_ln]
        refine wt_iload_5 (pc := 68) hc dX3_lure_68 ?_
        refine wt_iconst (pc := 70) (v := nI 3) hc dX3_lure_70 (by decide) ?_
        refine wt_nicmp_gt (pc := 71) 332 (n) (3) hc dX3_lure_71 (by decide) (by omega) (by omega) (fun c_71 => ?_) (fun c_71 => ?_)
        · omega
        · refine wt_iload_5 (pc := 74) hc dX3_lure_74 ?_
          refine wt_iconst (pc := 76) (v := nI 3) hc dX3_lure_76 (by decide) ?_
          refine wt_aload_0 (pc := 77) hc dX3_lure_77 ?_
          refine tw_get (pc := 78) 1 (nI ro) hc hE dX3_lure_78 q1605 (by decide) (fun _ _ _ => rfl) rfl ((hC.Q hQ').2.2.2.1) ?_
          refine wt_imul (pc := 81) hc dX3_lure_81 ?_
          rw [pk_mul 3 ro]
          refine wt_nicmp_gt (pc := 82) 332 (n) (3 * ro) hc dX3_lure_82 (by decide) (by omega) (by omega) (fun c_82 => ?_) (fun c_82 => ?_)
          · rw [if_neg (by omega)] at hv
            exact wt_drop (fail M' hQ' hT' hv) ⟨rfl, trivial⟩
          · rw [if_pos (by omega)] at hv
            refine wt_iconst (pc := 85) (v := nI 0) hc dX3_lure_85 (by decide) ?_
            refine wt_istore_6 (pc := 86) hc dX3_lure_86 rfl ?_
            refine xl n (by omega) (by omega) (4 ^ ro) 0 M' (by omega) hQ' hT' (fun y hy => by rw [hy] at hv; exact hv) (fun hnone M'' h1 h2 => ?_)
            rw [hnone] at hv
            refine wt_iinc_5 (pc := 326) (v := nI (n + 1)) hc dX3_lure_326 (nI_add n 1) rfl ?_
            refine wt_goto (pc := 329) 68 hc dX3_lure_329 (by decide) ?_
            exact ih (n + 1) M'' (by omega) h1 h2 hv
    have esl : nI 1 <<< (nI ri &&& 31) = nI (2 ^ ri) := sp_shl ri (by omega)
    have key : wt_V G X 54 [some (.ref T.1), some (.int a), some (.int b), none, none, none, none, none, none, none, none] [.int (sp_end N b)] (tw_Z G T N w) 0 0 := by
      refine wt_istore_3 (pc := 54) hc dX3_lure_54 rfl ?_
      refine wt_iconst (pc := 55) (v := nI 1) hc dX3_lure_55 (by decide) ?_
      refine wt_iconst (pc := 56) (v := nI 2) hc dX3_lure_56 (by decide) ?_
      refine wt_aload_0 (pc := 57) hc dX3_lure_57 ?_
      refine tw_get (pc := 58) 1 (nI ro) hc hE dX3_lure_58 q1605 (by decide) (fun _ _ _ => rfl) rfl (hC.2.2.2.1) ?_
      refine wt_imul (pc := 61) hc dX3_lure_61 ?_
      rw [pk_mul 2 ro]
      refine wt_ishl (pc := 62) hc dX3_lure_62 ?_
      rw [sp_shl4 ro hro]
      refine wt_istore_4 (pc := 63) hc dX3_lure_63 rfl ?_
      refine wt_iconst (pc := 65) (v := nI 0) hc dX3_lure_65 (by decide) ?_
      refine wt_istore_5 (pc := 66) hc dX3_lure_66 rfl ?_
      exact nl 4 0 N (by omega) (sp_Q.rf N) h0 rfl
    refine wt_aload_0 (pc := 0) hc dX3_lure_0 ?_
    refine wt_iconst (pc := 1) (v := nI 0) hc dX3_lure_1 (by decide) ?_
    refine tw_put (pc := 2) 0 hc hE dX3_lure_2 q1604 (by decide) (fun _ _ _ => rfl) rfl rfl (rfl) rfl ?_
    refine tw_eq hN ?_
    refine wt_aload_0 (pc := 5) hc dX3_lure_5 ?_
    refine wt_iload_1 (pc := 6) hc dX3_lure_6 ?_
    refine wt_if_lt (pc := 7) 28 hc dX3_lure_7 (by decide) (fun c_7 => ?_) (fun c_7 => ?_)
    · exact absurd c_7 (Int32.not_lt.mpr hp.1)
    · refine wt_iload_1 (pc := 10) hc dX3_lure_10 ?_
      refine wt_iconst (pc := 11) (v := nI 1) hc dX3_lure_11 (by decide) ?_
      refine wt_aload_0 (pc := 12) hc dX3_lure_12 ?_
      refine tw_get (pc := 13) 4 (nI ri) hc hE dX3_lure_13 q1608 (by decide) (fun _ _ _ => rfl) rfl (hC.2.2.2.2.2.1) ?_
      refine wt_ishl (pc := 16) hc dX3_lure_16 ?_
      rw [esl]
      refine wt_icmp_ge (pc := 17) 28 hc dX3_lure_17 (by decide) (fun c_17 => ?_) (fun c_17 => ?_)
      · exact absurd hp.2.1 (Int32.not_lt.mpr c_17)
      · refine wt_iload_2 (pc := 20) hc dX3_lure_20 ?_
        refine wt_if_lt (pc := 21) 28 hc dX3_lure_21 (by decide) (fun c_21 => ?_) (fun c_21 => ?_)
        · exact absurd c_21 (Int32.not_lt.mpr hp.2.2)
        · refine wt_iconst (pc := 24) (v := nI 1) hc dX3_lure_24 (by decide) ?_
          refine wt_goto (pc := 25) 29 hc dX3_lure_25 (by decide) ?_
          refine wt_iconst (pc := 29) (v := nI 1) hc dX3_lure_29 (by decide) ?_
          refine wt_gofn (tw_inv (pc := 30) 2 hc hE (ct_right0 hE h0 _ _) dX3_lure_30 rfl q1850 q1852 qs54 q116 q1853 (by decide +kernel) rfl (by decide) (by decide) (Nat.le_of_ble_eq_true rfl) rfl) ?_
          rw [if_neg (show ¬ nI 1 = 0 by decide), sp_b_t (show ¬ nI 1 = 0 ∨ nI 1 = 0 from Or.inl (by decide))]
          refine wt_if_ne (pc := 33) 38 hc dX3_lure_33 (by decide) (fun c_33 => ?_) (fun c_33 => ?_)
          · refine wt_iload_2 (pc := 38) hc dX3_lure_38 ?_
            refine wt_aload_0 (pc := 39) hc dX3_lure_39 ?_
            refine tw_get (pc := 40) 6 _ hc hE dX3_lure_40 q1610 (by decide) (fun _ _ _ => rfl) rfl (rfl) ?_
            refine wt_icmp_ge (pc := 43) 50 hc dX3_lure_43 (by decide) (fun c_43 => ?_) (fun c_43 => ?_)
            · refine wt_aload_0 (pc := 50) hc dX3_lure_50 ?_
              refine tw_get (pc := 51) 6 _ hc hE dX3_lure_51 q1610 (by decide) (fun _ _ _ => rfl) rfl (rfl) ?_
              refine wt_topi (z := sp_end N b) (by unfold sp_end; first | rw [if_pos c_43] | rw [if_neg c_43]) key
            · refine wt_iload_2 (pc := 46) hc dX3_lure_46 ?_
              refine wt_goto (pc := 47) 54 hc dX3_lure_47 (by decide) ?_
              refine wt_topi (z := sp_end N b) (by unfold sp_end; first | rw [if_pos c_43] | rw [if_neg c_43]) key
          · exact absurd c_33 (by decide)
  · rw [if_neg hp] at hok
    have esl : nI 1 <<< (nI ri &&& 31) = nI (2 ^ ri) := sp_shl ri (by omega)
    have key : wt_V G X 28 [some (.ref T.1), some (.int a), some (.int b), none, none, none, none, none, none, none, none] [.ref T.1] (tw_Z G T N w) 0 0 := by
      refine wt_iconst (pc := 28) (v := nI 0) hc dX3_lure_28 (by decide) ?_
      refine wt_iconst (pc := 29) (v := nI 1) hc dX3_lure_29 (by decide) ?_
      refine wt_gofn (tw_inv (pc := 30) 2 hc hE (ct_right0 hE h0 _ _) dX3_lure_30 rfl q1850 q1852 qs54 q116 q1853 (by decide +kernel) rfl (by decide) (by decide) (Nat.le_of_ble_eq_true rfl) rfl) ?_
      rw [if_pos (show nI 0 = 0 from rfl), sp_b_f (show ¬ (¬ nI 0 = 0 ∨ nI 1 = 0) from fun z => z.elim (fun z => z rfl) (by decide))]
      refine wt_if_ne (pc := 33) 38 hc dX3_lure_33 (by decide) (fun c_33 => ?_) (fun c_33 => ?_)
      · exact absurd rfl c_33
      · refine wt_iconst (pc := 36) (v := nI 0) hc dX3_lure_36 (by decide) ?_
        exact wt_iret (pc := 37) hc hok dX3_lure_37 (rfl) (fun H hZ => ⟨_, _, rfl, rfl, by rw [if_neg (by decide)]; exact ⟨fun k h1 _ => wt_up2_row h1, fun j hj => wt_up2_ne (fun z => hj z.2)⟩, hZ⟩)
    refine wt_aload_0 (pc := 0) hc dX3_lure_0 ?_
    refine wt_iconst (pc := 1) (v := nI 0) hc dX3_lure_1 (by decide) ?_
    refine tw_put (pc := 2) 0 hc hE dX3_lure_2 q1604 (by decide) (fun _ _ _ => rfl) rfl rfl (rfl) rfl ?_
    refine tw_eq hN ?_
    refine wt_aload_0 (pc := 5) hc dX3_lure_5 ?_
    refine wt_iload_1 (pc := 6) hc dX3_lure_6 ?_
    refine wt_if_lt (pc := 7) 28 hc dX3_lure_7 (by decide) (fun c_7 => ?_) (fun c_7 => ?_)
    · exact key
    · refine wt_iload_1 (pc := 10) hc dX3_lure_10 ?_
      refine wt_iconst (pc := 11) (v := nI 1) hc dX3_lure_11 (by decide) ?_
      refine wt_aload_0 (pc := 12) hc dX3_lure_12 ?_
      refine tw_get (pc := 13) 4 (nI ri) hc hE dX3_lure_13 q1608 (by decide) (fun _ _ _ => rfl) rfl (hC.2.2.2.2.2.1) ?_
      refine wt_ishl (pc := 16) hc dX3_lure_16 ?_
      rw [esl]
      refine wt_icmp_ge (pc := 17) 28 hc dX3_lure_17 (by decide) (fun c_17 => ?_) (fun c_17 => ?_)
      · exact key
      · refine wt_iload_2 (pc := 20) hc dX3_lure_20 ?_
        refine wt_if_lt (pc := 21) 28 hc dX3_lure_21 (by decide) (fun c_21 => ?_) (fun c_21 => ?_)
        · exact key
        · exact absurd ⟨Int32.not_lt.mp c_7, Int32.not_le.mp c_17, Int32.not_lt.mp c_21⟩ hp
end TP
