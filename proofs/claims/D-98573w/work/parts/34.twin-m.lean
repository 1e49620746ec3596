/-! THE REFERENCE: prints in the snow: fits, watch -/
set_option maxRecDepth 100000
def sp_sk (A : wt_It) : Nat → Nat → Bool
  | 0, _ => true
  | n + 1, k => if sp_wh A (nn (A 68 (3 * k))) (A 68 (3 * k + 1)) = A 68 (3 * k + 2) then sp_sk A n (k + 1) else false
/-- rules by number: four: none -/
def sp_rx (k : Nat) : Int32 := if k = 4 then -1 else nI k
/-- with x in force all is as it was seen -/
def sp_isv (N : wt_It) (x : Int32) : Bool := sp_sk (sp_night (wt_up2 N 47 0 x)) (nn (N 0 67)) 0
def sp_sn (N : wt_It) (ow s : Nat) : Prop := s ≤ 8 ∧ N 0 67 = nI s ∧ ∀ k, k < s → ∃ o, o < ow ∧ N 68 (3 * k) = nI o
/-- the rule k is there, and fits -/
def sp_fi (N : wt_It) (k : Nat) : Bool := (decide (nI k < N 0 5) || decide (k = 4)) && sp_isv N (sp_rx k)
def sp_ft (N : wt_It) : Nat → Int32
  | 0 => nI 0
  | k + 1 => sp_ft N k ||| (if sp_fi N k = true then nI 1 <<< (nI k &&& 31) else nI 0)
def sp_any (A : wt_It) (m r : Int32) : Nat → Bool
  | 0 => false
  | o + 1 => sp_any A m r o || decide (sp_wh A o m = r)
def sp_wn (N : wt_It) : Nat → Int32
  | 0 => nI 0
  | k + 1 => if sp_fi N k = true then sp_wn N k + nI 1 else sp_wn N k
def sp_wo (N : wt_It) (m : Int32) (r : Nat) : Nat → Int32
  | 0 => nI 0
  | k + 1 => if sp_fi N k = true then sp_wo N m r k + sp_i (sp_any (sp_night (wt_up2 N 47 0 (sp_rx k))) m (nI r) (nn (N 0 3))) else sp_wo N m r k
def sp_off (a b : Int32) : Int32 := if b ≤ a then a - b else b - a
def sp_wb (f : Nat → Int32) (n : Int32) : Nat → Int32
  | 0 => -1
  | r + 1 => if sp_wb f n r = -1 then nI r else if sp_off (nI 2 * f (nn (sp_wb f n r))) n ≤ sp_off (nI 2 * f r) n then sp_wb f n r else nI r
theorem sp_wb_or (f : Nat → Int32) (n : Int32) : ∀ r, sp_wb f n r = -1 ∨ ∃ b, b < r ∧ sp_wb f n r = nI b := by
  intro r
  induction r with
  | zero => exact Or.inl rfl
  | succ r ih =>
    rw [sp_wb]
    split
    · exact Or.inr ⟨r, by omega, rfl⟩
    · split
      · rcases ih with h | ⟨b, h1, h2⟩
        · exact Or.inl h
        · exact Or.inr ⟨b, by omega, h2⟩
      · exact Or.inr ⟨r, by omega, rfl⟩
def sp_wav (N : wt_It) (m : Int32) : Int32 := sp_wb (fun r => sp_wo N m r 5) (sp_wn N 5) (nn (N 0 1))
theorem sp_sn.Q {N M : wt_It} {ow s : Nat} (h : sp_sn N ow s) (hq : sp_Q N M) : sp_sn M ow s := by
  unfold sp_sn
  rw [hq.2 67 (by decide), hq.row (k := 68) (by decide) rfl]
  exact h
theorem sp_cty.wy {M : wt_It} {ro ow ri : Nat} (h : sp_cty M ro ow ri) (hc : sp_city M) : sp_wy M ro ow := by
  obtain ⟨ro', ow', hw⟩ := hc.wy
  have e1 : ro' = ro := (nI_eq (by have := hw.1; omega) (by have := h.1; omega)).mp (hw.2.2.1.symm.trans h.2.2.2.1)
  have e2 : ow' = ow := (nI_eq (by have := hw.2.1; omega) (by have := h.2.1; omega)).mp (hw.2.2.2.1.symm.trans h.2.2.2.2.1)
  subst e1 e2
  exact hw
theorem sp_sk_cong {ro ow s : Nat} {A A' : wt_It} (hw : sp_wy A ro ow) (hL : sp_Ln ro ow A A') (hs : sp_sn A ow s) : ∀ n k, k + n ≤ s → sp_sk A' n k = sp_sk A n k := by
  intro n
  induction n with
  | zero => intro k _; rfl
  | succ n ih =>
    intro k hk
    obtain ⟨o, ho, eo⟩ := hs.2.2 k (by omega)
    rw [sp_sk, sp_sk, hL.1.row (k := 68) (by decide) rfl, eo, nn_nI (by have := hw.2.1; omega), sp_wh_cong hw hL ho, ih (k + 1) (by omega)]
section TM
variable {l : Launch} {G : wt_G} {Z : Heap → Prop} {T : tw_T} {M N : wt_It} {w : Int64}
theorem ct_isSeen (hE : tw_E G T) (ro ow ri s : Nat) (hcy : sp_city M) (hC : sp_cty M ro ow ri) (hs : sp_sn M ow s) (k : Nat) (hk : k ≤ 4) (hf : sp_fok (wt_up2 M 47 0 (sp_rx k))) : wt_Ct l G yX3_isSeen cX3_isSeen 3 (some .boolean) 5 0 0 [.ref T.1, .int (nI k)] (tw_Z G T M w) (wt_fn (sp_i (sp_sk (sp_night (wt_up2 M 47 0 (sp_rx k))) s 0)) (tw_Z G T (sp_night (wt_up2 M 47 0 (sp_rx k))) w)) := by
  have how := hC.2.1
  have hs8 := hs.1
  have hC2 : sp_cty (sp_night (wt_up2 M 47 0 (sp_rx k))) ro ow ri := (show sp_cty (wt_up2 M 47 0 (sp_rx k)) ro ow ri from hC).Q (sp_Q.night _)
  have hs2 : sp_sn (sp_night (wt_up2 M 47 0 (sp_rx k))) ow s := (show sp_sn (wt_up2 M 47 0 (sp_rx k)) ow s from hs).Q (sp_Q.night _)
  refine wt_enter [some (.ref T.1), some (.int (nI k)), none] (by decide +kernel) rfl (Nat.le_of_ble_eq_true rfl) (fun X hc hok => ?_)
  have loop : ∀ (n j : Nat), j + n = s → sp_sk (sp_night (wt_up2 M 47 0 (sp_rx k))) s 0 = sp_sk (sp_night (wt_up2 M 47 0 (sp_rx k))) n j → wt_V G X 22 [some (.ref T.1), some (.int (nI k)), some (.int (nI j))] [] (tw_Z G T (sp_night (wt_up2 M 47 0 (sp_rx k))) w) 0 0 := by
    intro n
    induction n with
    | zero =>
      intro j hj hv
      have e : j = s := by omega
      subst e
      refine wt_iload_2 (pc := 22) hc dX3_isSeen_22 ?_
      refine wt_aload_0 (pc := 23) hc dX3_isSeen_23 ?_
      refine tw_get (pc := 24) 67 (nI j) hc hE dX3_isSeen_24 q1671 (by decide) (fun _ _ _ => rfl) rfl (hs2.2.1) ?_
      refine wt_nicmp_ge (pc := 27) 73 (j) (j) hc dX3_isSeen_27 (by decide) (by omega) (by omega) (fun c_27 => ?_) (fun c_27 => ?_)
      · refine wt_iconst (pc := 73) (v := nI 1) hc dX3_isSeen_73 (by decide) ?_
        exact wt_iret (pc := 74) hc hok dX3_isSeen_74 (rfl) (fun H hZ => ⟨by rw [hv]; rfl, hZ⟩)
      · omega
    | succ n ih =>
      intro j hj hv
      obtain ⟨o, ho, eo⟩ := hs2.2.2 j (by omega)
      obtain ⟨wl, hw⟩ := hC2.2.2.2.2.2.2.1 o ho
      conv at hv => rhs; rw [sp_sk]
      rw [eo, nn_nI (by omega)] at hv
      refine wt_iload_2 (pc := 22) hc dX3_isSeen_22 ?_
      refine wt_aload_0 (pc := 23) hc dX3_isSeen_23 ?_
      refine tw_get (pc := 24) 67 (nI s) hc hE dX3_isSeen_24 q1671 (by decide) (fun _ _ _ => rfl) rfl (hs2.2.1) ?_
      refine wt_nicmp_ge (pc := 27) 73 (j) (s) hc dX3_isSeen_27 (by decide) (by omega) (by omega) (fun c_27 => ?_) (fun c_27 => ?_)
      · omega
      · refine wt_aload_0 (pc := 30) hc dX3_isSeen_30 ?_
        refine wt_aload_0 (pc := 31) hc dX3_isSeen_31 ?_
        refine tw_geta (pc := 32) 68 hc hE dX3_isSeen_32 q1672 (by decide) (by decide) (fun _ _ _ => rfl) rfl ?_
        refine wt_iconst (pc := 35) (v := nI 3) hc dX3_isSeen_35 (by decide) ?_
        refine wt_iload_2 (pc := 36) hc dX3_isSeen_36 ?_
        refine wt_imul (pc := 37) hc dX3_isSeen_37 ?_
        rw [pk_mul 3 j]
        refine tw_iald (pc := 38) (k := 68) (3 * j) (nI o) hc hE dX3_isSeen_38 rfl (rfl) (by show _ < 24; omega) (by decide) (eo) ?_
        refine wt_aload_0 (pc := 39) hc dX3_isSeen_39 ?_
        refine tw_geta (pc := 40) 68 hc hE dX3_isSeen_40 q1672 (by decide) (by decide) (fun _ _ _ => rfl) rfl ?_
        refine wt_iconst (pc := 43) (v := nI 3) hc dX3_isSeen_43 (by decide) ?_
        refine wt_iload_2 (pc := 44) hc dX3_isSeen_44 ?_
        refine wt_imul (pc := 45) hc dX3_isSeen_45 ?_
        rw [pk_mul 3 j]
        refine wt_iconst (pc := 46) (v := nI 1) hc dX3_isSeen_46 (by decide) ?_
        refine wt_iadd (pc := 47) hc dX3_isSeen_47 ?_
        rw [nI_add (3 * j) 1]
        refine tw_iald (pc := 48) (k := 68) (3 * j + 1) _ hc hE dX3_isSeen_48 rfl (rfl) (by show _ < 24; omega) (by decide) (rfl) ?_
        refine wt_gofn (tw_inv (pc := 49) 2 hc hE (ct_whereIs hE o _ wl (by omega) hw) dX3_isSeen_49 rfl q2064 q2066 qs95 q116 q2067 (by decide +kernel) rfl (by decide) (by decide) (Nat.le_of_ble_eq_true rfl) rfl) ?_
        refine wt_aload_0 (pc := 52) hc dX3_isSeen_52 ?_
        refine tw_geta (pc := 53) 68 hc hE dX3_isSeen_53 q1672 (by decide) (by decide) (fun _ _ _ => rfl) rfl ?_
        refine wt_iconst (pc := 56) (v := nI 3) hc dX3_isSeen_56 (by decide) ?_
        refine wt_iload_2 (pc := 57) hc dX3_isSeen_57 ?_
        refine wt_imul (pc := 58) hc dX3_isSeen_58 ?_
        rw [pk_mul 3 j]
        refine wt_iconst (pc := 59) (v := nI 2) hc dX3_isSeen_59 (by decide) ?_
        refine wt_iadd (pc := 60) hc dX3_isSeen_60 ?_
        rw [nI_add (3 * j) 2]
        refine tw_iald (pc := 61) (k := 68) (3 * j + 2) _ hc hE dX3_isSeen_61 rfl (rfl) (by show _ < 24; omega) (by decide) (rfl) ?_
        refine wt_icmp_eq (pc := 62) 67 hc dX3_isSeen_62 (by decide) (fun c_62 => ?_) (fun c_62 => ?_)
        · refine wt_iinc_2 (pc := 67) (v := nI (j + 1)) hc dX3_isSeen_67 (nI_add j 1) rfl ?_
          refine wt_goto (pc := 70) 22 hc dX3_isSeen_70 (by decide) ?_
          rw [if_pos c_62] at hv; exact ih (j + 1) (by omega) hv
        · refine wt_iconst (pc := 65) (v := nI 0) hc dX3_isSeen_65 (by decide) ?_
          exact wt_iret (pc := 66) hc hok dX3_isSeen_66 (rfl) (fun H hZ => ⟨by rw [hv, if_neg c_62]; rfl, hZ⟩)
  have key : ∀ v : Int32, v = sp_rx k → wt_V G X 15 [some (.ref T.1), some (.int (nI k)), none] [.int v, .int (nI 0), .ref (T.2.1 47)] (tw_Z G T M w) 0 0 := by
    intro v ev
    subst ev
    refine tw_iast (pc := 15) (k := 47) (0) hc hE dX3_isSeen_15 rfl (rfl) (by show _ < 19; omega) (by decide) ?_
    refine wt_aload_0 (pc := 16) hc dX3_isSeen_16 ?_
    refine wt_gov (tw_inv (pc := 17) 0 hc hE (ct_nights hE (show sp_city (wt_up2 M 47 0 (sp_rx k)) from hcy) hf) dX3_isSeen_17 rfl q1993 q1995 qs81 q116 q1996 (by decide +kernel) rfl (by decide) (by decide) (Nat.le_of_ble_eq_true rfl) rfl) (Nat.zero_le _) (Nat.zero_le _) ?_
    refine wt_iconst (pc := 20) (v := nI 0) hc dX3_isSeen_20 (by decide) ?_
    refine wt_istore_2 (pc := 21) hc dX3_isSeen_21 rfl ?_
    exact loop s 0 (by omega) rfl
  refine wt_aload_0 (pc := 0) hc dX3_isSeen_0 ?_
  refine tw_geta (pc := 1) 47 hc hE dX3_isSeen_1 q1651 (by decide) (by decide) (fun _ _ _ => rfl) rfl ?_
  refine wt_iconst (pc := 4) (v := nI 0) hc dX3_isSeen_4 (by decide) ?_
  refine wt_iload_1 (pc := 5) hc dX3_isSeen_5 ?_
  refine wt_iconst (pc := 6) (v := nI 4) hc dX3_isSeen_6 (by decide) ?_
  refine wt_nicmp_ne (pc := 7) 14 (k) (4) hc dX3_isSeen_7 (by decide) (by omega) (by omega) (fun c_7 => ?_) (fun c_7 => ?_)
  · refine wt_iload_1 (pc := 14) hc dX3_isSeen_14 ?_
    exact key _ (by unfold sp_rx; first | rw [if_pos c_7] | rw [if_neg c_7])
  · refine wt_iconst (pc := 10) (v := (-1 : Int32)) hc dX3_isSeen_10 (by decide) ?_
    refine wt_goto (pc := 11) 15 hc dX3_isSeen_11 (by decide) ?_
    exact key _ (by unfold sp_rx; first | rw [if_pos c_7] | rw [if_neg c_7])
theorem ct_fits (hE : tw_E G T) (hN : sp_t0 M = N) (hcy : sp_city N) (ro ow ri s ru : Nat) (hC : sp_cty N ro ow ri) (hs : sp_sn N ow s) (hru : sp_rul N ru) : wt_Ct l G yX3_fits cX3_fits 4 (some .int) 6 0 0 [.ref T.1] (tw_Z G T M w) (sp_ex G T N w (sp_ft N 5)) := by
  have h0 : N 0 0 = 0 := by rw [← hN]; rfl
  have h4 := hru.1
  have hs8 := hs.1
  refine wt_enter [some (.ref T.1), none, none, none] (by decide +kernel) rfl (Nat.le_of_ble_eq_true rfl) (fun X hc hok => ?_)
  have loop : ∀ (n k : Nat) (x : Int32) (M' : wt_It), k + n = 5 → sp_Q (wt_up2 N 47 0 x) M' → M' 0 0 = 0 → wt_V G X 16 [some (.ref T.1), some (.int (N 47 0)), some (.int (sp_ft N k)), some (.int (nI k))] [] (tw_Z G T M' w) 0 0 := by
    intro n
    induction n with
    | zero =>
      intro k x M' hk hQ' hT'
      have e : k = 5 := by omega
      subst e
      refine wt_iload_3 (pc := 16) hc dX3_fits_16 ?_
      refine wt_iconst (pc := 17) (v := nI 4) hc dX3_fits_17 (by decide) ?_
      refine wt_nicmp_gt (pc := 18) 58 (5) (4) hc dX3_fits_18 (by decide) (by omega) (by omega) (fun c_18 => ?_) (fun c_18 => ?_)
      · refine wt_aload_0 (pc := 58) hc dX3_fits_58 ?_
        refine tw_geta (pc := 59) 47 hc hE dX3_fits_59 q1651 (by decide) (by decide) (fun _ _ _ => rfl) rfl ?_
        refine wt_iconst (pc := 62) (v := nI 0) hc dX3_fits_62 (by decide) ?_
        refine wt_iload_1 (pc := 63) hc dX3_fits_63 ?_
        refine tw_iast (pc := 64) (k := 47) (0) hc hE dX3_fits_64 rfl (rfl) (by show _ < 19; omega) (by decide) ?_
        refine wt_iload_2 (pc := 65) hc dX3_fits_65 ?_
        exact wt_iret (pc := 66) hc hok dX3_fits_66 (rfl) (fun H hZ => ⟨_, rfl, hQ'.back (by decide), hT', hZ⟩)
      · omega
    | succ n ih =>
      intro k x M' hk hQ' hT'
      have nxt : ∀ (x' : Int32) (M'' : wt_It), sp_Q (wt_up2 N 47 0 x') M'' → M'' 0 0 = 0 → wt_V G X 16 [some (.ref T.1), some (.int (N 47 0)), some (.int (sp_ft N (k + 1))), some (.int (nI (k + 1)))] [] (tw_Z G T M'' w) 0 0 := fun x' M'' a b => ih (k + 1) x' M'' (by omega) a b
      rw [sp_ft] at nxt
      have call : (nI k < N 0 5 ∨ k = 4) → wt_V G X 35 [some (.ref T.1), some (.int (N 47 0)), some (.int (sp_ft N k)), some (.int (nI k))] [.int (sp_ft N k)] (tw_Z G T M' w) 0 0 := by
        intro hok'
        have hf : sp_fok (wt_up2 N 47 0 (sp_rx k)) := by
          by_cases e : k = 4
          · subst e; exact sp_fok_m1 N
          · rw [show sp_rx k = nI k from if_neg e]
            rcases hok' with h | h
            · rw [hru.2.1] at h
              exact hru.fok ((nI_ltI (by omega) (by omega)).mp h)
            · exact absurd h e
        have hQ2 := hQ'.set (sp_rx k) (by decide)
        have hcy2 : sp_city (wt_up2 N 47 0 (sp_rx k)) := hcy
        have hC2 : sp_cty (wt_up2 N 47 0 (sp_rx k)) ro ow ri := hC
        have hs2 : sp_sn (wt_up2 N 47 0 (sp_rx k)) ow s := hs
        have hcyM : sp_city M' := (show sp_city (wt_up2 N 47 0 x) from hcy).Q hQ'
        have hCM : sp_cty M' ro ow ri := (show sp_cty (wt_up2 N 47 0 x) ro ow ri from hC).Q hQ'
        have hsM : sp_sn M' ow s := (show sp_sn (wt_up2 N 47 0 x) ow s from hs).Q hQ'
        have hL := sp_night_cong (hC2.wy hcy2) hf hQ2
        have hv : sp_sk (sp_night (wt_up2 M' 47 0 (sp_rx k))) s 0 = sp_isv N (sp_rx k) := by
          unfold sp_isv
          rw [hs.2.1, nn_nI (by omega)]
          exact sp_sk_cong ((hC2.wy hcy2).Q (sp_Q.night _)) hL (hs2.Q (sp_Q.night _)) s 0 (by omega)
        have nx := nxt (sp_rx k) _ (hQ2.tr (sp_Q.night _)) ((congrFun (sp_S_night _ rfl) 0).trans hT')
        have efi : sp_fi N k = sp_isv N (sp_rx k) := by
          unfold sp_fi
          rcases hok' with h | h
          · rw [decide_eq_true h, Bool.true_or, Bool.true_and]
          · rw [decide_eq_true h, Bool.or_true, Bool.true_and]
        rw [efi] at nx
        refine wt_aload_0 (pc := 35) hc dX3_fits_35 ?_
        refine wt_iload_3 (pc := 36) hc dX3_fits_36 ?_
        refine wt_gofn (tw_inv (pc := 37) 1 hc hE (ct_isSeen hE ro ow ri s hcyM hCM hsM k (by omega) (hf.Q hQ2)) dX3_fits_37 rfl q2230 q2232 qs107 q116 q2233 (by decide +kernel) rfl (by decide) (by decide) (Nat.le_of_ble_eq_true rfl) rfl) ?_
        rw [hv]
        cases hb : sp_isv N (sp_rx k) with
        | true =>
          rw [hb, if_pos rfl] at nx
          refine wt_if_eq (pc := 40) 49 hc dX3_fits_40 (by decide) (fun z => absurd z (by decide)) (fun _ => ?_)
          refine wt_iconst (pc := 43) (v := nI 1) hc dX3_fits_43 (by decide) ?_
          refine wt_iload_3 (pc := 44) hc dX3_fits_44 ?_
          refine wt_ishl (pc := 45) hc dX3_fits_45 ?_
          refine wt_goto (pc := 46) 50 hc dX3_fits_46 (by decide) ?_
          refine wt_ior (pc := 50) hc dX3_fits_50 ?_
          refine wt_istore_2 (pc := 51) hc dX3_fits_51 rfl ?_
          refine wt_iinc_3 (pc := 52) (v := nI (k + 1)) hc dX3_fits_52 (nI_add k 1) rfl ?_
          refine wt_goto (pc := 55) 16 hc dX3_fits_55 (by decide) ?_
          exact nx
        | false =>
          rw [hb, if_neg (by decide)] at nx
          refine wt_if_eq (pc := 40) 49 hc dX3_fits_40 (by decide) (fun _ => ?_) (fun z => absurd z (by decide))
          refine wt_iconst (pc := 49) (v := nI 0) hc dX3_fits_49 (by decide) ?_
          refine wt_ior (pc := 50) hc dX3_fits_50 ?_
          refine wt_istore_2 (pc := 51) hc dX3_fits_51 rfl ?_
          refine wt_iinc_3 (pc := 52) (v := nI (k + 1)) hc dX3_fits_52 (nI_add k 1) rfl ?_
          refine wt_goto (pc := 55) 16 hc dX3_fits_55 (by decide) ?_
          exact nx
      have e5 : M' 0 5 = N 0 5 := hQ'.2 5 (by decide)
      refine wt_iload_3 (pc := 16) hc dX3_fits_16 ?_
      refine wt_iconst (pc := 17) (v := nI 4) hc dX3_fits_17 (by decide) ?_
      refine wt_nicmp_gt (pc := 18) 58 (k) (4) hc dX3_fits_18 (by decide) (by omega) (by omega) (fun c_18 => ?_) (fun c_18 => ?_)
      · omega
      · refine wt_iload_2 (pc := 21) hc dX3_fits_21 ?_
        refine wt_iload_3 (pc := 22) hc dX3_fits_22 ?_
        refine wt_aload_0 (pc := 23) hc dX3_fits_23 ?_
        refine tw_get (pc := 24) 5 (N 0 5) hc hE dX3_fits_24 q1609 (by decide) (fun _ _ _ => rfl) rfl (e5) ?_
        refine wt_icmp_lt (pc := 27) 35 hc dX3_fits_27 (by decide) (fun c_27 => ?_) (fun c_27 => ?_)
        · first | exact call (Or.inl c_27) | exact call (Or.inr c_32)
        · refine wt_iload_3 (pc := 30) hc dX3_fits_30 ?_
          refine wt_iconst (pc := 31) (v := nI 4) hc dX3_fits_31 (by decide) ?_
          refine wt_nicmp_ne (pc := 32) 49 (k) (4) hc dX3_fits_32 (by decide) (by omega) (by omega) (fun c_32 => ?_) (fun c_32 => ?_)
          · refine wt_iconst (pc := 49) (v := nI 0) hc dX3_fits_49 (by decide) ?_
            refine wt_ior (pc := 50) hc dX3_fits_50 ?_
            refine wt_istore_2 (pc := 51) hc dX3_fits_51 rfl ?_
            refine wt_iinc_3 (pc := 52) (v := nI (k + 1)) hc dX3_fits_52 (nI_add k 1) rfl ?_
            refine wt_goto (pc := 55) 16 hc dX3_fits_55 (by decide) ?_
            (have nx := nxt _ _ hQ' hT'); rw [if_neg (by unfold sp_fi; rw [decide_eq_false c_27, decide_eq_false c_32]; exact fun z => by cases z)] at nx; exact nx
          · first | exact call (Or.inl c_27) | exact call (Or.inr c_32)
  refine wt_aload_0 (pc := 0) hc dX3_fits_0 ?_
  refine wt_iconst (pc := 1) (v := nI 0) hc dX3_fits_1 (by decide) ?_
  refine tw_put (pc := 2) 0 hc hE dX3_fits_2 q1604 (by decide) (fun _ _ _ => rfl) rfl rfl (rfl) rfl ?_
  refine tw_eq hN ?_
  refine wt_aload_0 (pc := 5) hc dX3_fits_5 ?_
  refine tw_geta (pc := 6) 47 hc hE dX3_fits_6 q1651 (by decide) (by decide) (fun _ _ _ => rfl) rfl ?_
  refine wt_iconst (pc := 9) (v := nI 0) hc dX3_fits_9 (by decide) ?_
  refine tw_iald (pc := 10) (k := 47) (0) _ hc hE dX3_fits_10 rfl (rfl) (by show _ < 19; omega) (by decide) (rfl) ?_
  refine wt_istore_1 (pc := 11) hc dX3_fits_11 rfl ?_
  refine wt_iconst (pc := 12) (v := nI 0) hc dX3_fits_12 (by decide) ?_
  refine wt_istore_2 (pc := 13) hc dX3_fits_13 rfl ?_
  refine wt_iconst (pc := 14) (v := nI 0) hc dX3_fits_14 (by decide) ?_
  refine wt_istore_3 (pc := 15) hc dX3_fits_15 rfl ?_
  exact loop 5 0 (N 47 0) N (by omega) (by rw [wt_up2_id]; exact sp_Q.rf N) h0
theorem ct_watch (hE : tw_E G T) (hN : sp_t0 M = N) (hcy : sp_city N) (ro ow ri s ru : Nat) (hC : sp_cty N ro ow ri) (hs : sp_sn N ow s) (hru : sp_rul N ru) (m : Int32) : wt_Ct l G yX3_watch cX3_watch 8 (some .int) 6 0 0 [.ref T.1, .int m] (tw_Z G T M w) (sp_ex G T N w (sp_wav N m)) := by
  have h0 : N 0 0 = 0 := by rw [← hN]; rfl
  have h4 := hru.1
  have hs8 := hs.1
  have hro := hC.1
  have how := hC.2.1
  refine wt_enter [some (.ref T.1), some (.int m), none, none, none, none, none, none] (by decide +kernel) rfl (Nat.le_of_ble_eq_true rfl) (fun X hc hok => ?_)
  have last : ∀ (n r : Nat) (M' : wt_It), r + n = ro → sp_Q N M' → M' 0 0 = 0 → (∀ r, r < ro → M' 69 r = sp_wo N m r 5) → wt_V G X 181 [some (.ref T.1), some (.int m), some (.int (N 47 0)), some (.int (sp_wn N 5)), some (.int (sp_wb (fun r => sp_wo N m r 5) (sp_wn N 5) r)), some (.int (nI r)), none, none] [] (tw_Z G T M' w) 0 0 := by
    intro n
    induction n with
    | zero =>
      intro r M' hr hQ' hT' h69
      have e : r = ro := by omega
      subst e
      refine wt_iload_5 (pc := 181) hc dX3_watch_181 ?_
      refine wt_aload_0 (pc := 183) hc dX3_watch_183 ?_
      refine tw_get (pc := 184) 1 (nI r) hc hE dX3_watch_184 q1605 (by decide) (fun _ _ _ => rfl) rfl ((hC.Q hQ').2.2.2.1) ?_
      refine wt_nicmp_ge (pc := 187) 235 (r) (r) hc dX3_watch_187 (by decide) (by omega) (by omega) (fun c_187 => ?_) (fun c_187 => ?_)
      · refine wt_iload_4 (pc := 235) hc dX3_watch_235 ?_
        exact wt_iret (pc := 237) hc hok dX3_watch_237 (rfl) (fun H hZ => ⟨_, by rw [sp_wav, hC.2.2.2.1, nn_nI (by omega)], hQ', hT', hZ⟩)
      · omega
    | succ n ih =>
      intro r M' hr hQ' hT' h69
      have nxt := ih (r + 1) M' (by omega) hQ' hT' h69
      have hw : sp_wb (fun r => sp_wo N m r 5) (sp_wn N 5) (r + 1) = if sp_wb (fun r => sp_wo N m r 5) (sp_wn N 5) r = -1 then nI r else if sp_off (nI 2 * sp_wo N m (nn (sp_wb (fun r => sp_wo N m r 5) (sp_wn N 5) r)) 5) (sp_wn N 5) ≤ sp_off (nI 2 * sp_wo N m r 5) (sp_wn N 5) then sp_wb (fun r => sp_wo N m r 5) (sp_wn N 5) r else nI r := rfl
      unfold sp_off at hw
      refine wt_iload_5 (pc := 181) hc dX3_watch_181 ?_
      refine wt_aload_0 (pc := 183) hc dX3_watch_183 ?_
      refine tw_get (pc := 184) 1 (nI ro) hc hE dX3_watch_184 q1605 (by decide) (fun _ _ _ => rfl) rfl ((hC.Q hQ').2.2.2.1) ?_
      refine wt_nicmp_ge (pc := 187) 235 (r) (ro) hc dX3_watch_187 (by decide) (by omega) (by omega) (fun c_187 => ?_) (fun c_187 => ?_)
      · omega
      · refine wt_iload_4 (pc := 190) hc dX3_watch_190 ?_
        refine wt_iconst (pc := 192) (v := (-1 : Int32)) hc dX3_watch_192 (by decide) ?_
        refine wt_icmp_eq (pc := 193) 225 hc dX3_watch_193 (by decide) (fun c_193 => ?_) (fun c_193 => ?_)
        · rw [if_pos c_193] at hw
          rw [hw] at nxt
          refine wt_iload_5 (pc := 225) hc dX3_watch_225 ?_
          refine wt_istore_4 (pc := 227) hc dX3_watch_227 rfl ?_
          refine wt_iinc_5 (pc := 229) (v := nI (r + 1)) hc dX3_watch_229 (nI_add r 1) rfl ?_
          refine wt_goto (pc := 232) 181 hc dX3_watch_232 (by decide) ?_
          exact nxt
        · rcases sp_wb_or (fun r => sp_wo N m r 5) (sp_wn N 5) r with hb | ⟨b, hb1, hb2⟩
          · exact absurd hb c_193
          rw [if_neg c_193, hb2, nn_nI (by omega)] at hw
          rw [hb2]
          rw [hw] at nxt
          refine wt_iconst (pc := 196) (v := nI 2) hc dX3_watch_196 (by decide) ?_
          refine wt_aload_0 (pc := 197) hc dX3_watch_197 ?_
          refine tw_geta (pc := 198) 69 hc hE dX3_watch_198 q1673 (by decide) (by decide) (fun _ _ _ => rfl) rfl ?_
          refine wt_iload_5 (pc := 201) hc dX3_watch_201 ?_
          refine tw_iald (pc := 203) (k := 69) (r) (sp_wo N m r 5) hc hE dX3_watch_203 rfl (rfl) (by show _ < 10; omega) (by decide) (h69 r (by omega)) ?_
          refine wt_imul (pc := 204) hc dX3_watch_204 ?_
          refine wt_iload_3 (pc := 205) hc dX3_watch_205 ?_
          refine wt_gofn (wt_invS (pc := 206) 2 hc (ct_off _ _) dX3_watch_206 rfl q2238 q2239 q116 q2240 (by decide +kernel) rfl (by decide) (by decide) (Nat.le_of_ble_eq_true rfl) rfl) ?_
          refine wt_iconst (pc := 209) (v := nI 2) hc dX3_watch_209 (by decide) ?_
          refine wt_aload_0 (pc := 210) hc dX3_watch_210 ?_
          refine tw_geta (pc := 211) 69 hc hE dX3_watch_211 q1673 (by decide) (by decide) (fun _ _ _ => rfl) rfl ?_
          refine wt_iload_4 (pc := 214) hc dX3_watch_214 ?_
          refine tw_iald (pc := 216) (k := 69) (b) (sp_wo N m b 5) hc hE dX3_watch_216 rfl (rfl) (by show _ < 10; omega) (by decide) (h69 b (by omega)) ?_
          refine wt_imul (pc := 217) hc dX3_watch_217 ?_
          refine wt_iload_3 (pc := 218) hc dX3_watch_218 ?_
          refine wt_gofn (wt_invS (pc := 219) 2 hc (ct_off _ _) dX3_watch_219 rfl q2238 q2239 q116 q2240 (by decide +kernel) rfl (by decide) (by decide) (Nat.le_of_ble_eq_true rfl) rfl) ?_
          refine wt_icmp_ge (pc := 222) 229 hc dX3_watch_222 (by decide) (fun c_222 => ?_) (fun c_222 => ?_)
          · refine wt_iinc_5 (pc := 229) (v := nI (r + 1)) hc dX3_watch_229 (nI_add r 1) rfl ?_
            refine wt_goto (pc := 232) 181 hc dX3_watch_232 (by decide) ?_
            first | (rw [if_pos c_222] at nxt; exact nxt) | (rw [if_neg c_222] at nxt; exact nxt)
          · refine wt_iload_5 (pc := 225) hc dX3_watch_225 ?_
            refine wt_istore_4 (pc := 227) hc dX3_watch_227 rfl ?_
            refine wt_iinc_5 (pc := 229) (v := nI (r + 1)) hc dX3_watch_229 (nI_add r 1) rfl ?_
            refine wt_goto (pc := 232) 181 hc dX3_watch_232 (by decide) ?_
            first | (rw [if_pos c_222] at nxt; exact nxt) | (rw [if_neg c_222] at nxt; exact nxt)
  have owls : ∀ (A : wt_It), sp_wy A ro ow → ∀ (n o k r : Nat) (cnt : Int32) (M' : wt_It), o + n = ow → sp_Ln ro ow A M' → r < ro → wt_V G X 136 [some (.ref T.1), some (.int m), some (.int (N 47 0)), some (.int cnt), some (.int (nI k)), some (.int (nI r)), some (.int (sp_i (sp_any A m (nI r) ow))), none] [] (tw_Z G T M' w) 0 0 → wt_V G X 97 [some (.ref T.1), some (.int m), some (.int (N 47 0)), some (.int cnt), some (.int (nI k)), some (.int (nI r)), some (.int (sp_i (sp_any A m (nI r) o))), some (.int (nI o))] [] (tw_Z G T M' w) 0 0 := by
    intro A hwA n
    induction n with
    | zero =>
      intro o k r cnt M' ho hL hr hend
      have e : o = ow := by omega
      subst e
      refine wt_iload_7 (pc := 97) hc dX3_watch_97 ?_
      refine wt_aload_0 (pc := 99) hc dX3_watch_99 ?_
      refine tw_get (pc := 100) 3 (nI o) hc hE dX3_watch_100 q1607 (by decide) (fun _ _ _ => rfl) rfl ((hL.1.2 3 (by decide)).trans hwA.2.2.2.1) ?_
      refine wt_nicmp_ge (pc := 103) 136 (o) (o) hc dX3_watch_103 (by decide) (by omega) (by omega) (fun c_103 => ?_) (fun c_103 => ?_)
      · exact wt_drop hend ⟨rfl, rfl, rfl, rfl, rfl, rfl, rfl, trivial⟩
      · omega
    | succ n ih =>
      intro o k r cnt M' ho hL hr hend
      have nxt := ih (o + 1) k r cnt M' (by omega) hL hr hend
      obtain ⟨wl, hw⟩ := ((hwA.Q hL.1).way (show o < ow by omega)).2
      have hv : sp_wh M' o m = sp_wh A o m := sp_wh_cong hwA hL (by omega) m
      rw [sp_any] at nxt
      refine wt_iload_7 (pc := 97) hc dX3_watch_97 ?_
      refine wt_aload_0 (pc := 99) hc dX3_watch_99 ?_
      refine tw_get (pc := 100) 3 (nI ow) hc hE dX3_watch_100 q1607 (by decide) (fun _ _ _ => rfl) rfl ((hL.1.2 3 (by decide)).trans hwA.2.2.2.1) ?_
      refine wt_nicmp_ge (pc := 103) 136 (o) (ow) hc dX3_watch_103 (by decide) (by omega) (by omega) (fun c_103 => ?_) (fun c_103 => ?_)
      · omega
      · cases hb : sp_any A m (nI r) o with
        | true =>
          rw [hb, Bool.true_or] at nxt
          refine wt_iload_6 (pc := 106) hc dX3_watch_106 ?_
          refine wt_if_ne (pc := 108) 123 hc dX3_watch_108 (by decide) (fun _ => ?_) (fun z => absurd z (by decide))
          refine wt_iconst (pc := 123) (v := nI 1) hc dX3_watch_123 (by decide) ?_
          refine wt_goto (pc := 124) 128 hc dX3_watch_124 (by decide) ?_
          refine wt_istore_6 (pc := 128) hc dX3_watch_128 rfl ?_
          refine wt_iinc_7 (pc := 130) (v := nI (o + 1)) hc dX3_watch_130 (nI_add o 1) rfl ?_
          refine wt_goto (pc := 133) 97 hc dX3_watch_133 (by decide) ?_
          exact nxt
        | false =>
          rw [hb, Bool.false_or] at nxt
          refine wt_iload_6 (pc := 106) hc dX3_watch_106 ?_
          refine wt_if_ne (pc := 108) 123 hc dX3_watch_108 (by decide) (fun z => absurd z (by decide)) (fun _ => ?_)
          refine wt_aload_0 (pc := 111) hc dX3_watch_111 ?_
          refine wt_iload_7 (pc := 112) hc dX3_watch_112 ?_
          refine wt_iload_1 (pc := 114) hc dX3_watch_114 ?_
          refine wt_gofn (tw_inv (pc := 115) 2 hc hE (ct_whereIs hE o m wl (by omega) hw) dX3_watch_115 rfl q2064 q2066 qs95 q116 q2067 (by decide +kernel) rfl (by decide) (by decide) (Nat.le_of_ble_eq_true rfl) rfl) ?_
          rw [hv]
          refine wt_iload_5 (pc := 118) hc dX3_watch_118 ?_
          refine wt_icmp_ne (pc := 120) 127 hc dX3_watch_120 (by decide) (fun c_120 => ?_) (fun c_120 => ?_)
          · refine wt_iconst (pc := 127) (v := nI 0) hc dX3_watch_127 (by decide) ?_
            refine wt_istore_6 (pc := 128) hc dX3_watch_128 rfl ?_
            refine wt_iinc_7 (pc := 130) (v := nI (o + 1)) hc dX3_watch_130 (nI_add o 1) rfl ?_
            refine wt_goto (pc := 133) 97 hc dX3_watch_133 (by decide) ?_
            first | (rw [decide_eq_true c_120] at nxt; exact nxt) | (rw [decide_eq_false c_120] at nxt; exact nxt)
          · refine wt_iconst (pc := 123) (v := nI 1) hc dX3_watch_123 (by decide) ?_
            refine wt_goto (pc := 124) 128 hc dX3_watch_124 (by decide) ?_
            refine wt_istore_6 (pc := 128) hc dX3_watch_128 rfl ?_
            refine wt_iinc_7 (pc := 130) (v := nI (o + 1)) hc dX3_watch_130 (nI_add o 1) rfl ?_
            refine wt_goto (pc := 133) 97 hc dX3_watch_133 (by decide) ?_
            first | (rw [decide_eq_true c_120] at nxt; exact nxt) | (rw [decide_eq_false c_120] at nxt; exact nxt)
  have roofsL : ∀ (A : wt_It), sp_wy A ro ow → ∀ (n r k : Nat) (cnt : Int32) (f : Nat → Int32) (M' : wt_It), r + n = ro → sp_Ln ro ow A M' → M' 0 0 = 0 → (∀ j, j < r → M' 69 j = f j + sp_i (sp_any A m (nI j) ow)) → (∀ j, r ≤ j → j < ro → M' 69 j = f j) → (∀ M'', sp_Q A M'' → M'' 0 0 = 0 → (∀ j, j < ro → M'' 69 j = f j + sp_i (sp_any A m (nI j) ow)) → wt_V G X 162 [some (.ref T.1), some (.int m), some (.int (N 47 0)), some (.int cnt), some (.int (nI k)), none, none, none] [] (tw_Z G T M'' w) 0 0) → wt_V G X 82 [some (.ref T.1), some (.int m), some (.int (N 47 0)), some (.int cnt), some (.int (nI k)), some (.int (nI r)), none, none] [] (tw_Z G T M' w) 0 0 := by
    intro A hwA n
    induction n with
    | zero =>
      intro r k cnt f M' hr hL hT' hlo hhi hend
      have e : r = ro := by omega
      subst e
      refine wt_iload_5 (pc := 82) hc dX3_watch_82 ?_
      refine wt_aload_0 (pc := 84) hc dX3_watch_84 ?_
      refine tw_get (pc := 85) 1 (nI r) hc hE dX3_watch_85 q1605 (by decide) (fun _ _ _ => rfl) rfl ((hL.1.2 1 (by decide)).trans hwA.2.2.1) ?_
      refine wt_nicmp_ge (pc := 88) 162 (r) (r) hc dX3_watch_88 (by decide) (by omega) (by omega) (fun c_88 => ?_) (fun c_88 => ?_)
      · exact wt_drop (hend M' hL.1 hT' hlo) ⟨rfl, rfl, rfl, rfl, rfl, trivial⟩
      · omega
    | succ n ih =>
      intro r k cnt f M' hr hL hT' hlo hhi hend
      refine wt_iload_5 (pc := 82) hc dX3_watch_82 ?_
      refine wt_aload_0 (pc := 84) hc dX3_watch_84 ?_
      refine tw_get (pc := 85) 1 (nI ro) hc hE dX3_watch_85 q1605 (by decide) (fun _ _ _ => rfl) rfl ((hL.1.2 1 (by decide)).trans hwA.2.2.1) ?_
      refine wt_nicmp_ge (pc := 88) 162 (r) (ro) hc dX3_watch_88 (by decide) (by omega) (by omega) (fun c_88 => ?_) (fun c_88 => ?_)
      · omega
      · refine wt_iconst (pc := 91) (v := nI 0) hc dX3_watch_91 (by decide) ?_
        refine wt_istore_6 (pc := 92) hc dX3_watch_92 rfl ?_
        refine wt_iconst (pc := 94) (v := nI 0) hc dX3_watch_94 (by decide) ?_
        refine wt_istore_7 (pc := 95) hc dX3_watch_95 rfl ?_
        refine owls A hwA ow 0 k r cnt M' (by omega) hL (by omega) ?_
        have nxt : wt_V G X 82 [some (.ref T.1), some (.int m), some (.int (N 47 0)), some (.int cnt), some (.int (nI k)), some (.int (nI (r + 1))), none, none] [] (tw_Z G T (wt_up2 M' 69 r (f r + sp_i (sp_any A m (nI r) ow))) w) 0 0 := by
          have hqq : sp_Q M' (wt_up2 M' 69 r (f r + sp_i (sp_any A m (nI r) ow))) := sp_Q.of fun k hk => wt_up2_row (sp_S_ne hk).2.2.2.2.2.2.2.2.2.2.2.2.2.2
          refine ih (r + 1) k cnt f _ (by omega) (hL.rows (fun _ _ => rfl) (fun k hk => wt_up2_row (by omega)) (hL.1.tr hqq)) hT' (fun j hj => ?_) (fun j h1 h2 => ?_) hend
          · by_cases e : j = r
            · rw [e, wt_up2_self]
            · rw [wt_up2_ne (fun z => e z.2)]
              exact hlo j (by omega)
          · rw [wt_up2_ne (fun z => by omega)]
            exact hhi j (by omega) h2
        cases hb : sp_any A m (nI r) ow with
        | true =>
          rw [hb] at nxt
          refine wt_aload_0 (pc := 136) hc dX3_watch_136 ?_
          refine tw_geta (pc := 137) 69 hc hE dX3_watch_137 q1673 (by decide) (by decide) (fun _ _ _ => rfl) rfl ?_
          refine wt_iload_5 (pc := 140) hc dX3_watch_140 ?_
          refine wt_dup2 (pc := 142) hc dX3_watch_142 rfl rfl ?_
          refine tw_iald (pc := 143) (k := 69) (r) (f r) hc hE dX3_watch_143 rfl (rfl) (by show _ < 10; omega) (by decide) (hhi r (Nat.le_refl _) (by omega)) ?_
          refine wt_iload_6 (pc := 144) hc dX3_watch_144 ?_
          refine wt_if_eq (pc := 146) 153 hc dX3_watch_146 (by decide) (fun z => absurd z (by decide)) (fun _ => ?_)
          refine wt_iconst (pc := 149) (v := nI 1) hc dX3_watch_149 (by decide) ?_
          refine wt_goto (pc := 150) 154 hc dX3_watch_150 (by decide) ?_
          refine wt_iadd (pc := 154) hc dX3_watch_154 ?_
          refine tw_iast (pc := 155) (k := 69) (r) hc hE dX3_watch_155 rfl (rfl) (by show _ < 10; omega) (by decide) ?_
          refine wt_iinc_5 (pc := 156) (v := nI (r + 1)) hc dX3_watch_156 (nI_add r 1) rfl ?_
          refine wt_goto (pc := 159) 82 hc dX3_watch_159 (by decide) ?_
          exact wt_drop nxt ⟨rfl, rfl, rfl, rfl, rfl, rfl, trivial⟩
        | false =>
          rw [hb] at nxt
          refine wt_aload_0 (pc := 136) hc dX3_watch_136 ?_
          refine tw_geta (pc := 137) 69 hc hE dX3_watch_137 q1673 (by decide) (by decide) (fun _ _ _ => rfl) rfl ?_
          refine wt_iload_5 (pc := 140) hc dX3_watch_140 ?_
          refine wt_dup2 (pc := 142) hc dX3_watch_142 rfl rfl ?_
          refine tw_iald (pc := 143) (k := 69) (r) (f r) hc hE dX3_watch_143 rfl (rfl) (by show _ < 10; omega) (by decide) (hhi r (Nat.le_refl _) (by omega)) ?_
          refine wt_iload_6 (pc := 144) hc dX3_watch_144 ?_
          refine wt_if_eq (pc := 146) 153 hc dX3_watch_146 (by decide) (fun _ => ?_) (fun z => absurd z (by decide))
          refine wt_iconst (pc := 153) (v := nI 0) hc dX3_watch_153 (by decide) ?_
          refine wt_iadd (pc := 154) hc dX3_watch_154 ?_
          refine tw_iast (pc := 155) (k := 69) (r) hc hE dX3_watch_155 rfl (rfl) (by show _ < 10; omega) (by decide) ?_
          refine wt_iinc_5 (pc := 156) (v := nI (r + 1)) hc dX3_watch_156 (nI_add r 1) rfl ?_
          refine wt_goto (pc := 159) 82 hc dX3_watch_159 (by decide) ?_
          exact wt_drop nxt ⟨rfl, rfl, rfl, rfl, rfl, rfl, trivial⟩
  have loop : ∀ (n k : Nat) (x : Int32) (M' : wt_It), k + n = 5 → sp_Q (wt_up2 N 47 0 x) M' → M' 0 0 = 0 → (∀ r, r < ro → M' 69 r = sp_wo N m r k) → wt_V G X 43 [some (.ref T.1), some (.int m), some (.int (N 47 0)), some (.int (sp_wn N k)), some (.int (nI k)), none, none, none] [] (tw_Z G T M' w) 0 0 := by
    intro n
    induction n with
    | zero =>
      intro k x M' hk hQ' hT' h69
      have e : k = 5 := by omega
      subst e
      refine wt_iload_4 (pc := 43) hc dX3_watch_43 ?_
      refine wt_iconst (pc := 45) (v := nI 4) hc dX3_watch_45 (by decide) ?_
      refine wt_nicmp_gt (pc := 46) 168 (5) (4) hc dX3_watch_46 (by decide) (by omega) (by omega) (fun c_46 => ?_) (fun c_46 => ?_)
      · refine wt_aload_0 (pc := 168) hc dX3_watch_168 ?_
        refine tw_geta (pc := 169) 47 hc hE dX3_watch_169 q1651 (by decide) (by decide) (fun _ _ _ => rfl) rfl ?_
        refine wt_iconst (pc := 172) (v := nI 0) hc dX3_watch_172 (by decide) ?_
        refine wt_iload_2 (pc := 173) hc dX3_watch_173 ?_
        refine tw_iast (pc := 174) (k := 47) (0) hc hE dX3_watch_174 rfl (rfl) (by show _ < 19; omega) (by decide) ?_
        refine wt_iconst (pc := 175) (v := (-1 : Int32)) hc dX3_watch_175 (by decide) ?_
        refine wt_istore_4 (pc := 176) hc dX3_watch_176 rfl ?_
        refine wt_iconst (pc := 178) (v := nI 0) hc dX3_watch_178 (by decide) ?_
        refine wt_istore_5 (pc := 179) hc dX3_watch_179 rfl ?_
        exact wt_drop (last ro 0 (wt_up2 M' 47 0 (N 47 0)) (by omega) (hQ'.back (by decide)) hT' h69) ⟨rfl, rfl, rfl, rfl, rfl, rfl, trivial⟩
      · omega
    | succ n ih =>
      intro k x M' hk hQ' hT' h69
      have nxt : ∀ (x' : Int32) (M'' : wt_It), sp_Q (wt_up2 N 47 0 x') M'' → M'' 0 0 = 0 → (∀ r, r < ro → M'' 69 r = sp_wo N m r (k + 1)) → wt_V G X 162 [some (.ref T.1), some (.int m), some (.int (N 47 0)), some (.int (sp_wn N (k + 1))), some (.int (nI k)), none, none, none] [] (tw_Z G T M'' w) 0 0 := by
        intro x' M'' a b c
        refine wt_iinc_4 (pc := 162) (v := nI (k + 1)) hc dX3_watch_162 (nI_add k 1) rfl ?_
        refine wt_goto (pc := 165) 43 hc dX3_watch_165 (by decide) ?_
        exact ih (k + 1) x' M'' (by omega) a b c
      have call : (nI k < N 0 5 ∨ k = 4) → wt_V G X 64 [some (.ref T.1), some (.int m), some (.int (N 47 0)), some (.int (sp_wn N k)), some (.int (nI k)), none, none, none] [] (tw_Z G T M' w) 0 0 := by
        intro hok'
        have hf : sp_fok (wt_up2 N 47 0 (sp_rx k)) := by
          by_cases e : k = 4
          · subst e; exact sp_fok_m1 N
          · rw [show sp_rx k = nI k from if_neg e]
            rcases hok' with h | h
            · rw [hru.2.1] at h
              exact hru.fok ((nI_ltI (by omega) (by omega)).mp h)
            · exact absurd h e
        have hQ2 := hQ'.set (sp_rx k) (by decide)
        have hcy2 : sp_city (wt_up2 N 47 0 (sp_rx k)) := hcy
        have hC2 : sp_cty (wt_up2 N 47 0 (sp_rx k)) ro ow ri := hC
        have hs2 : sp_sn (wt_up2 N 47 0 (sp_rx k)) ow s := hs
        have hcyM : sp_city M' := (show sp_city (wt_up2 N 47 0 x) from hcy).Q hQ'
        have hCM : sp_cty M' ro ow ri := (show sp_cty (wt_up2 N 47 0 x) ro ow ri from hC).Q hQ'
        have hsM : sp_sn M' ow s := (show sp_sn (wt_up2 N 47 0 x) ow s from hs).Q hQ'
        have hw2 := hC2.wy hcy2
        have hL := sp_night_cong hw2 hf hQ2
        have hwA : sp_wy (sp_night (wt_up2 N 47 0 (sp_rx k))) ro ow := hw2.Q (sp_Q.night _)
        have hv : sp_sk (sp_night (wt_up2 M' 47 0 (sp_rx k))) s 0 = sp_isv N (sp_rx k) := by
          unfold sp_isv
          rw [hs.2.1, nn_nI (by omega)]
          exact sp_sk_cong hwA hL (hs2.Q (sp_Q.night _)) s 0 (by omega)
        have efi : sp_fi N k = sp_isv N (sp_rx k) := by
          unfold sp_fi
          rcases hok' with h | h
          · rw [decide_eq_true h, Bool.true_or, Bool.true_and]
          · rw [decide_eq_true h, Bool.or_true, Bool.true_and]
        have hT2 : sp_night (wt_up2 M' 47 0 (sp_rx k)) 0 0 = 0 := (congrFun (sp_S_night _ rfl) 0).trans hT'
        have e69 : ∀ r, sp_night (wt_up2 M' 47 0 (sp_rx k)) 69 r = M' 69 r := fun r => congrFun (sp_night_same _ 69 (by decide) (by decide) (by decide) (by decide) (by decide) (by decide) (by decide) (by decide)) r
        refine wt_aload_0 (pc := 64) hc dX3_watch_64 ?_
        refine wt_iload_4 (pc := 65) hc dX3_watch_65 ?_
        refine wt_gofn (tw_inv (pc := 67) 1 hc hE (ct_isSeen hE ro ow ri s hcyM hCM hsM k (by omega) (hf.Q hQ2)) dX3_watch_67 rfl q2230 q2232 qs107 q116 q2233 (by decide +kernel) rfl (by decide) (by decide) (Nat.le_of_ble_eq_true rfl) rfl) ?_
        rw [hv]
        cases hb : sp_isv N (sp_rx k) with
        | true =>
          have ewn : sp_wn N (k + 1) = sp_wn N k + nI 1 := if_pos (efi.trans hb)
          have ewo : ∀ r, sp_wo N m r (k + 1) = sp_wo N m r k + sp_i (sp_any (sp_night (wt_up2 N 47 0 (sp_rx k))) m (nI r) ow) := fun r => by
            rw [sp_wo, if_pos (efi.trans hb), hC.2.2.2.2.1, nn_nI (by omega)]
          rw [ewn] at nxt
          refine wt_if_ne (pc := 70) 76 hc dX3_watch_70 (by decide) (fun _ => ?_) (fun z => absurd z (by decide))
          refine wt_iinc_3 (pc := 76) hc dX3_watch_76 rfl rfl ?_
          refine wt_iconst (pc := 79) (v := nI 0) hc dX3_watch_79 (by decide) ?_
          refine wt_istore_5 (pc := 80) hc dX3_watch_80 rfl ?_
          refine wt_drop (roofsL (sp_night (wt_up2 N 47 0 (sp_rx k))) hwA ro 0 k (sp_wn N k + nI 1) (fun r => sp_wo N m r k) (sp_night (wt_up2 M' 47 0 (sp_rx k))) (by omega) hL hT2 (fun j hj => absurd hj (Nat.not_lt_zero _)) (fun j _ h2 => ?_) (fun M'' a b c => ?_)) ⟨rfl, rfl, rfl, rfl, rfl, rfl, trivial⟩
          · rw [e69]
            exact h69 j h2
          · exact nxt (sp_rx k) M'' ((sp_Q.night _).tr a) b (fun r hr => by rw [ewo]; exact c r hr)
        | false =>
          have ewn : sp_wn N (k + 1) = sp_wn N k := if_neg (fun z => by rw [efi, hb] at z; cases z)
          have ewo : ∀ r, sp_wo N m r (k + 1) = sp_wo N m r k := fun r => if_neg (fun z => by rw [efi, hb] at z; cases z)
          rw [ewn] at nxt
          refine wt_if_ne (pc := 70) 76 hc dX3_watch_70 (by decide) (fun z => absurd z (by decide)) (fun _ => ?_)
          refine wt_goto (pc := 73) 162 hc dX3_watch_73 (by decide) ?_
          exact nxt (sp_rx k) _ (hQ2.tr (sp_Q.night _)) hT2 (fun r hr => by rw [e69, ewo]; exact h69 r hr)
      have e5 : M' 0 5 = N 0 5 := hQ'.2 5 (by decide)
      refine wt_iload_4 (pc := 43) hc dX3_watch_43 ?_
      refine wt_iconst (pc := 45) (v := nI 4) hc dX3_watch_45 (by decide) ?_
      refine wt_nicmp_gt (pc := 46) 168 (k) (4) hc dX3_watch_46 (by decide) (by omega) (by omega) (fun c_46 => ?_) (fun c_46 => ?_)
      · omega
      · refine wt_iload_4 (pc := 49) hc dX3_watch_49 ?_
        refine wt_aload_0 (pc := 51) hc dX3_watch_51 ?_
        refine tw_get (pc := 52) 5 (N 0 5) hc hE dX3_watch_52 q1609 (by decide) (fun _ _ _ => rfl) rfl (e5) ?_
        refine wt_icmp_lt (pc := 55) 64 hc dX3_watch_55 (by decide) (fun c_55 => ?_) (fun c_55 => ?_)
        · first | exact call (Or.inl c_55) | exact call (Or.inr c_61)
        · refine wt_iload_4 (pc := 58) hc dX3_watch_58 ?_
          refine wt_iconst (pc := 60) (v := nI 4) hc dX3_watch_60 (by decide) ?_
          refine wt_nicmp_ne (pc := 61) 162 (k) (4) hc dX3_watch_61 (by decide) (by omega) (by omega) (fun c_61 => ?_) (fun c_61 => ?_)
          · (have efi : ¬ sp_fi N k = true := by unfold sp_fi; rw [decide_eq_false c_55, decide_eq_false c_61]; exact fun z => by cases z); have nx := nxt x M' hQ' hT' (fun r hr => by rw [sp_wo, if_neg efi]; exact h69 r hr); rw [sp_wn, if_neg efi] at nx; exact nx
          · first | exact call (Or.inl c_55) | exact call (Or.inr c_61)
  have init : ∀ (n r : Nat) (M' : wt_It), r + n = ro → sp_Q N M' → M' 0 0 = 0 → (∀ j, j < r → M' 69 j = nI 0) → wt_V G X 17 [some (.ref T.1), some (.int m), some (.int (N 47 0)), some (.int (nI 0)), some (.int (nI r)), none, none, none] [] (tw_Z G T M' w) 0 0 := by
    intro n
    induction n with
    | zero =>
      intro r M' hr hQ' hT' h69
      have e : r = ro := by omega
      subst e
      refine wt_iload_4 (pc := 17) hc dX3_watch_17 ?_
      refine wt_aload_0 (pc := 19) hc dX3_watch_19 ?_
      refine tw_get (pc := 20) 1 (nI r) hc hE dX3_watch_20 q1605 (by decide) (fun _ _ _ => rfl) rfl ((hC.Q hQ').2.2.2.1) ?_
      refine wt_nicmp_ge (pc := 23) 40 (r) (r) hc dX3_watch_23 (by decide) (by omega) (by omega) (fun c_23 => ?_) (fun c_23 => ?_)
      · refine wt_iconst (pc := 40) (v := nI 0) hc dX3_watch_40 (by decide) ?_
        refine wt_istore_4 (pc := 41) hc dX3_watch_41 rfl ?_
        exact wt_drop (loop 5 0 (N 47 0) M' (by omega) (by rw [wt_up2_id]; exact hQ') hT' h69) ⟨rfl, rfl, rfl, rfl, rfl, trivial⟩
      · omega
    | succ n ih =>
      intro r M' hr hQ' hT' h69
      refine wt_iload_4 (pc := 17) hc dX3_watch_17 ?_
      refine wt_aload_0 (pc := 19) hc dX3_watch_19 ?_
      refine tw_get (pc := 20) 1 (nI ro) hc hE dX3_watch_20 q1605 (by decide) (fun _ _ _ => rfl) rfl ((hC.Q hQ').2.2.2.1) ?_
      refine wt_nicmp_ge (pc := 23) 40 (r) (ro) hc dX3_watch_23 (by decide) (by omega) (by omega) (fun c_23 => ?_) (fun c_23 => ?_)
      · omega
      · refine wt_aload_0 (pc := 26) hc dX3_watch_26 ?_
        refine tw_geta (pc := 27) 69 hc hE dX3_watch_27 q1673 (by decide) (by decide) (fun _ _ _ => rfl) rfl ?_
        refine wt_iload_4 (pc := 30) hc dX3_watch_30 ?_
        refine wt_iconst (pc := 32) (v := nI 0) hc dX3_watch_32 (by decide) ?_
        refine tw_iast (pc := 33) (k := 69) (r) hc hE dX3_watch_33 rfl (rfl) (by show _ < 10; omega) (by decide) ?_
        refine wt_iinc_4 (pc := 34) (v := nI (r + 1)) hc dX3_watch_34 (nI_add r 1) rfl ?_
        refine wt_goto (pc := 37) 17 hc dX3_watch_37 (by decide) ?_
        have hqq : sp_Q M' (wt_up2 M' 69 r (nI 0)) := sp_Q.of fun k hk => wt_up2_row (sp_S_ne hk).2.2.2.2.2.2.2.2.2.2.2.2.2.2
        refine ih (r + 1) _ (by omega) (hQ'.tr hqq) hT' (fun j hj => ?_)
        by_cases e : j = r
        · rw [e, wt_up2_self]
        · rw [wt_up2_ne (fun z => e z.2)]
          exact h69 j (by omega)
  refine wt_aload_0 (pc := 0) hc dX3_watch_0 ?_
  refine wt_iconst (pc := 1) (v := nI 0) hc dX3_watch_1 (by decide) ?_
  refine tw_put (pc := 2) 0 hc hE dX3_watch_2 q1604 (by decide) (fun _ _ _ => rfl) rfl rfl (rfl) rfl ?_
  refine tw_eq hN ?_
  refine wt_aload_0 (pc := 5) hc dX3_watch_5 ?_
  refine tw_geta (pc := 6) 47 hc hE dX3_watch_6 q1651 (by decide) (by decide) (fun _ _ _ => rfl) rfl ?_
  refine wt_iconst (pc := 9) (v := nI 0) hc dX3_watch_9 (by decide) ?_
  refine tw_iald (pc := 10) (k := 47) (0) _ hc hE dX3_watch_10 rfl (rfl) (by show _ < 19; omega) (by decide) (rfl) ?_
  refine wt_istore_2 (pc := 11) hc dX3_watch_11 rfl ?_
  refine wt_iconst (pc := 12) (v := nI 0) hc dX3_watch_12 (by decide) ?_
  refine wt_istore_3 (pc := 13) hc dX3_watch_13 rfl ?_
  refine wt_iconst (pc := 14) (v := nI 0) hc dX3_watch_14 (by decide) ?_
  refine wt_istore_4 (pc := 15) hc dX3_watch_15 rfl ?_
  exact init ro 0 N (by omega) (sp_Q.rf N) h0 (fun j hj => absurd hj (Nat.not_lt_zero _))
end TM
