/-! THE REFERENCE: what is tried and taken back: late, best, bright, worth, vital, fits, watch -/
set_option maxRecDepth 100000
theorem wt_up2_up2 {α : Type} (f : Nat → Nat → α) (a k : Nat) (x v : α) : wt_up2 (wt_up2 f a k x) a k v = wt_up2 f a k v := by
  funext i j
  simp only [wt_up2]
  split <;> rfl
theorem wt_up2_id {α : Type} (f : Nat → Nat → α) (a k : Nat) : wt_up2 f a k (f a k) = f := by
  funext i j
  simp only [wt_up2]
  split
  · rename_i h
    rw [h.1, h.2]
  · rfl
theorem sp_Q.set {N M : wt_It} {k j : Nat} {x : Int32} (h : sp_Q (wt_up2 N k j x) M) (v : Int32) (hk : k ≠ 0) : sp_Q (wt_up2 N k j v) (wt_up2 M k j v) := by
  have h1 := h.up k j v hk
  rw [wt_up2_up2] at h1
  exact h1
theorem sp_Q.back {N M : wt_It} {k j : Nat} {x : Int32} (h : sp_Q (wt_up2 N k j x) M) (hk : k ≠ 0) : sp_Q N (wt_up2 M k j (N k j)) := by
  have h1 := h.set (N k j) hk
  rw [wt_up2_id] at h1
  exact h1
/-- an answer that is known; the memory as it was but for scratch -/
def sp_ex (G : wt_G) (T : tw_T) (N : wt_It) (w : Int64) (val : Int32) : Option Value → Heap → Prop := fun v H => ∃ M : wt_It, v = some (.int val) ∧ sp_Q N M ∧ M 0 0 = 0 ∧ tw_Z G T M w H
theorem sp_ex.ans {G : wt_G} {T : tw_T} {N : wt_It} {w : Int64} {val : Int32} {v : Option Value} {H : Heap} (h : sp_ex G T N w val v H) : sp_ans G T N w 0 val v H := by
  obtain ⟨M, h1, h2, h3, h4⟩ := h
  exact ⟨val, M, h1, h2, h3, fun _ => rfl, h4⟩
theorem sp_goex {G : wt_G} {X : wt_X} {T : tw_T} {N : wt_It} {w : Int64} {val : Int32} {pc : Nat} {L : List (Option Value)} {Z : Heap → Prop} {kc ks : Nat} {len : Nat} {st0 rest : List Value} (hr : wt_Run G X pc len L st0 rest Z (sp_ex G T N w val) 0 0) (h1 : 0 ≤ kc) (h2 : 0 ≤ ks) (k : ∀ M : wt_It, sp_Q N M → M 0 0 = 0 → wt_V G X (pc + len) L (.int val :: rest) (tw_Z G T M w) kc ks) : wt_V G X pc L st0 Z kc ks := by
  obtain ⟨p, l', e, Rm, s, m, args, below, meth, c, Q⟩ := X
  intro H locs cells slots ls hZ hS hcl hsl hl TT hT XX
  obtain ⟨v, T', L', X', hS', ⟨M, rfl, a2, a3, hp⟩, st⟩ := hr H locs cells slots ls hZ hS (by omega) (by omega) hl TT hT XX
  obtain ⟨t2, a1, b1⟩ := k M a2 a3 T'.heap (locs ++ L') (cells + 0) (slots + 0) ls hp hS' hcl hsl hl T' rfl X'
  exact ⟨t2, st t2 a1, b1⟩
/-- of the first n numbers f 0, f 1, .. put at q: the first by which most get home, how many -/
def sp_bo (N : wt_It) (q : Nat) (f : Nat → Int32) : Nat → Int32 × Int32
  | 0 => (f 0, -1)
  | i + 1 => if sp_hv (wt_up2 N 47 q (f i)) ≤ (sp_bo N q f i).2 then sp_bo N q f i else (f i, sp_hv (wt_up2 N 47 q (f i)))
def sp_lt (N : wt_It) (q : Nat) : Nat → Int32
  | 0 => nI 0
  | k + 1 => if sp_hv (wt_up2 N 47 q (N 47 q + nI k)) < sp_hv N then sp_lt N q k else nI k
def sp_wv (N : wt_It) (o : Nat) : Int32 := if sp_nb N o = true then nI 0 else sp_hv N - sp_hv (wt_up2 N 47 3 (N 47 3 ||| nI 1 <<< (nI o &&& 31)))
def sp_vi (N : wt_It) : Nat → Int32
  | 0 => nI 0
  | o + 1 => sp_vi N o ||| (if sp_wv N o ≤ 0 then nI 0 else nI 1 <<< (nI o &&& 31))
/-- the rules, numbered -/
def sp_rul (N : wt_It) (ru : Nat) : Prop := ru ≤ 4 ∧ N 0 5 = nI ru ∧ ∀ f, f < ru → ∃ k, k < 2 ^ 31 ∧ N 12 f = nI k ∧ sp_cok (N 13) 2800 k 0
theorem sp_rul.fok {N : wt_It} {ru f : Nat} (h : sp_rul N ru) (hf : f < ru) : sp_fok (wt_up2 N 47 0 (nI f)) := by
  obtain ⟨h1, h2, h3⟩ := h
  obtain ⟨k, a, b, c⟩ := h3 f hf
  exact Or.inr ⟨f, k, by omega, a, wt_up2_self _ _ _ _, b, c⟩
theorem sp_fok_m1 (N : wt_It) : sp_fok (wt_up2 N 47 0 (-1)) := Or.inl (wt_up2_self _ _ _ _)
theorem sp_fok.now {N : wt_It} (h : sp_fok N) (q : Nat) (v : Int32) (hq : q ≠ 0) : sp_fok (wt_up2 N 47 q v) := by
  unfold sp_fok
  rw [wt_up2_ne (fun z => hq z.2.symm)]
  exact h
theorem sp_nest_back : ∀ s, s < 32 → ∀ o, o < 5 → ¬ (nI s >>> (nI o &&& 31) &&& 1 = 1) → (nI s ||| nI 1 <<< (nI o &&& 31)) &&& ((nI 1 <<< (nI o &&& 31)) ^^^ (-1)) = nI s := by decide +kernel
section TL
variable {l : Launch} {G : wt_G} {Z : Heap → Prop} {T : tw_T} {M N : wt_It} {w : Int64}
theorem ct_bestOf (hE : tw_E G T) (ro ow ri : Nat) (hcy : sp_city N) (hC : sp_cty N ro ow ri) (hQ : sp_Q N M) (hT : M 0 0 = 0) (q n : Nat) (f : Nat → Int32) (t : Int32) (hq : q < 19) (hs : ∀ i, i < n → f (i + 1) = f i + 1) (ht : ∀ i, i < n → f i ≤ t) (hn : t < f n) (hf : ∀ i, i < n → sp_fok (wt_up2 N 47 q (f i))) : wt_Ct l G yX3_bestOf cX3_bestOf 9 (some .int) 6 0 0 [.ref T.1, .int (nI q), .int (f 0), .int t] (tw_Z G T M w) (sp_ex G T N w (sp_bo N q f n).1) := by
  refine wt_enter [some (.ref T.1), some (.int (nI q)), some (.int (f 0)), some (.int t), none, none, none, none, none] (by decide +kernel) rfl (Nat.le_of_ble_eq_true rfl) (fun X hc hok => ?_)
  have loop : ∀ (k i : Nat) (x : Int32) (M' : wt_It), i + k = n → sp_Q (wt_up2 N 47 q x) M' → M' 0 0 = 0 → wt_V G X 17 [some (.ref T.1), some (.int (nI q)), some (.int (f 0)), some (.int t), some (.int (N 47 q)), some (.int (sp_bo N q f i).1), some (.int (sp_bo N q f i).2), some (.int (f i)), none] [] (tw_Z G T M' w) 0 0 := by
    intro k
    induction k with
    | zero =>
      intro i x M' hi hQ' hT'
      have e : i = n := by omega
      subst e
      refine wt_iload_7 (pc := 17) hc dX3_bestOf_17 ?_
      refine wt_iload_3 (pc := 19) hc dX3_bestOf_19 ?_
      refine wt_icmp_gt (pc := 20) 61 hc dX3_bestOf_20 (by decide) (fun c_20 => ?_) (fun c_20 => ?_)
      · refine wt_aload_0 (pc := 61) hc dX3_bestOf_61 ?_
        refine tw_geta (pc := 62) 47 hc hE dX3_bestOf_62 q1651 (by decide) (by decide) (fun _ _ _ => rfl) rfl ?_
        refine wt_iload_1 (pc := 65) hc dX3_bestOf_65 ?_
        refine wt_iload_4 (pc := 66) hc dX3_bestOf_66 ?_
        refine tw_iast (pc := 68) (k := 47) (q) hc hE dX3_bestOf_68 rfl (rfl) (by show _ < 19; omega) (by decide) ?_
        refine wt_iload_5 (pc := 69) hc dX3_bestOf_69 ?_
        exact wt_iret (pc := 71) hc hok dX3_bestOf_71 (rfl) (fun H hZ => ⟨_, rfl, hQ'.back (by decide), hT', hZ⟩)
      · exact absurd hn (Int32.not_lt.mpr (Int32.not_lt.mp c_20))
    | succ k ih =>
      intro i x M' hi hQ' hT'
      have hQ2 := hQ'.set (f i) (by decide)
      have hf2 := hf i (by omega)
      have hcy2 : sp_city (wt_up2 N 47 q (f i)) := hcy
      have hC2 : sp_cty (wt_up2 N 47 q (f i)) ro ow ri := hC
      have hv : (sp_homes (wt_up2 M' 47 q (f i))).1 = sp_hv (wt_up2 N 47 q (f i)) := sp_hv_cong hcy2 hf2 hQ2
      have nxt := ih (i + 1) (f i) (sp_homes (wt_up2 M' 47 q (f i))).2 (by omega) (hQ2.tr (sp_Q.homes _)) ((congrFun (sp_S_homes _ rfl) 0).trans hT')
      rw [sp_bo, hs i (by omega)] at nxt
      refine wt_iload_7 (pc := 17) hc dX3_bestOf_17 ?_
      refine wt_iload_3 (pc := 19) hc dX3_bestOf_19 ?_
      refine wt_icmp_gt (pc := 20) 61 hc dX3_bestOf_20 (by decide) (fun c_20 => ?_) (fun c_20 => ?_)
      · exact absurd (ht i (by omega)) (Int32.not_le.mpr c_20)
      · refine wt_aload_0 (pc := 23) hc dX3_bestOf_23 ?_
        refine tw_geta (pc := 24) 47 hc hE dX3_bestOf_24 q1651 (by decide) (by decide) (fun _ _ _ => rfl) rfl ?_
        refine wt_iload_1 (pc := 27) hc dX3_bestOf_27 ?_
        refine wt_iload_7 (pc := 28) hc dX3_bestOf_28 ?_
        refine tw_iast (pc := 30) (k := 47) (q) hc hE dX3_bestOf_30 rfl (rfl) (by show _ < 19; omega) (by decide) ?_
        refine wt_aload_0 (pc := 31) hc dX3_bestOf_31 ?_
        refine wt_gofn (tw_inv (pc := 32) 0 hc hE (ct_homes hE ro ow ri (hcy2.Q hQ2) (hC2.Q hQ2) (hf2.Q hQ2)) dX3_bestOf_32 rfl q1989 q1991 qs80 q116 q1992 (by decide +kernel) rfl (by decide) (by decide) (Nat.le_of_ble_eq_true rfl) rfl) ?_
        rw [hv]
        refine wt_istore_8 (pc := 35) hc dX3_bestOf_35 rfl ?_
        refine wt_iload_8 (pc := 37) hc dX3_bestOf_37 ?_
        refine wt_iload_6 (pc := 39) hc dX3_bestOf_39 ?_
        refine wt_icmp_gt (pc := 41) 47 hc dX3_bestOf_41 (by decide) (fun c_41 => ?_) (fun c_41 => ?_)
        · rw [if_neg (Int32.not_le.mpr c_41)] at nxt
          refine wt_iload_7 (pc := 47) hc dX3_bestOf_47 ?_
          refine wt_istore_5 (pc := 49) hc dX3_bestOf_49 rfl ?_
          refine wt_iload_8 (pc := 51) hc dX3_bestOf_51 ?_
          refine wt_istore_6 (pc := 53) hc dX3_bestOf_53 rfl ?_
          refine wt_iinc_7 (pc := 55) hc dX3_bestOf_55 rfl rfl ?_
          refine wt_goto (pc := 58) 17 hc dX3_bestOf_58 (by decide) ?_
          exact wt_drop nxt ⟨rfl, rfl, rfl, rfl, rfl, rfl, rfl, rfl, trivial⟩
        · rw [if_pos (Int32.not_lt.mp c_41)] at nxt
          refine wt_goto (pc := 44) 55 hc dX3_bestOf_44 (by decide) ?_
          refine wt_iinc_7 (pc := 55) hc dX3_bestOf_55 rfl rfl ?_
          refine wt_goto (pc := 58) 17 hc dX3_bestOf_58 (by decide) ?_
          exact wt_drop nxt ⟨rfl, rfl, rfl, rfl, rfl, rfl, rfl, rfl, trivial⟩
  refine wt_aload_0 (pc := 0) hc dX3_bestOf_0 ?_
  refine tw_geta (pc := 1) 47 hc hE dX3_bestOf_1 q1651 (by decide) (by decide) (fun _ _ _ => rfl) rfl ?_
  refine wt_iload_1 (pc := 4) hc dX3_bestOf_4 ?_
  refine tw_iald (pc := 5) (k := 47) (q) (N 47 q) hc hE dX3_bestOf_5 rfl (rfl) (by show _ < 19; omega) (by decide) (congrFun (hQ.row (by decide) rfl) q) ?_
  refine wt_istore_4 (pc := 6) hc dX3_bestOf_6 rfl ?_
  refine wt_iload_2 (pc := 8) hc dX3_bestOf_8 ?_
  refine wt_istore_5 (pc := 9) hc dX3_bestOf_9 rfl ?_
  refine wt_iconst (pc := 11) (v := (-1 : Int32)) hc dX3_bestOf_11 (by decide) ?_
  refine wt_istore_6 (pc := 12) hc dX3_bestOf_12 rfl ?_
  refine wt_iload_2 (pc := 14) hc dX3_bestOf_14 ?_
  refine wt_istore_7 (pc := 15) hc dX3_bestOf_15 rfl ?_
  exact loop n 0 (N 47 q) M (by omega) (by rw [wt_up2_id]; exact hQ) hT
theorem ct_bright (hE : tw_E G T) (hN : sp_t0 M = N) (hcy : sp_city N) (hf : sp_fok N) : wt_Ct l G yX3_bright cX3_bright 1 (some .int) 7 0 0 [.ref T.1] (tw_Z G T M w) (sp_ex G T N w (sp_bo N 1 nI 8).1) := by
  obtain ⟨ro, ow, ri, hC⟩ := hcy.cty
  have h0 : N 0 0 = 0 := by rw [← hN]; rfl
  refine wt_enter [some (.ref T.1)] (by decide +kernel) rfl (Nat.le_of_ble_eq_true rfl) (fun X hc hok => ?_)
  refine wt_aload_0 (pc := 0) hc dX3_bright_0 ?_
  refine wt_iconst (pc := 1) (v := nI 0) hc dX3_bright_1 (by decide) ?_
  refine tw_put (pc := 2) 0 hc hE dX3_bright_2 q1604 (by decide) (fun _ _ _ => rfl) rfl rfl (rfl) rfl ?_
  refine tw_eq hN ?_
  refine wt_aload_0 (pc := 5) hc dX3_bright_5 ?_
  refine wt_iconst (pc := 6) (v := nI 1) hc dX3_bright_6 (by decide) ?_
  refine wt_iconst (pc := 7) (v := nI 0) hc dX3_bright_7 (by decide) ?_
  refine wt_bipush (pc := 8) (v := nI 7) hc dX3_bright_8 (by decide) ?_
  refine sp_goex (tw_inv (pc := 10) 3 hc hE (ct_bestOf (N := N) hE ro ow ri hcy hC (sp_Q.rf N) h0 1 8 nI (nI 7) (by decide) (fun i hi => (nI_add i 1).symm) (fun i hi => nI_le (by omega) (by omega)) (by decide) (fun i hi => hf.now 1 _ (by decide))) dX3_bright_10 rfl q2206 q2208 qs106 q116 q2209 (by decide +kernel) rfl (by decide) (by decide) (Nat.le_of_ble_eq_true rfl) rfl) (Nat.zero_le _) (Nat.zero_le _) (fun M2 hQ2 hT2 => ?_)
  exact wt_iret (pc := 13) hc hok dX3_bright_13 (rfl) (fun H hZ => ⟨_, rfl, hQ2, hT2, hZ⟩)
/-- from none on -/
def sp_fm (i : Nat) : Int32 := match i with
  | 0 => -1
  | k + 1 => nI k
theorem sp_nI_gt {a b : Nat} (ha : a < b) (hb : b < 2 ^ 31) : nI a < nI b := (nI_ltI (by omega) hb).mpr ha
theorem ct_best (hE : tw_E G T) (hN : sp_t0 M = N) (hcy : sp_city N) (ru : Nat) (hru : sp_rul N ru) : wt_Ct l G yX3_best cX3_best 1 (some .int) 7 0 0 [.ref T.1] (tw_Z G T M w) (sp_ex G T N w (sp_bo N 0 sp_fm (ru + 1)).1) := by
  obtain ⟨ro, ow, ri, hC⟩ := hcy.cty
  have h0 : N 0 0 = 0 := by rw [← hN]; rfl
  have h4 := hru.1
  have et : nI ru - nI 1 < sp_fm (ru + 1) ∧ ∀ i, i < ru + 1 → sp_fm i ≤ nI ru - nI 1 := by
    rcases (by omega : ru = 0 ∨ ru = 1 ∨ ru = 2 ∨ ru = 3 ∨ ru = 4) with rfl | rfl | rfl | rfl | rfl <;> decide
  refine wt_enter [some (.ref T.1)] (by decide +kernel) rfl (Nat.le_of_ble_eq_true rfl) (fun X hc hok => ?_)
  refine wt_aload_0 (pc := 0) hc dX3_best_0 ?_
  refine wt_iconst (pc := 1) (v := nI 0) hc dX3_best_1 (by decide) ?_
  refine tw_put (pc := 2) 0 hc hE dX3_best_2 q1604 (by decide) (fun _ _ _ => rfl) rfl rfl (rfl) rfl ?_
  refine tw_eq hN ?_
  refine wt_aload_0 (pc := 5) hc dX3_best_5 ?_
  refine wt_iconst (pc := 6) (v := nI 0) hc dX3_best_6 (by decide) ?_
  refine wt_iconst (pc := 7) (v := (-1 : Int32)) hc dX3_best_7 (by decide) ?_
  refine wt_aload_0 (pc := 8) hc dX3_best_8 ?_
  refine tw_get (pc := 9) 5 (nI ru) hc hE dX3_best_9 q1609 (by decide) (fun _ _ _ => rfl) rfl (hru.2.1) ?_
  refine wt_iconst (pc := 12) (v := nI 1) hc dX3_best_12 (by decide) ?_
  refine wt_isub (pc := 13) hc dX3_best_13 ?_
  refine sp_goex (tw_inv (pc := 14) 3 hc hE (ct_bestOf (N := N) hE ro ow ri hcy hC (sp_Q.rf N) h0 0 (ru + 1) sp_fm (nI ru - nI 1) (by decide) (fun i hi => by cases i with | zero => rfl | succ k => exact (nI_add k 1).symm) et.2 et.1 (fun i hi => by cases i with | zero => exact sp_fok_m1 N | succ k => exact hru.fok (by omega))) dX3_best_14 rfl q2206 q2208 qs106 q116 q2209 (by decide +kernel) rfl (by decide) (by decide) (Nat.le_of_ble_eq_true rfl) rfl) (Nat.zero_le _) (Nat.zero_le _) (fun M2 hQ2 hT2 => ?_)
  exact wt_iret (pc := 17) hc hok dX3_best_17 (rfl) (fun H hZ => ⟨_, rfl, hQ2, hT2, hZ⟩)
theorem ct_worthOf (hE : tw_E G T) (ro ow ri : Nat) (hcy : sp_city N) (hC : sp_cty N ro ow ri) (hf : sp_fok N) (hQ : sp_Q N M) (hT : M 0 0 = 0) (s : Nat) (hs : s < 32) (es : N 47 3 = nI s) (o : Nat) (ho : o < ow) : wt_Ct l G yX3_worthOf cX3_worthOf 4 (some .int) 6 0 0 [.ref T.1, .int (nI o)] (tw_Z G T M w) (sp_ex G T N w (sp_wv N o)) := by
  have how := hC.2.1
  have hv1 : (sp_homes M).1 = sp_hv N := sp_hv_cong hcy hf hQ
  have hQ1 : sp_Q N (sp_homes M).2 := hQ.tr (sp_Q.homes M)
  have e3 : (sp_homes M).2 47 3 = N 47 3 := congrFun (hQ1.row (by decide) rfl) 3
  have hcy2 : sp_city (wt_up2 N 47 3 (N 47 3 ||| nI 1 <<< (nI o &&& 31))) := hcy
  have hC2 : sp_cty (wt_up2 N 47 3 (N 47 3 ||| nI 1 <<< (nI o &&& 31))) ro ow ri := hC
  have hf2 : sp_fok (wt_up2 N 47 3 (N 47 3 ||| nI 1 <<< (nI o &&& 31))) := hf.now 3 _ (by decide)
  have hQ2 : sp_Q (wt_up2 N 47 3 (N 47 3 ||| nI 1 <<< (nI o &&& 31))) (wt_up2 (sp_homes M).2 47 3 (N 47 3 ||| nI 1 <<< (nI o &&& 31))) := hQ1.up 47 3 _ (by decide)
  have hv2 : (sp_homes (wt_up2 (sp_homes M).2 47 3 (N 47 3 ||| nI 1 <<< (nI o &&& 31)))).1 = sp_hv (wt_up2 N 47 3 (N 47 3 ||| nI 1 <<< (nI o &&& 31))) := sp_hv_cong hcy2 hf2 hQ2
  have hQ3 := hQ2.tr (sp_Q.homes (wt_up2 (sp_homes M).2 47 3 (N 47 3 ||| nI 1 <<< (nI o &&& 31))))
  have e4 : (sp_homes (wt_up2 (sp_homes M).2 47 3 (N 47 3 ||| nI 1 <<< (nI o &&& 31)))).2 47 3 = N 47 3 ||| nI 1 <<< (nI o &&& 31) := (congrFun (hQ3.row (by decide) rfl) 3).trans (wt_up2_self _ _ _ _)
  have hnb : sp_nb N o = sp_nb M o := (sp_nb_Q hQ o).symm
  unfold sp_wv
  refine wt_enter [some (.ref T.1), some (.int (nI o)), none, none] (by decide +kernel) rfl (Nat.le_of_ble_eq_true rfl) (fun X hc hok => ?_)
  refine wt_aload_0 (pc := 0) hc dX3_worthOf_0 ?_
  refine wt_iload_1 (pc := 1) hc dX3_worthOf_1 ?_
  refine wt_gofn (tw_inv (pc := 2) 1 hc hE (ct_nests hE _) dX3_worthOf_2 rfl q1997 q1999 qs82 q116 q2000 (by decide +kernel) rfl (by decide) (by decide) (Nat.le_of_ble_eq_true rfl) rfl) ?_
  refine wt_if_eq (pc := 5) 10 hc dX3_worthOf_5 (by decide) (fun c_5 => ?_) (fun c_5 => ?_)
  · refine wt_aload_0 (pc := 10) hc dX3_worthOf_10 ?_
    refine wt_gofn (tw_inv (pc := 11) 0 hc hE (ct_homes hE ro ow ri (hcy.Q hQ) (hC.Q hQ) (hf.Q hQ)) dX3_worthOf_11 rfl q1989 q1991 qs80 q116 q1992 (by decide +kernel) rfl (by decide) (by decide) (Nat.le_of_ble_eq_true rfl) rfl) ?_
    rw [hv1]
    refine wt_istore_2 (pc := 14) hc dX3_worthOf_14 rfl ?_
    refine wt_aload_0 (pc := 15) hc dX3_worthOf_15 ?_
    refine tw_geta (pc := 16) 47 hc hE dX3_worthOf_16 q1651 (by decide) (by decide) (fun _ _ _ => rfl) rfl ?_
    refine wt_iconst (pc := 19) (v := nI 3) hc dX3_worthOf_19 (by decide) ?_
    refine wt_dup2 (pc := 20) hc dX3_worthOf_20 rfl rfl ?_
    refine tw_iald (pc := 21) (k := 47) (3) (N 47 3) hc hE dX3_worthOf_21 rfl (rfl) (by show _ < 19; omega) (by decide) (e3) ?_
    refine wt_iconst (pc := 22) (v := nI 1) hc dX3_worthOf_22 (by decide) ?_
    refine wt_iload_1 (pc := 23) hc dX3_worthOf_23 ?_
    refine wt_ishl (pc := 24) hc dX3_worthOf_24 ?_
    refine wt_ior (pc := 25) hc dX3_worthOf_25 ?_
    refine tw_iast (pc := 26) (k := 47) (3) hc hE dX3_worthOf_26 rfl (rfl) (by show _ < 19; omega) (by decide) ?_
    refine wt_aload_0 (pc := 27) hc dX3_worthOf_27 ?_
    refine wt_gofn (tw_inv (pc := 28) 0 hc hE (ct_homes hE ro ow ri (hcy2.Q hQ2) (hC2.Q hQ2) (hf2.Q hQ2)) dX3_worthOf_28 rfl q1989 q1991 qs80 q116 q1992 (by decide +kernel) rfl (by decide) (by decide) (Nat.le_of_ble_eq_true rfl) rfl) ?_
    rw [hv2]
    refine wt_istore_3 (pc := 31) hc dX3_worthOf_31 rfl ?_
    refine wt_aload_0 (pc := 32) hc dX3_worthOf_32 ?_
    refine tw_geta (pc := 33) 47 hc hE dX3_worthOf_33 q1651 (by decide) (by decide) (fun _ _ _ => rfl) rfl ?_
    refine wt_iconst (pc := 36) (v := nI 3) hc dX3_worthOf_36 (by decide) ?_
    refine wt_dup2 (pc := 37) hc dX3_worthOf_37 rfl rfl ?_
    refine tw_iald (pc := 38) (k := 47) (3) (N 47 3 ||| nI 1 <<< (nI o &&& 31)) hc hE dX3_worthOf_38 rfl (rfl) (by show _ < 19; omega) (by decide) (e4) ?_
    refine wt_iconst (pc := 39) (v := nI 1) hc dX3_worthOf_39 (by decide) ?_
    refine wt_iload_1 (pc := 40) hc dX3_worthOf_40 ?_
    refine wt_ishl (pc := 41) hc dX3_worthOf_41 ?_
    refine wt_iconst (pc := 42) (v := (-1 : Int32)) hc dX3_worthOf_42 (by decide) ?_
    refine wt_ixor (pc := 43) hc dX3_worthOf_43 ?_
    refine wt_iand (pc := 44) hc dX3_worthOf_44 ?_
    refine tw_iast (pc := 45) (k := 47) (3) hc hE dX3_worthOf_45 rfl (rfl) (by show _ < 19; omega) (by decide) ?_
    refine wt_iload_2 (pc := 46) hc dX3_worthOf_46 ?_
    refine wt_iload_3 (pc := 47) hc dX3_worthOf_47 ?_
    refine wt_isub (pc := 48) hc dX3_worthOf_48 ?_
    exact wt_iret (pc := 49) hc hok dX3_worthOf_49 (rfl) (fun H hZ => ⟨_, by rw [if_neg (fun z => (sp_b_0.mp c_5) (of_decide_eq_true (hnb.symm.trans z)))], hQ3.back (by decide), (congrFun (sp_S_homes _ rfl) 0).trans ((congrFun (sp_S_homes _ rfl) 0).trans hT), by (have c := sp_b_0.mp c_5); rw [show M 47 3 = N 47 3 from congrFun (hQ.row (by decide) rfl) 3, es] at c; rw [es, sp_nest_back s hs o (by omega) c, ← es] at hZ; exact hZ⟩)
  · refine wt_iconst (pc := 8) (v := nI 0) hc dX3_worthOf_8 (by decide) ?_
    exact wt_iret (pc := 9) hc hok dX3_worthOf_9 (rfl) (fun H hZ => ⟨M, by rw [if_pos (hnb.trans (decide_eq_true (sp_b_n0 c_5)))], hQ, hT, hZ⟩)
theorem ct_late (hE : tw_E G T) (hN : sp_t0 M = N) (hcy : sp_city N) (hf : sp_fok N) (o : Int32) : wt_Ct l G yX3_late cX3_late 6 (some .int) 6 0 0 [.ref T.1, .int o] (tw_Z G T M w) (sp_ans G T N w (if 0 ≤ o ∧ o < N 0 3 then 0 else 1) (sp_lt N (14 + nn o) 61)) := by
  obtain ⟨ro, ow, ri, hC⟩ := hcy.cty
  have h0 : N 0 0 = 0 := by rw [← hN]; rfl
  have how := hC.2.1
  refine wt_enter [some (.ref T.1), some (.int o), none, none, none, none] (by decide +kernel) rfl (Nat.le_of_ble_eq_true rfl) (fun X hc hok => ?_)
  by_cases hp : 0 ≤ o ∧ o < N 0 3
  · obtain ⟨q, hq, rfl⟩ := sp_ix hp hC.2.2.2.2.1 (by omega)
    rw [if_pos hp, nn_nI (by omega)] at hok
    have loop : ∀ (n k : Nat) (x : Int32) (M' : wt_It), k + n = 61 → sp_Q (wt_up2 N 47 (14 + q) x) M' → M' 0 0 = 0 → wt_V G X 36 [some (.ref T.1), some (.int (nI q)), some (.int (N 47 (14 + q))), some (.int (sp_hv N)), some (.int (sp_lt N (14 + q) k)), some (.int (nI k))] [] (tw_Z G T M' w) 0 0 := by
      intro n
      induction n with
      | zero =>
        intro k x M' hk hQ' hT'
        have e : k = 61 := by omega
        subst e
        refine wt_iload_5 (pc := 36) hc dX3_late_36 ?_
        refine wt_bipush (pc := 38) (v := nI 60) hc dX3_late_38 (by decide) ?_
        refine wt_nicmp_gt (pc := 40) 79 (61) (60) hc dX3_late_40 (by decide) (by omega) (by omega) (fun c_40 => ?_) (fun c_40 => ?_)
        · refine wt_aload_0 (pc := 79) hc dX3_late_79 ?_
          refine tw_geta (pc := 80) 47 hc hE dX3_late_80 q1651 (by decide) (by decide) (fun _ _ _ => rfl) rfl ?_
          refine wt_bipush (pc := 83) (v := nI 14) hc dX3_late_83 (by decide) ?_
          refine wt_iload_1 (pc := 85) hc dX3_late_85 ?_
          refine wt_iadd (pc := 86) hc dX3_late_86 ?_
          rw [nI_add 14 q]
          refine wt_iload_2 (pc := 87) hc dX3_late_87 ?_
          refine tw_iast (pc := 88) (k := 47) (14 + q) hc hE dX3_late_88 rfl (rfl) (by show _ < 19; omega) (by decide) ?_
          refine wt_iload_4 (pc := 89) hc dX3_late_89 ?_
          exact wt_iret (pc := 91) hc hok dX3_late_91 (rfl) (fun H hZ => sp_ans_ok (hQ'.back (by decide)) hT' rfl hZ)
        · omega
      | succ n ih =>
        intro k x M' hk hQ' hT'
        have hQ2 := hQ'.set (N 47 (14 + q) + nI k) (by decide)
        have hf2 : sp_fok (wt_up2 N 47 (14 + q) (N 47 (14 + q) + nI k)) := hf.now (14 + q) _ (by omega)
        have hcy2 : sp_city (wt_up2 N 47 (14 + q) (N 47 (14 + q) + nI k)) := hcy
        have hC2 : sp_cty (wt_up2 N 47 (14 + q) (N 47 (14 + q) + nI k)) ro ow ri := hC
        have hv : (sp_homes (wt_up2 M' 47 (14 + q) (N 47 (14 + q) + nI k))).1 = sp_hv (wt_up2 N 47 (14 + q) (N 47 (14 + q) + nI k)) := sp_hv_cong hcy2 hf2 hQ2
        have nxt := ih (k + 1) (N 47 (14 + q) + nI k) (sp_homes (wt_up2 M' 47 (14 + q) (N 47 (14 + q) + nI k))).2 (by omega) (hQ2.tr (sp_Q.homes _)) ((congrFun (sp_S_homes _ rfl) 0).trans hT')
        rw [sp_lt] at nxt
        refine wt_iload_5 (pc := 36) hc dX3_late_36 ?_
        refine wt_bipush (pc := 38) (v := nI 60) hc dX3_late_38 (by decide) ?_
        refine wt_nicmp_gt (pc := 40) 79 (k) (60) hc dX3_late_40 (by decide) (by omega) (by omega) (fun c_40 => ?_) (fun c_40 => ?_)
        · omega
        · refine wt_aload_0 (pc := 43) hc dX3_late_43 ?_
          refine tw_geta (pc := 44) 47 hc hE dX3_late_44 q1651 (by decide) (by decide) (fun _ _ _ => rfl) rfl ?_
          refine wt_bipush (pc := 47) (v := nI 14) hc dX3_late_47 (by decide) ?_
          refine wt_iload_1 (pc := 49) hc dX3_late_49 ?_
          refine wt_iadd (pc := 50) hc dX3_late_50 ?_
          rw [nI_add 14 q]
          refine wt_iload_2 (pc := 51) hc dX3_late_51 ?_
          refine wt_iload_5 (pc := 52) hc dX3_late_52 ?_
          refine wt_iadd (pc := 54) hc dX3_late_54 ?_
          refine tw_iast (pc := 55) (k := 47) (14 + q) hc hE dX3_late_55 rfl (rfl) (by show _ < 19; omega) (by decide) ?_
          refine wt_aload_0 (pc := 56) hc dX3_late_56 ?_
          refine wt_gofn (tw_inv (pc := 57) 0 hc hE (ct_homes hE ro ow ri (hcy2.Q hQ2) (hC2.Q hQ2) (hf2.Q hQ2)) dX3_late_57 rfl q1989 q1991 qs80 q116 q1992 (by decide +kernel) rfl (by decide) (by decide) (Nat.le_of_ble_eq_true rfl) rfl) ?_
          rw [hv]
          refine wt_iload_3 (pc := 60) hc dX3_late_60 ?_
          refine wt_icmp_lt (pc := 61) 69 hc dX3_late_61 (by decide) (fun c_61 => ?_) (fun c_61 => ?_)
          · refine wt_iload_4 (pc := 69) hc dX3_late_69 ?_
            refine wt_istore_4 (pc := 71) hc dX3_late_71 rfl ?_
            refine wt_iinc_5 (pc := 73) (v := nI (k + 1)) hc dX3_late_73 (nI_add k 1) rfl ?_
            refine wt_goto (pc := 76) 36 hc dX3_late_76 (by decide) ?_
            first | (rw [if_pos c_61] at nxt; exact nxt) | (rw [if_neg c_61] at nxt; exact nxt)
          · refine wt_iload_5 (pc := 64) hc dX3_late_64 ?_
            refine wt_goto (pc := 66) 71 hc dX3_late_66 (by decide) ?_
            refine wt_istore_4 (pc := 71) hc dX3_late_71 rfl ?_
            refine wt_iinc_5 (pc := 73) (v := nI (k + 1)) hc dX3_late_73 (nI_add k 1) rfl ?_
            refine wt_goto (pc := 76) 36 hc dX3_late_76 (by decide) ?_
            first | (rw [if_pos c_61] at nxt; exact nxt) | (rw [if_neg c_61] at nxt; exact nxt)
    refine wt_aload_0 (pc := 0) hc dX3_late_0 ?_
    refine wt_iconst (pc := 1) (v := nI 0) hc dX3_late_1 (by decide) ?_
    refine tw_put (pc := 2) 0 hc hE dX3_late_2 q1604 (by decide) (fun _ _ _ => rfl) rfl rfl (rfl) rfl ?_
    refine tw_eq hN ?_
    refine wt_aload_0 (pc := 5) hc dX3_late_5 ?_
    refine wt_iload_1 (pc := 6) hc dX3_late_6 ?_
    refine wt_gofn (tw_inv (pc := 7) 1 hc hE (ct_isOwl hE h0 _) dX3_late_7 rfl q2056 q2058 qs93 q116 q2059 (by decide +kernel) rfl (by decide) (by decide) (Nat.le_of_ble_eq_true rfl) rfl) ?_
    rw [if_pos hp, sp_b_t hp]
    refine wt_if_ne (pc := 10) 15 hc dX3_late_10 (by decide) (fun c_10 => ?_) (fun c_10 => ?_)
    · refine wt_aload_0 (pc := 15) hc dX3_late_15 ?_
      refine tw_geta (pc := 16) 47 hc hE dX3_late_16 q1651 (by decide) (by decide) (fun _ _ _ => rfl) rfl ?_
      refine wt_bipush (pc := 19) (v := nI 14) hc dX3_late_19 (by decide) ?_
      refine wt_iload_1 (pc := 21) hc dX3_late_21 ?_
      refine wt_iadd (pc := 22) hc dX3_late_22 ?_
      rw [nI_add 14 q]
      refine tw_iald (pc := 23) (k := 47) (14 + q) _ hc hE dX3_late_23 rfl (rfl) (by show _ < 19; omega) (by decide) (rfl) ?_
      refine wt_istore_2 (pc := 24) hc dX3_late_24 rfl ?_
      refine wt_aload_0 (pc := 25) hc dX3_late_25 ?_
      refine wt_gofn (tw_inv (pc := 26) 0 hc hE (ct_homes hE ro ow ri hcy hC hf) dX3_late_26 rfl q1989 q1991 qs80 q116 q1992 (by decide +kernel) rfl (by decide) (by decide) (Nat.le_of_ble_eq_true rfl) rfl) ?_
      refine wt_istore_3 (pc := 29) hc dX3_late_29 rfl ?_
      refine wt_iconst (pc := 30) (v := nI 0) hc dX3_late_30 (by decide) ?_
      refine wt_istore_4 (pc := 31) hc dX3_late_31 rfl ?_
      refine wt_iconst (pc := 33) (v := nI 0) hc dX3_late_33 (by decide) ?_
      refine wt_istore_5 (pc := 34) hc dX3_late_34 rfl ?_
      exact loop 61 0 (N 47 (14 + q)) _ (by omega) (by rw [wt_up2_id]; exact sp_Q.homes N) ((congrFun (sp_S_homes _ rfl) 0).trans h0)
    · exact absurd c_10 (by decide)
  · rw [if_neg hp] at hok
    refine wt_aload_0 (pc := 0) hc dX3_late_0 ?_
    refine wt_iconst (pc := 1) (v := nI 0) hc dX3_late_1 (by decide) ?_
    refine tw_put (pc := 2) 0 hc hE dX3_late_2 q1604 (by decide) (fun _ _ _ => rfl) rfl rfl (rfl) rfl ?_
    refine tw_eq hN ?_
    refine wt_aload_0 (pc := 5) hc dX3_late_5 ?_
    refine wt_iload_1 (pc := 6) hc dX3_late_6 ?_
    refine wt_gofn (tw_inv (pc := 7) 1 hc hE (ct_isOwl hE h0 _) dX3_late_7 rfl q2056 q2058 qs93 q116 q2059 (by decide +kernel) rfl (by decide) (by decide) (Nat.le_of_ble_eq_true rfl) rfl) ?_
    rw [if_neg hp, sp_b_f hp]
    refine wt_if_ne (pc := 10) 15 hc dX3_late_10 (by decide) (fun c_10 => ?_) (fun c_10 => ?_)
    · exact absurd rfl c_10
    · refine wt_iconst (pc := 13) (v := nI 0) hc dX3_late_13 (by decide) ?_
      exact wt_iret (pc := 14) hc hok dX3_late_14 (rfl) (fun H hZ => sp_ans_bad (by decide) hZ)
theorem ct_worth (hE : tw_E G T) (hN : sp_t0 M = N) (hcy : sp_city N) (hf : sp_fok N) (s : Nat) (hs : s < 32) (es : N 47 3 = nI s) (o : Int32) : wt_Ct l G yX3_worth cX3_worth 2 (some .int) 7 0 0 [.ref T.1, .int o] (tw_Z G T M w) (sp_ans G T N w (if 0 ≤ o ∧ o < N 0 3 then 0 else 1) (sp_wv N (nn o))) := by
  obtain ⟨ro, ow, ri, hC⟩ := hcy.cty
  have h0 : N 0 0 = 0 := by rw [← hN]; rfl
  have how := hC.2.1
  refine wt_enter [some (.ref T.1), some (.int o)] (by decide +kernel) rfl (Nat.le_of_ble_eq_true rfl) (fun X hc hok => ?_)
  by_cases hp : 0 ≤ o ∧ o < N 0 3
  · obtain ⟨q, hq, rfl⟩ := sp_ix hp hC.2.2.2.2.1 (by omega)
    rw [if_pos hp, nn_nI (by omega)] at hok
    refine wt_aload_0 (pc := 0) hc dX3_worth_0 ?_
    refine wt_iconst (pc := 1) (v := nI 0) hc dX3_worth_1 (by decide) ?_
    refine tw_put (pc := 2) 0 hc hE dX3_worth_2 q1604 (by decide) (fun _ _ _ => rfl) rfl rfl (rfl) rfl ?_
    refine tw_eq hN ?_
    refine wt_aload_0 (pc := 5) hc dX3_worth_5 ?_
    refine wt_iload_1 (pc := 6) hc dX3_worth_6 ?_
    refine wt_gofn (tw_inv (pc := 7) 1 hc hE (ct_isOwl hE h0 _) dX3_worth_7 rfl q2056 q2058 qs93 q116 q2059 (by decide +kernel) rfl (by decide) (by decide) (Nat.le_of_ble_eq_true rfl) rfl) ?_
    rw [if_pos hp, sp_b_t hp]
    refine wt_if_eq (pc := 10) 21 hc dX3_worth_10 (by decide) (fun c_10 => ?_) (fun c_10 => ?_)
    · exact absurd c_10 (by decide)
    · refine wt_aload_0 (pc := 13) hc dX3_worth_13 ?_
      refine wt_iload_1 (pc := 14) hc dX3_worth_14 ?_
      refine sp_goex (tw_inv (pc := 15) 1 hc hE (ct_worthOf hE ro ow ri hcy hC hf (sp_Q.rf N) h0 s hs es q hq) dX3_worth_15 rfl q2186 q2188 qs105 q116 q2189 (by decide +kernel) rfl (by decide) (by decide) (Nat.le_of_ble_eq_true rfl) rfl) (Nat.zero_le _) (Nat.zero_le _) (fun M2 hQ2 hT2 => ?_)
      refine wt_goto (pc := 18) 22 hc dX3_worth_18 (by decide) ?_
      exact wt_iret (pc := 22) hc hok dX3_worth_22 (rfl) (fun H hZ => sp_ans_ok hQ2 hT2 rfl hZ)
  · rw [if_neg hp] at hok
    refine wt_aload_0 (pc := 0) hc dX3_worth_0 ?_
    refine wt_iconst (pc := 1) (v := nI 0) hc dX3_worth_1 (by decide) ?_
    refine tw_put (pc := 2) 0 hc hE dX3_worth_2 q1604 (by decide) (fun _ _ _ => rfl) rfl rfl (rfl) rfl ?_
    refine tw_eq hN ?_
    refine wt_aload_0 (pc := 5) hc dX3_worth_5 ?_
    refine wt_iload_1 (pc := 6) hc dX3_worth_6 ?_
    refine wt_gofn (tw_inv (pc := 7) 1 hc hE (ct_isOwl hE h0 _) dX3_worth_7 rfl q2056 q2058 qs93 q116 q2059 (by decide +kernel) rfl (by decide) (by decide) (Nat.le_of_ble_eq_true rfl) rfl) ?_
    rw [if_neg hp, sp_b_f hp]
    refine wt_if_eq (pc := 10) 21 hc dX3_worth_10 (by decide) (fun c_10 => ?_) (fun c_10 => ?_)
    · refine wt_iconst (pc := 21) (v := nI 0) hc dX3_worth_21 (by decide) ?_
      exact wt_iret (pc := 22) hc hok dX3_worth_22 (rfl) (fun H hZ => sp_ans_bad (by decide) hZ)
    · exact absurd rfl c_10
theorem ct_vital (hE : tw_E G T) (hN : sp_t0 M = N) (hcy : sp_city N) (hf : sp_fok N) (s : Nat) (hs : s < 32) (es : N 47 3 = nI s) : wt_Ct l G yX3_vital cX3_vital 3 (some .int) 7 0 0 [.ref T.1] (tw_Z G T M w) (sp_ex G T N w (sp_vi N (nn (N 0 3)))) := by
  obtain ⟨ro, ow, ri, hC⟩ := hcy.cty
  have h0 : N 0 0 = 0 := by rw [← hN]; rfl
  have how := hC.2.1
  rw [hC.2.2.2.2.1, nn_nI (by omega)]
  refine wt_enter [some (.ref T.1), none, none] (by decide +kernel) rfl (Nat.le_of_ble_eq_true rfl) (fun X hc hok => ?_)
  have loop : ∀ (n o : Nat) (M' : wt_It), o + n = ow → sp_Q N M' → M' 0 0 = 0 → wt_V G X 9 [some (.ref T.1), some (.int (sp_vi N o)), some (.int (nI o))] [] (tw_Z G T M' w) 0 0 := by
    intro n
    induction n with
    | zero =>
      intro o M' ho hQ' hT'
      have e : o = ow := by omega
      subst e
      refine wt_iload_2 (pc := 9) hc dX3_vital_9 ?_
      refine wt_aload_0 (pc := 10) hc dX3_vital_10 ?_
      refine tw_get (pc := 11) 3 (nI o) hc hE dX3_vital_11 q1607 (by decide) (fun _ _ _ => rfl) rfl ((hC.Q hQ').2.2.2.2.1) ?_
      refine wt_nicmp_ge (pc := 14) 41 (o) (o) hc dX3_vital_14 (by decide) (by omega) (by omega) (fun c_14 => ?_) (fun c_14 => ?_)
      · refine wt_iload_1 (pc := 41) hc dX3_vital_41 ?_
        exact wt_iret (pc := 42) hc hok dX3_vital_42 (rfl) (fun H hZ => ⟨_, rfl, hQ', hT', hZ⟩)
      · omega
    | succ n ih =>
      intro o M' ho hQ' hT'
      have nxt := fun M2 => ih (o + 1) M2 (by omega)
      rw [sp_vi] at nxt
      refine wt_iload_2 (pc := 9) hc dX3_vital_9 ?_
      refine wt_aload_0 (pc := 10) hc dX3_vital_10 ?_
      refine tw_get (pc := 11) 3 (nI ow) hc hE dX3_vital_11 q1607 (by decide) (fun _ _ _ => rfl) rfl ((hC.Q hQ').2.2.2.2.1) ?_
      refine wt_nicmp_ge (pc := 14) 41 (o) (ow) hc dX3_vital_14 (by decide) (by omega) (by omega) (fun c_14 => ?_) (fun c_14 => ?_)
      · omega
      · refine wt_iload_1 (pc := 17) hc dX3_vital_17 ?_
        refine wt_aload_0 (pc := 18) hc dX3_vital_18 ?_
        refine wt_iload_2 (pc := 19) hc dX3_vital_19 ?_
        refine sp_goex (tw_inv (pc := 20) 1 hc hE (ct_worthOf hE ro ow ri hcy hC hf hQ' hT' s hs es o (by omega)) dX3_vital_20 rfl q2186 q2188 qs105 q116 q2189 (by decide +kernel) rfl (by decide) (by decide) (Nat.le_of_ble_eq_true rfl) rfl) (Nat.zero_le _) (Nat.zero_le _) (fun M2 hQ2 hT2 => ?_)
        refine wt_if_le (pc := 23) 32 hc dX3_vital_23 (by decide) (fun c_23 => ?_) (fun c_23 => ?_)
        · refine wt_iconst (pc := 32) (v := nI 0) hc dX3_vital_32 (by decide) ?_
          refine wt_ior (pc := 33) hc dX3_vital_33 ?_
          refine wt_istore_1 (pc := 34) hc dX3_vital_34 rfl ?_
          refine wt_iinc_2 (pc := 35) (v := nI (o + 1)) hc dX3_vital_35 (nI_add o 1) rfl ?_
          refine wt_goto (pc := 38) 9 hc dX3_vital_38 (by decide) ?_
          first | (rw [if_pos c_23] at nxt; exact nxt _ hQ2 hT2) | (rw [if_neg c_23] at nxt; exact nxt _ hQ2 hT2)
        · refine wt_iconst (pc := 26) (v := nI 1) hc dX3_vital_26 (by decide) ?_
          refine wt_iload_2 (pc := 27) hc dX3_vital_27 ?_
          refine wt_ishl (pc := 28) hc dX3_vital_28 ?_
          refine wt_goto (pc := 29) 33 hc dX3_vital_29 (by decide) ?_
          refine wt_ior (pc := 33) hc dX3_vital_33 ?_
          refine wt_istore_1 (pc := 34) hc dX3_vital_34 rfl ?_
          refine wt_iinc_2 (pc := 35) (v := nI (o + 1)) hc dX3_vital_35 (nI_add o 1) rfl ?_
          refine wt_goto (pc := 38) 9 hc dX3_vital_38 (by decide) ?_
          first | (rw [if_pos c_23] at nxt; exact nxt _ hQ2 hT2) | (rw [if_neg c_23] at nxt; exact nxt _ hQ2 hT2)
  refine wt_aload_0 (pc := 0) hc dX3_vital_0 ?_
  refine wt_iconst (pc := 1) (v := nI 0) hc dX3_vital_1 (by decide) ?_
  refine tw_put (pc := 2) 0 hc hE dX3_vital_2 q1604 (by decide) (fun _ _ _ => rfl) rfl rfl (rfl) rfl ?_
  refine tw_eq hN ?_
  refine wt_iconst (pc := 5) (v := nI 0) hc dX3_vital_5 (by decide) ?_
  refine wt_istore_1 (pc := 6) hc dX3_vital_6 rfl ?_
  refine wt_iconst (pc := 7) (v := nI 0) hc dX3_vital_7 (by decide) ?_
  refine wt_istore_2 (pc := 8) hc dX3_vital_8 rfl ?_
  exact loop ow 0 N (by omega) (sp_Q.rf N) h0
end TL
