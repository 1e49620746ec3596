/-! THE REFERENCE: tokens -/
set_option maxRecDepth 100000
def tk_at (b : Nat → Int32) (n k : Nat) : Int32 := if k < n then b k else 0
abbrev tk_isL (c : Int32) : Prop := 97 ≤ c ∧ c ≤ 122
abbrev tk_isD (c : Int32) : Prop := 48 ≤ c ∧ c ≤ 57
/-- behind spaces -/
def tk_sk (b : Nat → Int32) (n : Nat) : Nat → Nat → Nat
  | 0, p => p
  | f + 1, p => if tk_at b n p = nI 32 ∨ tk_at b n p = nI 10 then tk_sk b n f (p + 1) else p
def tk_le (b : Nat → Int32) (n : Nat) : Nat → Nat → Nat
  | 0, p => p
  | f + 1, p => if tk_isL (tk_at b n p) then tk_le b n f (p + 1) else p
def tk_di (b : Nat → Int32) (n : Nat) : Nat → Nat → Nat
  | 0, p => p
  | f + 1, p => if tk_isD (tk_at b n p) then tk_di b n f (p + 1) else p
def tk_wd (b : Nat → Int32) (n q : Nat) : Nat → Int64
  | 0 => 0
  | k + 1 => if k < 6 then tk_wd b n q k <<< ((nI 5).toInt64 &&& 63) ||| (tk_at b n (q + k) - nI 96).toInt64 else tk_wd b n q k
def tk_vl (b : Nat → Int32) (n q : Nat) : Nat → Int32
  | 0 => nI 0
  | k + 1 => if k < 4 then nI 10 * tk_vl b n q k + tk_at b n (q + k) - nI 48 else tk_vl b n q k
abbrev tk_isS (c : Int32) : Prop := c = nI 59 ∨ c = nI 40 ∨ c = nI 41 ∨ c = nI 43 ∨ c = nI 45 ∨ c = nI 42 ∨ c = nI 47 ∨ c = nI 60 ∨ c = nI 61
def rd_B (M : wt_It) (n q : Nat) : wt_It := wt_up2 (wt_up2 (wt_up2 (wt_up2 M 0 20 (nI q)) 0 22 (nI q)) 0 24 (nI 0)) 0 25 (tk_at (M 14) n q)
def rd_T (B : wt_It) (q e : Nat) (so : Int32) : wt_It := wt_up2 (wt_up2 (wt_up2 B 0 20 (nI e)) 0 21 so) 0 23 (nI (e - q))
/-- the token at q, q behind spaces -/
def rd_tok (M : wt_It) (n q : Nat) : wt_It × Int64 :=
  if n ≤ q then (rd_T (rd_B M n q) q q (nI 0), 0)
  else if tk_isL (tk_at (M 14) n q) then (rd_T (rd_B M n q) q (tk_le (M 14) n (n - q) q) (nI 1), tk_wd (M 14) n q (tk_le (M 14) n (n - q) q - q))
  else if tk_isD (tk_at (M 14) n q) then (rd_T (wt_up2 (rd_B M n q) 0 24 (tk_vl (M 14) n q (tk_di (M 14) n (n - q) q - q))) q (tk_di (M 14) n (n - q) q) (nI 2), 0)
  else (rd_T (rd_B M n q) q (q + 1) (if tk_isS (tk_at (M 14) n q) then nI 3 else nI 4), 0)
def rd_goN (M : wt_It) (n p : Nat) : wt_It × Int64 := rd_tok M n (tk_sk (M 14) n (n - p) p)
def rd_go (M : wt_It) : wt_It × Int64 := rd_goN M (nn (M 0 19)) (nn (M 0 20))
def rd_in (M : wt_It) (n p : Nat) : Prop := n ≤ 700 ∧ p ≤ n ∧ M 0 19 = nI n ∧ M 0 20 = nI p
theorem rd_go_in {M : wt_It} {n p : Nat} (h : rd_in M n p) : rd_go M = rd_goN M n p := by
  unfold rd_go
  rw [h.2.2.1, h.2.2.2, nn_nI (by have := h.1; omega), nn_nI (by have := h.1; have := h.2.1; omega)]
theorem tk_sk_le {b : Nat → Int32} {n : Nat} : ∀ f p, p + f ≤ n → tk_sk b n f p ≤ n ∧ p ≤ tk_sk b n f p := by
  intro f
  induction f with
  | zero => intro p h; exact ⟨h, Nat.le_refl _⟩
  | succ f ih =>
    intro p h
    rw [tk_sk]
    split
    · have := ih (p + 1) (by omega)
      omega
    · omega
theorem tk_le_le {b : Nat → Int32} {n : Nat} : ∀ f p, p + f ≤ n → tk_le b n f p ≤ n ∧ p ≤ tk_le b n f p := by
  intro f
  induction f with
  | zero => intro p h; exact ⟨h, Nat.le_refl _⟩
  | succ f ih =>
    intro p h
    rw [tk_le]
    split
    · have := ih (p + 1) (by omega)
      omega
    · omega
theorem tk_di_le {b : Nat → Int32} {n : Nat} : ∀ f p, p + f ≤ n → tk_di b n f p ≤ n ∧ p ≤ tk_di b n f p := by
  intro f
  induction f with
  | zero => intro p h; exact ⟨h, Nat.le_refl _⟩
  | succ f ih =>
    intro p h
    rw [tk_di]
    split
    · have := ih (p + 1) (by omega)
      omega
    · omega
theorem sp_lcmp0 {x y : Int64} : lg_cmp x y = 0 ↔ x = y := by
  unfold lg_cmp
  by_cases h1 : x > y
  · rw [if_pos h1]
    exact ⟨fun z => absurd z (by decide), fun z => absurd z.symm (Int64.ne_of_lt h1)⟩
  · rw [if_neg h1]
    by_cases h2 : x = y
    · rw [if_pos h2]; exact ⟨fun _ => h2, fun _ => rfl⟩
    · rw [if_neg h2]; exact ⟨fun z => absurd z (by decide), fun z => absurd z h2⟩
def sp_sp2 (a b : Int32) : Int64 := (a.toInt64 - 96) <<< ((nI 5).toInt64 &&& 63) ||| (b - nI 96).toInt64
def sp_spx (v : Int64) (c : Int32) : Int64 := if c = 0 then v else v <<< ((nI 5).toInt64 &&& 63) ||| (c - nI 96).toInt64
def sp_let (k : Nat) : Int64 := match k with
  | 0 => sp_spx (sp_spx (sp_spx (sp_spx (sp_sp2 (nI 109) (nI 105)) (nI 99)) (nI 101)) (nI 0)) (nI 0)
  | 1 => sp_spx (sp_spx (sp_spx (sp_spx (sp_sp2 (nI 103) (nI 114)) (nI 97)) (nI 105)) (nI 110)) (nI 0)
  | 2 => sp_spx (sp_spx (sp_spx (sp_spx (sp_sp2 (nI 107) (nI 105)) (nI 110)) (nI 100)) (nI 0)) (nI 0)
  | 3 => sp_spx (sp_spx (sp_spx (sp_spx (sp_sp2 (nI 115) (nI 116)) (nI 111)) (nI 112)) (nI 0)) (nI 0)
  | 4 => sp_spx (sp_spx (sp_spx (sp_spx (sp_sp2 (nI 109) (nI 111)) (nI 111)) (nI 110)) (nI 0)) (nI 0)
  | 5 => sp_spx (sp_spx (sp_spx (sp_spx (sp_sp2 (nI 119) (nI 101)) (nI 116)) (nI 0)) (nI 0)) (nI 0)
  | 6 => sp_spx (sp_spx (sp_spx (sp_spx (sp_sp2 (nI 104) (nI 111)) (nI 117)) (nI 114)) (nI 0)) (nI 0)
  | 7 => sp_spx (sp_spx (sp_spx (sp_spx (sp_sp2 (nI 116) (nI 97)) (nI 119)) (nI 110)) (nI 121)) (nI 0)
  | 8 => sp_spx (sp_spx (sp_spx (sp_spx (sp_sp2 (nI 98) (nI 97)) (nI 114)) (nI 110)) (nI 0)) (nI 0)
  | 9 => sp_spx (sp_spx (sp_spx (sp_spx (sp_sp2 (nI 119) (nI 104)) (nI 105)) (nI 116)) (nI 101)) (nI 0)
  | 10 => sp_spx (sp_spx (sp_spx (sp_spx (sp_sp2 (nI 114) (nI 111)) (nI 111)) (nI 102)) (nI 0)) (nI 0)
  | 11 => sp_spx (sp_spx (sp_spx (sp_spx (sp_sp2 (nI 102) (nI 108)) (nI 105)) (nI 103)) (nI 104)) (nI 116)
  | 12 => sp_spx (sp_spx (sp_spx (sp_spx (sp_sp2 (nI 114) (nI 105)) (nI 100)) (nI 101)) (nI 114)) (nI 0)
  | 13 => sp_spx (sp_spx (sp_spx (sp_spx (sp_sp2 (nI 100) (nI 97)) (nI 119)) (nI 110)) (nI 0)) (nI 0)
  | 14 => sp_spx (sp_spx (sp_spx (sp_spx (sp_sp2 (nI 104) (nI 117)) (nI 110)) (nI 116)) (nI 115)) (nI 0)
  | 15 => sp_spx (sp_spx (sp_spx (sp_spx (sp_sp2 (nI 97) (nI 110)) (nI 100)) (nI 0)) (nI 0)) (nI 0)
  | 16 => sp_spx (sp_spx (sp_spx (sp_spx (sp_sp2 (nI 111) (nI 114)) (nI 0)) (nI 0)) (nI 0)) (nI 0)
  | _ => sp_spx (sp_spx (sp_spx (sp_spx (sp_sp2 (nI 110) (nI 111)) (nI 116)) (nI 0)) (nI 0)) (nI 0)
def sp_kwL (w : Int64) : Nat → Nat → Int32
  | 0, _ => -1
  | n + 1, k => if sp_let k = w then nI k else sp_kwL w n (k + 1)
/-- which known word the token is -/
def sp_kw (M : wt_It) (w : Int64) : Int32 := if M 0 21 = nI 1 then (if M 0 23 ≤ nI 6 then sp_kwL w 18 0 else -1) else -1
theorem rd_24 (B : wt_It) (a b : Int32) (x y : Int32) : wt_up2 (wt_up2 (wt_up2 (wt_up2 B 0 24 a) 0 20 x) 0 24 b) 0 20 y = wt_up2 (wt_up2 B 0 24 b) 0 20 y := by
  funext i j
  simp only [wt_up2]
  by_cases h1 : i = 0 ∧ j = 20
  · simp [h1]
  · by_cases h2 : i = 0 ∧ j = 24
    · simp [h1, h2]
    · simp [h1, h2]
theorem rd_240 (M : wt_It) (n q : Nat) : wt_up2 (wt_up2 (rd_B M n q) 0 24 (nI 0)) 0 20 (nI q) = rd_B M n q := by
  have h1 : wt_up2 (rd_B M n q) 0 24 (nI 0) = rd_B M n q := wt_up2_id (rd_B M n q) 0 24
  rw [h1]
  exact wt_up2_id (rd_B M n q) 0 20
section TQ
variable {l : Launch} {G : wt_G} {Z : Heap → Prop} {T : tw_T} {M N : wt_It} {w : Int64}
theorem ct_byteN (hE : tw_E G T) (n k : Nat) (hn : n ≤ 700) (e : M 0 19 = nI n) (hk : k < 2 ^ 31) (b : Nat → Int32) (hb : M 14 = b) : wt_Ct l G yX3_byteAt cX3_byteAt 2 (some .int) 1 0 0 [.ref T.1, .int (nI k)] (tw_Z G T M w) (wt_fn (tk_at b n k) (tw_Z G T M w)) := by
  subst hb
  have h := ct_byteAt (l := l) (G := G) (M := M) (w := w) hE k (by rw [e]; rcases Nat.lt_or_ge k n with h | h; exact Or.inl (by omega); exact Or.inr (nI_le h hk))
  have ev : (if nI k < M 0 19 then M 14 k else 0) = tk_at (M 14) n k := by
    unfold tk_at
    rw [e]
    rcases Nat.lt_or_ge k n with h | h
    · rw [if_pos h, if_pos ((nI_ltI hk (by omega)).mpr h)]
    · rw [if_neg (show ¬ k < n by omega), if_neg (fun z => by have := (nI_ltI hk (by omega)).mp z; omega)]
  rw [ev] at h
  exact h
theorem ct_spelled (a b c d e f : Int32) : wt_Ct l G yX3_spelled cX3_spelled 8 (some .long) 1 0 0 [.int a, .int b, .int c, .int d, .int e, .int f] Z (wt_fl (sp_spx (sp_spx (sp_spx (sp_spx (sp_sp2 a b) c) d) e) f) Z) := by
  refine wt_enter [some (.int a), some (.int b), some (.int c), some (.int d), some (.int e), some (.int f), none, none] (by decide +kernel) rfl (Nat.le_of_ble_eq_true rfl) (fun X hc hok => ?_)
  have t4 : ∀ v, sp_spx v f = sp_spx (sp_spx (sp_spx (sp_spx (sp_sp2 a b) c) d) e) f → wt_V G X 66 [some (.int a), some (.int b), some (.int c), some (.int d), some (.int e), some (.int f), some (.long v), none] [] Z 0 0 := by
    intro v hv
    refine wt_iload_5 (pc := 66) hc dX3_spelled_66 ?_
    refine wt_if_eq (pc := 68) 84 hc dX3_spelled_68 (by decide) (fun c_68 => ?_) (fun c_68 => ?_)
    · refine wt_lload_6 (pc := 84) hc dX3_spelled_84 ?_
      exact wt_lret (pc := 86) hc hok dX3_spelled_86 (fun H hZ => ⟨by first | (rw [← hv, sp_spx, if_pos c_68]) | (rw [← hv, sp_spx, if_neg c_68]), hZ⟩)
    · refine wt_lload_6 (pc := 71) hc dX3_spelled_71 ?_
      refine wt_iconst (pc := 73) (v := nI 5) hc dX3_spelled_73 (by decide) ?_
      refine wt_lshl (pc := 74) hc dX3_spelled_74 ?_
      refine wt_iload_5 (pc := 75) hc dX3_spelled_75 ?_
      refine wt_bipush (pc := 77) (v := nI 96) hc dX3_spelled_77 (by decide) ?_
      refine wt_isub (pc := 79) hc dX3_spelled_79 ?_
      refine wt_i2l (pc := 80) hc dX3_spelled_80 ?_
      refine wt_lor (pc := 81) hc dX3_spelled_81 ?_
      refine wt_lstore_6 (pc := 82) hc dX3_spelled_82 rfl ?_
      refine wt_lload_6 (pc := 84) hc dX3_spelled_84 ?_
      exact wt_lret (pc := 86) hc hok dX3_spelled_86 (fun H hZ => ⟨by first | (rw [← hv, sp_spx, if_pos c_68]) | (rw [← hv, sp_spx, if_neg c_68]), hZ⟩)
  have t3 : ∀ v, sp_spx v e = sp_spx (sp_spx (sp_spx (sp_sp2 a b) c) d) e → wt_V G X 48 [some (.int a), some (.int b), some (.int c), some (.int d), some (.int e), some (.int f), some (.long v), none] [] Z 0 0 := by
    intro v hv
    refine wt_iload_4 (pc := 48) hc dX3_spelled_48 ?_
    refine wt_if_eq (pc := 50) 66 hc dX3_spelled_50 (by decide) (fun c_50 => ?_) (fun c_50 => ?_)
    · first | exact t4 _ (by rw [← hv]; exact congrArg (fun z => sp_spx z f) (if_pos c_50).symm) | exact t4 _ (by rw [← hv]; exact congrArg (fun z => sp_spx z f) (if_neg c_50).symm)
    · refine wt_lload_6 (pc := 53) hc dX3_spelled_53 ?_
      refine wt_iconst (pc := 55) (v := nI 5) hc dX3_spelled_55 (by decide) ?_
      refine wt_lshl (pc := 56) hc dX3_spelled_56 ?_
      refine wt_iload_4 (pc := 57) hc dX3_spelled_57 ?_
      refine wt_bipush (pc := 59) (v := nI 96) hc dX3_spelled_59 (by decide) ?_
      refine wt_isub (pc := 61) hc dX3_spelled_61 ?_
      refine wt_i2l (pc := 62) hc dX3_spelled_62 ?_
      refine wt_lor (pc := 63) hc dX3_spelled_63 ?_
      refine wt_lstore_6 (pc := 64) hc dX3_spelled_64 rfl ?_
      first | exact t4 _ (by rw [← hv]; exact congrArg (fun z => sp_spx z f) (if_pos c_50).symm) | exact t4 _ (by rw [← hv]; exact congrArg (fun z => sp_spx z f) (if_neg c_50).symm)
  have t2 : ∀ v, sp_spx v d = sp_spx (sp_spx (sp_sp2 a b) c) d → wt_V G X 32 [some (.int a), some (.int b), some (.int c), some (.int d), some (.int e), some (.int f), some (.long v), none] [] Z 0 0 := by
    intro v hv
    refine wt_iload_3 (pc := 32) hc dX3_spelled_32 ?_
    refine wt_if_eq (pc := 33) 48 hc dX3_spelled_33 (by decide) (fun c_33 => ?_) (fun c_33 => ?_)
    · first | exact t3 _ (by rw [← hv]; exact congrArg (fun z => sp_spx z e) (if_pos c_33).symm) | exact t3 _ (by rw [← hv]; exact congrArg (fun z => sp_spx z e) (if_neg c_33).symm)
    · refine wt_lload_6 (pc := 36) hc dX3_spelled_36 ?_
      refine wt_iconst (pc := 38) (v := nI 5) hc dX3_spelled_38 (by decide) ?_
      refine wt_lshl (pc := 39) hc dX3_spelled_39 ?_
      refine wt_iload_3 (pc := 40) hc dX3_spelled_40 ?_
      refine wt_bipush (pc := 41) (v := nI 96) hc dX3_spelled_41 (by decide) ?_
      refine wt_isub (pc := 43) hc dX3_spelled_43 ?_
      refine wt_i2l (pc := 44) hc dX3_spelled_44 ?_
      refine wt_lor (pc := 45) hc dX3_spelled_45 ?_
      refine wt_lstore_6 (pc := 46) hc dX3_spelled_46 rfl ?_
      first | exact t3 _ (by rw [← hv]; exact congrArg (fun z => sp_spx z e) (if_pos c_33).symm) | exact t3 _ (by rw [← hv]; exact congrArg (fun z => sp_spx z e) (if_neg c_33).symm)
  refine wt_iload_0 (pc := 0) hc dX3_spelled_0 ?_
  refine wt_i2l (pc := 1) hc dX3_spelled_1 ?_
  refine wt_ldc2 (pc := 2) (v := 96) hc dX3_spelled_2 q1886 ?_
  refine wt_lsub (pc := 5) hc dX3_spelled_5 ?_
  refine wt_iconst (pc := 6) (v := nI 5) hc dX3_spelled_6 (by decide) ?_
  refine wt_lshl (pc := 7) hc dX3_spelled_7 ?_
  refine wt_iload_1 (pc := 8) hc dX3_spelled_8 ?_
  refine wt_bipush (pc := 9) (v := nI 96) hc dX3_spelled_9 (by decide) ?_
  refine wt_isub (pc := 11) hc dX3_spelled_11 ?_
  refine wt_i2l (pc := 12) hc dX3_spelled_12 ?_
  refine wt_lor (pc := 13) hc dX3_spelled_13 ?_
  refine wt_lstore_6 (pc := 14) hc dX3_spelled_14 rfl ?_
  refine wt_iload_2 (pc := 16) hc dX3_spelled_16 ?_
  refine wt_if_eq (pc := 17) 32 hc dX3_spelled_17 (by decide) (fun c_17 => ?_) (fun c_17 => ?_)
  · first | exact t2 _ (congrArg (fun z => sp_spx z d) (if_pos c_17).symm) | exact t2 _ (congrArg (fun z => sp_spx z d) (if_neg c_17).symm)
  · refine wt_lload_6 (pc := 20) hc dX3_spelled_20 ?_
    refine wt_iconst (pc := 22) (v := nI 5) hc dX3_spelled_22 (by decide) ?_
    refine wt_lshl (pc := 23) hc dX3_spelled_23 ?_
    refine wt_iload_2 (pc := 24) hc dX3_spelled_24 ?_
    refine wt_bipush (pc := 25) (v := nI 96) hc dX3_spelled_25 (by decide) ?_
    refine wt_isub (pc := 27) hc dX3_spelled_27 ?_
    refine wt_i2l (pc := 28) hc dX3_spelled_28 ?_
    refine wt_lor (pc := 29) hc dX3_spelled_29 ?_
    refine wt_lstore_6 (pc := 30) hc dX3_spelled_30 rfl ?_
    first | exact t2 _ (congrArg (fun z => sp_spx z d) (if_pos c_17).symm) | exact t2 _ (congrArg (fun z => sp_spx z d) (if_neg c_17).symm)
theorem ct_letters (k : Nat) (hk : k < 18) : wt_Ct l G yX3_letters cX3_letters 1 (some .long) 2 0 0 [.int (nI k)] Z (wt_fl (sp_let k) Z) := by
  refine wt_enter [some (.int (nI k))] (by decide +kernel) rfl (Nat.le_of_ble_eq_true rfl) (fun X hc hok => ?_)
  refine wt_iload_0 (pc := 0) hc dX3_letters_0 ?_
  rcases (by omega : k = 0 ∨ k = 1 ∨ k = 2 ∨ k = 3 ∨ k = 4 ∨ k = 5 ∨ k = 6 ∨ k = 7 ∨ k = 8 ∨ k = 9 ∨ k = 10 ∨ k = 11 ∨ k = 12 ∨ k = 13 ∨ k = 14 ∨ k = 15 ∨ k = 16 ∨ k = 17) with rfl | rfl | rfl | rfl | rfl | rfl | rfl | rfl | rfl | rfl | rfl | rfl | rfl | rfl | rfl | rfl | rfl | rfl
  · refine sp_tableIn (pc := 1) 84 0 0 hc dX3_letters_1 (by decide) rfl (by decide) (by decide) rfl (by decide) ?_
    refine wt_bipush (pc := 84) (v := nI 109) hc dX3_letters_84 (by decide) ?_
    refine wt_bipush (pc := 86) (v := nI 105) hc dX3_letters_86 (by decide) ?_
    refine wt_bipush (pc := 88) (v := nI 99) hc dX3_letters_88 (by decide) ?_
    refine wt_bipush (pc := 90) (v := nI 101) hc dX3_letters_90 (by decide) ?_
    refine wt_iconst (pc := 92) (v := nI 0) hc dX3_letters_92 (by decide) ?_
    refine wt_iconst (pc := 93) (v := nI 0) hc dX3_letters_93 (by decide) ?_
    refine wt_gofl (wt_invS (pc := 94) 6 hc (ct_spelled _ _ _ _ _ _) dX3_letters_94 rfl q1883 q1884 q116 q1885 (by decide +kernel) rfl (by decide) (by decide) (Nat.le_of_ble_eq_true rfl) rfl) ?_
    exact wt_lret (pc := 97) hc hok dX3_letters_97 (fun H hZ => ⟨rfl, hZ⟩)
  · refine sp_tableIn (pc := 1) 98 1 0 hc dX3_letters_1 (by decide) rfl (by decide) (by decide) rfl (by decide) ?_
    refine wt_bipush (pc := 98) (v := nI 103) hc dX3_letters_98 (by decide) ?_
    refine wt_bipush (pc := 100) (v := nI 114) hc dX3_letters_100 (by decide) ?_
    refine wt_bipush (pc := 102) (v := nI 97) hc dX3_letters_102 (by decide) ?_
    refine wt_bipush (pc := 104) (v := nI 105) hc dX3_letters_104 (by decide) ?_
    refine wt_bipush (pc := 106) (v := nI 110) hc dX3_letters_106 (by decide) ?_
    refine wt_iconst (pc := 108) (v := nI 0) hc dX3_letters_108 (by decide) ?_
    refine wt_gofl (wt_invS (pc := 109) 6 hc (ct_spelled _ _ _ _ _ _) dX3_letters_109 rfl q1883 q1884 q116 q1885 (by decide +kernel) rfl (by decide) (by decide) (Nat.le_of_ble_eq_true rfl) rfl) ?_
    exact wt_lret (pc := 112) hc hok dX3_letters_112 (fun H hZ => ⟨rfl, hZ⟩)
  · refine sp_tableIn (pc := 1) 113 2 0 hc dX3_letters_1 (by decide) rfl (by decide) (by decide) rfl (by decide) ?_
    refine wt_bipush (pc := 113) (v := nI 107) hc dX3_letters_113 (by decide) ?_
    refine wt_bipush (pc := 115) (v := nI 105) hc dX3_letters_115 (by decide) ?_
    refine wt_bipush (pc := 117) (v := nI 110) hc dX3_letters_117 (by decide) ?_
    refine wt_bipush (pc := 119) (v := nI 100) hc dX3_letters_119 (by decide) ?_
    refine wt_iconst (pc := 121) (v := nI 0) hc dX3_letters_121 (by decide) ?_
    refine wt_iconst (pc := 122) (v := nI 0) hc dX3_letters_122 (by decide) ?_
    refine wt_gofl (wt_invS (pc := 123) 6 hc (ct_spelled _ _ _ _ _ _) dX3_letters_123 rfl q1883 q1884 q116 q1885 (by decide +kernel) rfl (by decide) (by decide) (Nat.le_of_ble_eq_true rfl) rfl) ?_
    exact wt_lret (pc := 126) hc hok dX3_letters_126 (fun H hZ => ⟨rfl, hZ⟩)
  · refine sp_tableIn (pc := 1) 127 3 0 hc dX3_letters_1 (by decide) rfl (by decide) (by decide) rfl (by decide) ?_
    refine wt_bipush (pc := 127) (v := nI 115) hc dX3_letters_127 (by decide) ?_
    refine wt_bipush (pc := 129) (v := nI 116) hc dX3_letters_129 (by decide) ?_
    refine wt_bipush (pc := 131) (v := nI 111) hc dX3_letters_131 (by decide) ?_
    refine wt_bipush (pc := 133) (v := nI 112) hc dX3_letters_133 (by decide) ?_
    refine wt_iconst (pc := 135) (v := nI 0) hc dX3_letters_135 (by decide) ?_
    refine wt_iconst (pc := 136) (v := nI 0) hc dX3_letters_136 (by decide) ?_
    refine wt_gofl (wt_invS (pc := 137) 6 hc (ct_spelled _ _ _ _ _ _) dX3_letters_137 rfl q1883 q1884 q116 q1885 (by decide +kernel) rfl (by decide) (by decide) (Nat.le_of_ble_eq_true rfl) rfl) ?_
    exact wt_lret (pc := 140) hc hok dX3_letters_140 (fun H hZ => ⟨rfl, hZ⟩)
  · refine sp_tableIn (pc := 1) 141 4 0 hc dX3_letters_1 (by decide) rfl (by decide) (by decide) rfl (by decide) ?_
    refine wt_bipush (pc := 141) (v := nI 109) hc dX3_letters_141 (by decide) ?_
    refine wt_bipush (pc := 143) (v := nI 111) hc dX3_letters_143 (by decide) ?_
    refine wt_bipush (pc := 145) (v := nI 111) hc dX3_letters_145 (by decide) ?_
    refine wt_bipush (pc := 147) (v := nI 110) hc dX3_letters_147 (by decide) ?_
    refine wt_iconst (pc := 149) (v := nI 0) hc dX3_letters_149 (by decide) ?_
    refine wt_iconst (pc := 150) (v := nI 0) hc dX3_letters_150 (by decide) ?_
    refine wt_gofl (wt_invS (pc := 151) 6 hc (ct_spelled _ _ _ _ _ _) dX3_letters_151 rfl q1883 q1884 q116 q1885 (by decide +kernel) rfl (by decide) (by decide) (Nat.le_of_ble_eq_true rfl) rfl) ?_
    exact wt_lret (pc := 154) hc hok dX3_letters_154 (fun H hZ => ⟨rfl, hZ⟩)
  · refine sp_tableIn (pc := 1) 155 5 0 hc dX3_letters_1 (by decide) rfl (by decide) (by decide) rfl (by decide) ?_
    refine wt_bipush (pc := 155) (v := nI 119) hc dX3_letters_155 (by decide) ?_
    refine wt_bipush (pc := 157) (v := nI 101) hc dX3_letters_157 (by decide) ?_
    refine wt_bipush (pc := 159) (v := nI 116) hc dX3_letters_159 (by decide) ?_
    refine wt_iconst (pc := 161) (v := nI 0) hc dX3_letters_161 (by decide) ?_
    refine wt_iconst (pc := 162) (v := nI 0) hc dX3_letters_162 (by decide) ?_
    refine wt_iconst (pc := 163) (v := nI 0) hc dX3_letters_163 (by decide) ?_
    refine wt_gofl (wt_invS (pc := 164) 6 hc (ct_spelled _ _ _ _ _ _) dX3_letters_164 rfl q1883 q1884 q116 q1885 (by decide +kernel) rfl (by decide) (by decide) (Nat.le_of_ble_eq_true rfl) rfl) ?_
    exact wt_lret (pc := 167) hc hok dX3_letters_167 (fun H hZ => ⟨rfl, hZ⟩)
  · refine sp_tableIn (pc := 1) 168 6 0 hc dX3_letters_1 (by decide) rfl (by decide) (by decide) rfl (by decide) ?_
    refine wt_bipush (pc := 168) (v := nI 104) hc dX3_letters_168 (by decide) ?_
    refine wt_bipush (pc := 170) (v := nI 111) hc dX3_letters_170 (by decide) ?_
    refine wt_bipush (pc := 172) (v := nI 117) hc dX3_letters_172 (by decide) ?_
    refine wt_bipush (pc := 174) (v := nI 114) hc dX3_letters_174 (by decide) ?_
    refine wt_iconst (pc := 176) (v := nI 0) hc dX3_letters_176 (by decide) ?_
    refine wt_iconst (pc := 177) (v := nI 0) hc dX3_letters_177 (by decide) ?_
    refine wt_gofl (wt_invS (pc := 178) 6 hc (ct_spelled _ _ _ _ _ _) dX3_letters_178 rfl q1883 q1884 q116 q1885 (by decide +kernel) rfl (by decide) (by decide) (Nat.le_of_ble_eq_true rfl) rfl) ?_
    exact wt_lret (pc := 181) hc hok dX3_letters_181 (fun H hZ => ⟨rfl, hZ⟩)
  · refine sp_tableIn (pc := 1) 182 7 0 hc dX3_letters_1 (by decide) rfl (by decide) (by decide) rfl (by decide) ?_
    refine wt_bipush (pc := 182) (v := nI 116) hc dX3_letters_182 (by decide) ?_
    refine wt_bipush (pc := 184) (v := nI 97) hc dX3_letters_184 (by decide) ?_
    refine wt_bipush (pc := 186) (v := nI 119) hc dX3_letters_186 (by decide) ?_
    refine wt_bipush (pc := 188) (v := nI 110) hc dX3_letters_188 (by decide) ?_
    refine wt_bipush (pc := 190) (v := nI 121) hc dX3_letters_190 (by decide) ?_
    refine wt_iconst (pc := 192) (v := nI 0) hc dX3_letters_192 (by decide) ?_
    refine wt_gofl (wt_invS (pc := 193) 6 hc (ct_spelled _ _ _ _ _ _) dX3_letters_193 rfl q1883 q1884 q116 q1885 (by decide +kernel) rfl (by decide) (by decide) (Nat.le_of_ble_eq_true rfl) rfl) ?_
    exact wt_lret (pc := 196) hc hok dX3_letters_196 (fun H hZ => ⟨rfl, hZ⟩)
  · refine sp_tableIn (pc := 1) 197 8 0 hc dX3_letters_1 (by decide) rfl (by decide) (by decide) rfl (by decide) ?_
    refine wt_bipush (pc := 197) (v := nI 98) hc dX3_letters_197 (by decide) ?_
    refine wt_bipush (pc := 199) (v := nI 97) hc dX3_letters_199 (by decide) ?_
    refine wt_bipush (pc := 201) (v := nI 114) hc dX3_letters_201 (by decide) ?_
    refine wt_bipush (pc := 203) (v := nI 110) hc dX3_letters_203 (by decide) ?_
    refine wt_iconst (pc := 205) (v := nI 0) hc dX3_letters_205 (by decide) ?_
    refine wt_iconst (pc := 206) (v := nI 0) hc dX3_letters_206 (by decide) ?_
    refine wt_gofl (wt_invS (pc := 207) 6 hc (ct_spelled _ _ _ _ _ _) dX3_letters_207 rfl q1883 q1884 q116 q1885 (by decide +kernel) rfl (by decide) (by decide) (Nat.le_of_ble_eq_true rfl) rfl) ?_
    exact wt_lret (pc := 210) hc hok dX3_letters_210 (fun H hZ => ⟨rfl, hZ⟩)
  · refine sp_tableIn (pc := 1) 211 9 0 hc dX3_letters_1 (by decide) rfl (by decide) (by decide) rfl (by decide) ?_
    refine wt_bipush (pc := 211) (v := nI 119) hc dX3_letters_211 (by decide) ?_
    refine wt_bipush (pc := 213) (v := nI 104) hc dX3_letters_213 (by decide) ?_
    refine wt_bipush (pc := 215) (v := nI 105) hc dX3_letters_215 (by decide) ?_
    refine wt_bipush (pc := 217) (v := nI 116) hc dX3_letters_217 (by decide) ?_
    refine wt_bipush (pc := 219) (v := nI 101) hc dX3_letters_219 (by decide) ?_
    refine wt_iconst (pc := 221) (v := nI 0) hc dX3_letters_221 (by decide) ?_
    refine wt_gofl (wt_invS (pc := 222) 6 hc (ct_spelled _ _ _ _ _ _) dX3_letters_222 rfl q1883 q1884 q116 q1885 (by decide +kernel) rfl (by decide) (by decide) (Nat.le_of_ble_eq_true rfl) rfl) ?_
    exact wt_lret (pc := 225) hc hok dX3_letters_225 (fun H hZ => ⟨rfl, hZ⟩)
  · refine sp_tableIn (pc := 1) 226 10 0 hc dX3_letters_1 (by decide) rfl (by decide) (by decide) rfl (by decide) ?_
    refine wt_bipush (pc := 226) (v := nI 114) hc dX3_letters_226 (by decide) ?_
    refine wt_bipush (pc := 228) (v := nI 111) hc dX3_letters_228 (by decide) ?_
    refine wt_bipush (pc := 230) (v := nI 111) hc dX3_letters_230 (by decide) ?_
    refine wt_bipush (pc := 232) (v := nI 102) hc dX3_letters_232 (by decide) ?_
    refine wt_iconst (pc := 234) (v := nI 0) hc dX3_letters_234 (by decide) ?_
    refine wt_iconst (pc := 235) (v := nI 0) hc dX3_letters_235 (by decide) ?_
    refine wt_gofl (wt_invS (pc := 236) 6 hc (ct_spelled _ _ _ _ _ _) dX3_letters_236 rfl q1883 q1884 q116 q1885 (by decide +kernel) rfl (by decide) (by decide) (Nat.le_of_ble_eq_true rfl) rfl) ?_
    exact wt_lret (pc := 239) hc hok dX3_letters_239 (fun H hZ => ⟨rfl, hZ⟩)
  · refine sp_tableIn (pc := 1) 240 11 0 hc dX3_letters_1 (by decide) rfl (by decide) (by decide) rfl (by decide) ?_
    refine wt_bipush (pc := 240) (v := nI 102) hc dX3_letters_240 (by decide) ?_
    refine wt_bipush (pc := 242) (v := nI 108) hc dX3_letters_242 (by decide) ?_
    refine wt_bipush (pc := 244) (v := nI 105) hc dX3_letters_244 (by decide) ?_
    refine wt_bipush (pc := 246) (v := nI 103) hc dX3_letters_246 (by decide) ?_
    refine wt_bipush (pc := 248) (v := nI 104) hc dX3_letters_248 (by decide) ?_
    refine wt_bipush (pc := 250) (v := nI 116) hc dX3_letters_250 (by decide) ?_
    refine wt_gofl (wt_invS (pc := 252) 6 hc (ct_spelled _ _ _ _ _ _) dX3_letters_252 rfl q1883 q1884 q116 q1885 (by decide +kernel) rfl (by decide) (by decide) (Nat.le_of_ble_eq_true rfl) rfl) ?_
    exact wt_lret (pc := 255) hc hok dX3_letters_255 (fun H hZ => ⟨rfl, hZ⟩)
  · refine sp_tableIn (pc := 1) 256 12 0 hc dX3_letters_1 (by decide) rfl (by decide) (by decide) rfl (by decide) ?_
    refine wt_bipush (pc := 256) (v := nI 114) hc dX3_letters_256 (by decide) ?_
    refine wt_bipush (pc := 258) (v := nI 105) hc dX3_letters_258 (by decide) ?_
    refine wt_bipush (pc := 260) (v := nI 100) hc dX3_letters_260 (by decide) ?_
    refine wt_bipush (pc := 262) (v := nI 101) hc dX3_letters_262 (by decide) ?_
    refine wt_bipush (pc := 264) (v := nI 114) hc dX3_letters_264 (by decide) ?_
    refine wt_iconst (pc := 266) (v := nI 0) hc dX3_letters_266 (by decide) ?_
    refine wt_gofl (wt_invS (pc := 267) 6 hc (ct_spelled _ _ _ _ _ _) dX3_letters_267 rfl q1883 q1884 q116 q1885 (by decide +kernel) rfl (by decide) (by decide) (Nat.le_of_ble_eq_true rfl) rfl) ?_
    exact wt_lret (pc := 270) hc hok dX3_letters_270 (fun H hZ => ⟨rfl, hZ⟩)
  · refine sp_tableIn (pc := 1) 271 13 0 hc dX3_letters_1 (by decide) rfl (by decide) (by decide) rfl (by decide) ?_
    refine wt_bipush (pc := 271) (v := nI 100) hc dX3_letters_271 (by decide) ?_
    refine wt_bipush (pc := 273) (v := nI 97) hc dX3_letters_273 (by decide) ?_
    refine wt_bipush (pc := 275) (v := nI 119) hc dX3_letters_275 (by decide) ?_
    refine wt_bipush (pc := 277) (v := nI 110) hc dX3_letters_277 (by decide) ?_
    refine wt_iconst (pc := 279) (v := nI 0) hc dX3_letters_279 (by decide) ?_
    refine wt_iconst (pc := 280) (v := nI 0) hc dX3_letters_280 (by decide) ?_
    refine wt_gofl (wt_invS (pc := 281) 6 hc (ct_spelled _ _ _ _ _ _) dX3_letters_281 rfl q1883 q1884 q116 q1885 (by decide +kernel) rfl (by decide) (by decide) (Nat.le_of_ble_eq_true rfl) rfl) ?_
    exact wt_lret (pc := 284) hc hok dX3_letters_284 (fun H hZ => ⟨rfl, hZ⟩)
  · refine sp_tableIn (pc := 1) 285 14 0 hc dX3_letters_1 (by decide) rfl (by decide) (by decide) rfl (by decide) ?_
    refine wt_bipush (pc := 285) (v := nI 104) hc dX3_letters_285 (by decide) ?_
    refine wt_bipush (pc := 287) (v := nI 117) hc dX3_letters_287 (by decide) ?_
    refine wt_bipush (pc := 289) (v := nI 110) hc dX3_letters_289 (by decide) ?_
    refine wt_bipush (pc := 291) (v := nI 116) hc dX3_letters_291 (by decide) ?_
    refine wt_bipush (pc := 293) (v := nI 115) hc dX3_letters_293 (by decide) ?_
    refine wt_iconst (pc := 295) (v := nI 0) hc dX3_letters_295 (by decide) ?_
    refine wt_gofl (wt_invS (pc := 296) 6 hc (ct_spelled _ _ _ _ _ _) dX3_letters_296 rfl q1883 q1884 q116 q1885 (by decide +kernel) rfl (by decide) (by decide) (Nat.le_of_ble_eq_true rfl) rfl) ?_
    exact wt_lret (pc := 299) hc hok dX3_letters_299 (fun H hZ => ⟨rfl, hZ⟩)
  · refine sp_tableIn (pc := 1) 300 15 0 hc dX3_letters_1 (by decide) rfl (by decide) (by decide) rfl (by decide) ?_
    refine wt_bipush (pc := 300) (v := nI 97) hc dX3_letters_300 (by decide) ?_
    refine wt_bipush (pc := 302) (v := nI 110) hc dX3_letters_302 (by decide) ?_
    refine wt_bipush (pc := 304) (v := nI 100) hc dX3_letters_304 (by decide) ?_
    refine wt_iconst (pc := 306) (v := nI 0) hc dX3_letters_306 (by decide) ?_
    refine wt_iconst (pc := 307) (v := nI 0) hc dX3_letters_307 (by decide) ?_
    refine wt_iconst (pc := 308) (v := nI 0) hc dX3_letters_308 (by decide) ?_
    refine wt_gofl (wt_invS (pc := 309) 6 hc (ct_spelled _ _ _ _ _ _) dX3_letters_309 rfl q1883 q1884 q116 q1885 (by decide +kernel) rfl (by decide) (by decide) (Nat.le_of_ble_eq_true rfl) rfl) ?_
    exact wt_lret (pc := 312) hc hok dX3_letters_312 (fun H hZ => ⟨rfl, hZ⟩)
  · refine sp_tableIn (pc := 1) 313 16 0 hc dX3_letters_1 (by decide) rfl (by decide) (by decide) rfl (by decide) ?_
    refine wt_bipush (pc := 313) (v := nI 111) hc dX3_letters_313 (by decide) ?_
    refine wt_bipush (pc := 315) (v := nI 114) hc dX3_letters_315 (by decide) ?_
    refine wt_iconst (pc := 317) (v := nI 0) hc dX3_letters_317 (by decide) ?_
    refine wt_iconst (pc := 318) (v := nI 0) hc dX3_letters_318 (by decide) ?_
    refine wt_iconst (pc := 319) (v := nI 0) hc dX3_letters_319 (by decide) ?_
    refine wt_iconst (pc := 320) (v := nI 0) hc dX3_letters_320 (by decide) ?_
    refine wt_gofl (wt_invS (pc := 321) 6 hc (ct_spelled _ _ _ _ _ _) dX3_letters_321 rfl q1883 q1884 q116 q1885 (by decide +kernel) rfl (by decide) (by decide) (Nat.le_of_ble_eq_true rfl) rfl) ?_
    exact wt_lret (pc := 324) hc hok dX3_letters_324 (fun H hZ => ⟨rfl, hZ⟩)
  · refine wt_tableOut (pc := 1) 325 hc dX3_letters_1 (Or.inr (by decide)) (by decide) ?_
    refine wt_bipush (pc := 325) (v := nI 110) hc dX3_letters_325 (by decide) ?_
    refine wt_bipush (pc := 327) (v := nI 111) hc dX3_letters_327 (by decide) ?_
    refine wt_bipush (pc := 329) (v := nI 116) hc dX3_letters_329 (by decide) ?_
    refine wt_iconst (pc := 331) (v := nI 0) hc dX3_letters_331 (by decide) ?_
    refine wt_iconst (pc := 332) (v := nI 0) hc dX3_letters_332 (by decide) ?_
    refine wt_iconst (pc := 333) (v := nI 0) hc dX3_letters_333 (by decide) ?_
    refine wt_gofl (wt_invS (pc := 334) 6 hc (ct_spelled _ _ _ _ _ _) dX3_letters_334 rfl q1883 q1884 q116 q1885 (by decide +kernel) rfl (by decide) (by decide) (Nat.le_of_ble_eq_true rfl) rfl) ?_
    exact wt_lret (pc := 337) hc hok dX3_letters_337 (fun H hZ => ⟨rfl, hZ⟩)
theorem ct_knownWord (hE : tw_E G T) : wt_Ct l G yX3_knownWord cX3_knownWord 2 (some .int) 3 0 0 [.ref T.1] (tw_Z G T M w) (wt_fn (sp_kw M w) (tw_Z G T M w)) := by
  refine wt_enter [some (.ref T.1), none] (by decide +kernel) rfl (Nat.le_of_ble_eq_true rfl) (fun X hc hok => ?_)
  have loop : ∀ n k, k + n = 18 → sp_kw M w = sp_kwL w n k → wt_V G X 21 [some (.ref T.1), some (.int (nI k))] [] (tw_Z G T M w) 0 0 := by
    intro n
    induction n with
    | zero =>
      intro k hk hv
      have e : k = 18 := by omega
      subst e
      refine wt_iload_1 (pc := 21) hc dX3_knownWord_21 ?_
      refine wt_bipush (pc := 22) (v := nI 18) hc dX3_knownWord_22 (by decide) ?_
      refine wt_nicmp_ge (pc := 24) 47 (18) (18) hc dX3_knownWord_24 (by decide) (by omega) (by omega) (fun c_24 => ?_) (fun c_24 => ?_)
      · refine wt_iconst (pc := 47) (v := (-1 : Int32)) hc dX3_knownWord_47 (by decide) ?_
        exact wt_iret (pc := 48) hc hok dX3_knownWord_48 (rfl) (fun H hZ => ⟨by rw [hv]; rfl, hZ⟩)
      · omega
    | succ n ih =>
      intro k hk hv
      rw [sp_kwL] at hv
      refine wt_iload_1 (pc := 21) hc dX3_knownWord_21 ?_
      refine wt_bipush (pc := 22) (v := nI 18) hc dX3_knownWord_22 (by decide) ?_
      refine wt_nicmp_ge (pc := 24) 47 (k) (18) hc dX3_knownWord_24 (by decide) (by omega) (by omega) (fun c_24 => ?_) (fun c_24 => ?_)
      · omega
      · refine wt_iload_1 (pc := 27) hc dX3_knownWord_27 ?_
        refine wt_gofl (wt_invS (pc := 28) 1 hc (ct_letters k (by omega)) dX3_knownWord_28 rfl q1880 q1881 q116 q1882 (by decide +kernel) rfl (by decide) (by decide) (Nat.le_of_ble_eq_true rfl) rfl) ?_
        refine wt_aload_0 (pc := 31) hc dX3_knownWord_31 ?_
        refine tw_getw (pc := 32) hc hE dX3_knownWord_32 q1630 ?_
        refine wt_lcmp (pc := 35) hc dX3_knownWord_35 ?_
        refine wt_if_ne (pc := 36) 41 hc dX3_knownWord_36 (by decide) (fun c_36 => ?_) (fun c_36 => ?_)
        · refine wt_iinc_1 (pc := 41) (v := nI (k + 1)) hc dX3_knownWord_41 (nI_add k 1) rfl ?_
          refine wt_goto (pc := 44) 21 hc dX3_knownWord_44 (by decide) ?_
          rw [if_neg (fun z => c_36 (sp_lcmp0.mpr z))] at hv; exact ih (k + 1) (by omega) hv
        · refine wt_iload_1 (pc := 39) hc dX3_knownWord_39 ?_
          exact wt_iret (pc := 40) hc hok dX3_knownWord_40 (rfl) (fun H hZ => ⟨by rw [hv, if_pos (sp_lcmp0.mp c_36)], hZ⟩)
  refine wt_aload_0 (pc := 0) hc dX3_knownWord_0 ?_
  refine tw_get (pc := 1) 21 _ hc hE dX3_knownWord_1 q1625 (by decide) (fun _ _ _ => rfl) rfl (rfl) ?_
  refine wt_iconst (pc := 4) (v := nI 1) hc dX3_knownWord_4 (by decide) ?_
  refine wt_icmp_ne (pc := 5) 17 hc dX3_knownWord_5 (by decide) (fun c_5 => ?_) (fun c_5 => ?_)
  · refine wt_iconst (pc := 17) (v := (-1 : Int32)) hc dX3_knownWord_17 (by decide) ?_
    exact wt_iret (pc := 18) hc hok dX3_knownWord_18 (rfl) (fun H hZ => ⟨by unfold sp_kw; first | rw [if_neg c_5] | rw [if_pos c_5, if_neg c_14], hZ⟩)
  · refine wt_aload_0 (pc := 8) hc dX3_knownWord_8 ?_
    refine tw_get (pc := 9) 23 _ hc hE dX3_knownWord_9 q1627 (by decide) (fun _ _ _ => rfl) rfl (rfl) ?_
    refine wt_bipush (pc := 12) (v := nI 6) hc dX3_knownWord_12 (by decide) ?_
    refine wt_icmp_le (pc := 14) 19 hc dX3_knownWord_14 (by decide) (fun c_14 => ?_) (fun c_14 => ?_)
    · refine wt_iconst (pc := 19) (v := nI 0) hc dX3_knownWord_19 (by decide) ?_
      refine wt_istore_1 (pc := 20) hc dX3_knownWord_20 rfl ?_
      exact loop 18 0 (by omega) (by unfold sp_kw; rw [if_pos c_5, if_pos c_14])
    · refine wt_iconst (pc := 17) (v := (-1 : Int32)) hc dX3_knownWord_17 (by decide) ?_
      exact wt_iret (pc := 18) hc hok dX3_knownWord_18 (rfl) (fun H hZ => ⟨by unfold sp_kw; first | rw [if_neg c_5] | rw [if_pos c_5, if_neg c_14], hZ⟩)
theorem ct_goes (hE : tw_E G T) (n p : Nat) (hi : rd_in M n p) : wt_Ct l G yX3_goes cX3_goes 2 none 2 0 0 [.ref T.1] (tw_Z G T M w) (wt_pv (tw_Z G T (rd_go M).1 (rd_go M).2)) := by
  rw [rd_go_in hi]
  obtain ⟨hn, hp, e19, e20⟩ := hi
  refine wt_enter [some (.ref T.1), none] (by decide +kernel) rfl (Nat.le_of_ble_eq_true rfl) (fun X hc hok => ?_)
  have fin : ∀ (q e : Nat) (c : Int32) (A : wt_It) (w' : Int64), e < 2 ^ 31 → q ≤ e → A 0 20 = nI e → A 0 22 = nI q → rd_goN M n p = (wt_up2 A 0 23 (nI (e - q)), w') → wt_V G X 331 [some (.ref T.1), some (.int c)] [] (tw_Z G T A w') 0 0 := by
    intro q e c A w' he hq h20 h22 hv
    rw [hv] at hok
    refine wt_aload_0 (pc := 331) hc dX3_goes_331 ?_
    refine wt_aload_0 (pc := 332) hc dX3_goes_332 ?_
    refine tw_get (pc := 333) 20 (nI e) hc hE dX3_goes_333 q1624 (by decide) (fun _ _ _ => rfl) rfl (h20) ?_
    refine wt_aload_0 (pc := 336) hc dX3_goes_336 ?_
    refine tw_get (pc := 337) 22 (nI q) hc hE dX3_goes_337 q1626 (by decide) (fun _ _ _ => rfl) rfl (h22) ?_
    refine wt_isub (pc := 340) hc dX3_goes_340 ?_
    rw [pk_sub (a := e) (b := q) (hq)]
    refine tw_put (pc := 341) 23 hc hE dX3_goes_341 q1627 (by decide) (fun _ _ _ => rfl) rfl rfl (rfl) rfl ?_
    exact wt_vret (pc := 344) hc hok dX3_goes_344 (fun H hZ => ⟨rfl, hZ⟩)
  have tok : ∀ q : Nat, q ≤ n → rd_goN M n p = rd_tok M n q → wt_V G X 50 [some (.ref T.1), none] [] (tw_Z G T (wt_up2 M 0 20 (nI q)) w) 0 0 := by
    intro q hq hv
    have e19q : ∀ x, wt_up2 M 0 20 x 0 19 = nI n := fun x => e19
    unfold rd_tok at hv
    refine wt_aload_0 (pc := 50) hc dX3_goes_50 ?_
    refine wt_aload_0 (pc := 51) hc dX3_goes_51 ?_
    refine tw_get (pc := 52) 20 _ hc hE dX3_goes_52 q1624 (by decide) (fun _ _ _ => rfl) rfl (rfl) ?_
    refine tw_put (pc := 55) 22 hc hE dX3_goes_55 q1626 (by decide) (fun _ _ _ => rfl) rfl rfl (rfl) rfl ?_
    refine wt_aload_0 (pc := 58) hc dX3_goes_58 ?_
    refine wt_lconst (pc := 59) (v := 0) hc dX3_goes_59 (by decide) ?_
    refine tw_putw (pc := 60) hc hE dX3_goes_60 q1630 ?_
    refine wt_aload_0 (pc := 63) hc dX3_goes_63 ?_
    refine wt_iconst (pc := 64) (v := nI 0) hc dX3_goes_64 (by decide) ?_
    refine tw_put (pc := 65) 24 hc hE dX3_goes_65 q1628 (by decide) (fun _ _ _ => rfl) rfl rfl (rfl) rfl ?_
    refine wt_aload_0 (pc := 68) hc dX3_goes_68 ?_
    refine wt_aload_0 (pc := 69) hc dX3_goes_69 ?_
    refine tw_get (pc := 70) 20 (nI q) hc hE dX3_goes_70 q1624 (by decide) (fun _ _ _ => rfl) rfl (rfl) ?_
    refine wt_gofn (tw_inv (pc := 73) 1 hc hE (ct_byteN hE n q hn (by exact e19) (by omega) (M 14) (by rfl)) dX3_goes_73 rfl q1858 q1860 qs56 q116 q1861 (by decide +kernel) rfl (by decide) (by decide) (Nat.le_of_ble_eq_true rfl) rfl) ?_
    refine wt_istore_1 (pc := 76) hc dX3_goes_76 rfl ?_
    refine wt_aload_0 (pc := 77) hc dX3_goes_77 ?_
    refine wt_iload_1 (pc := 78) hc dX3_goes_78 ?_
    refine tw_put (pc := 79) 25 hc hE dX3_goes_79 q1629 (by decide) (fun _ _ _ => rfl) rfl rfl (rfl) rfl ?_
    refine wt_aload_0 (pc := 82) hc dX3_goes_82 ?_
    refine tw_get (pc := 83) 20 (nI q) hc hE dX3_goes_83 q1624 (by decide) (fun _ _ _ => rfl) rfl (rfl) ?_
    refine wt_aload_0 (pc := 86) hc dX3_goes_86 ?_
    refine tw_get (pc := 87) 19 (nI n) hc hE dX3_goes_87 q1623 (by decide) (fun _ _ _ => rfl) rfl (e19) ?_
    refine wt_nicmp_lt (pc := 90) 101 (q) (n) hc dX3_goes_90 (by decide) (by omega) (by omega) (fun c_90 => ?_) (fun c_90 => ?_)
    · rw [if_neg (by omega)] at hv
      have ll : ∀ (f k : Nat), q + k + f = n → tk_le (M 14) n (n - q) q = tk_le (M 14) n f (q + k) → wt_V G X 172 [some (.ref T.1), some (.int (tk_at (M 14) n q))] [] (tw_Z G T (wt_up2 (rd_B M n q) 0 20 (nI (tk_le (M 14) n (n - q) q))) (tk_wd (M 14) n q (tk_le (M 14) n (n - q) q - q))) 0 0 → wt_V G X 108 [some (.ref T.1), some (.int (tk_at (M 14) n q))] [] (tw_Z G T (wt_up2 (rd_B M n q) 0 20 (nI (q + k))) (tk_wd (M 14) n q k)) 0 0 := by
        intro f
        induction f with
        | zero =>
          intro k hk hv2 hend
          have e0 : ¬ tk_isL (tk_at (M 14) n (q + k)) := by
            rw [show tk_at (M 14) n (q + k) = 0 from if_neg (by omega)]
            decide
          rw [tk_le] at hv2
          refine wt_aload_0 (pc := 108) hc dX3_goes_108 ?_
          refine wt_aload_0 (pc := 109) hc dX3_goes_109 ?_
          refine tw_get (pc := 110) 20 (nI (q + k)) hc hE dX3_goes_110 q1624 (by decide) (fun _ _ _ => rfl) rfl (rfl) ?_
          refine wt_gofn (tw_inv (pc := 113) 1 hc hE (ct_byteN hE n (q + k) hn (by exact e19) (by omega) (M 14) (by rfl)) dX3_goes_113 rfl q1858 q1860 qs56 q116 q1861 (by decide +kernel) rfl (by decide) (by decide) (Nat.le_of_ble_eq_true rfl) rfl) ?_
          refine wt_gofn (wt_invS (pc := 116) 1 hc (ct_isLetter _) dX3_goes_116 rfl q1862 q1863 q116 q1864 (by decide +kernel) rfl (by decide) (by decide) (Nat.le_of_ble_eq_true rfl) rfl) ?_
          refine wt_if_eq (pc := 119) 172 hc dX3_goes_119 (by decide) (fun c_119 => ?_) (fun c_119 => ?_)
          · rw [hv2, Nat.add_sub_cancel_left] at hend
            exact hend
          · exact absurd (sp_b_n0 c_119) e0
        | succ f ih =>
          intro k hk hv2 hend
          rw [tk_le] at hv2
          refine wt_aload_0 (pc := 108) hc dX3_goes_108 ?_
          refine wt_aload_0 (pc := 109) hc dX3_goes_109 ?_
          refine tw_get (pc := 110) 20 (nI (q + k)) hc hE dX3_goes_110 q1624 (by decide) (fun _ _ _ => rfl) rfl (rfl) ?_
          refine wt_gofn (tw_inv (pc := 113) 1 hc hE (ct_byteN hE n (q + k) hn (by exact e19) (by omega) (M 14) (by rfl)) dX3_goes_113 rfl q1858 q1860 qs56 q116 q1861 (by decide +kernel) rfl (by decide) (by decide) (Nat.le_of_ble_eq_true rfl) rfl) ?_
          refine wt_gofn (wt_invS (pc := 116) 1 hc (ct_isLetter _) dX3_goes_116 rfl q1862 q1863 q116 q1864 (by decide +kernel) rfl (by decide) (by decide) (Nat.le_of_ble_eq_true rfl) rfl) ?_
          refine wt_if_eq (pc := 119) 172 hc dX3_goes_119 (by decide) (fun c_119 => ?_) (fun c_119 => ?_)
          · rw [if_neg (show ¬ tk_isL (tk_at (M 14) n (q + k)) from sp_b_0.mp c_119)] at hv2
            rw [hv2, Nat.add_sub_cancel_left] at hend
            exact hend
          · rw [if_pos (show tk_isL (tk_at (M 14) n (q + k)) from sp_b_n0 c_119)] at hv2
            have nxt := ih (k + 1) (by omega) hv2 hend
            rw [tk_wd] at nxt
            refine wt_aload_0 (pc := 122) hc dX3_goes_122 ?_
            refine tw_get (pc := 123) 20 (nI (q + k)) hc hE dX3_goes_123 q1624 (by decide) (fun _ _ _ => rfl) rfl (rfl) ?_
            refine wt_aload_0 (pc := 126) hc dX3_goes_126 ?_
            refine tw_get (pc := 127) 22 (nI q) hc hE dX3_goes_127 q1626 (by decide) (fun _ _ _ => rfl) rfl (rfl) ?_
            refine wt_isub (pc := 130) hc dX3_goes_130 ?_
            rw [show nI (q + k) - nI q = nI k from (pk_sub (by omega)).trans (by rw [Nat.add_sub_cancel_left])]
            refine wt_bipush (pc := 131) (v := nI 6) hc dX3_goes_131 (by decide) ?_
            refine wt_nicmp_ge (pc := 133) 159 (k) (6) hc dX3_goes_133 (by decide) (by omega) (by omega) (fun c_133 => ?_) (fun c_133 => ?_)
            · rw [if_neg (by omega)] at nxt
              refine wt_aload_0 (pc := 159) hc dX3_goes_159 ?_
              refine wt_dup (pc := 160) hc dX3_goes_160 rfl ?_
              refine tw_get (pc := 161) 20 (nI (q + k)) hc hE dX3_goes_161 q1624 (by decide) (fun _ _ _ => rfl) rfl (rfl) ?_
              refine wt_iconst (pc := 164) (v := nI 1) hc dX3_goes_164 (by decide) ?_
              refine wt_iadd (pc := 165) hc dX3_goes_165 ?_
              rw [nI_add (q + k) 1]
              refine tw_put (pc := 166) 20 hc hE dX3_goes_166 q1624 (by decide) (fun _ _ _ => rfl) rfl rfl (rfl) rfl ?_
              refine tw_eq (wt_up2_up2 _ _ _ _ _) ?_
              refine wt_goto (pc := 169) 108 hc dX3_goes_169 (by decide) ?_
              exact nxt
            · rw [if_pos (by omega)] at nxt
              refine wt_aload_0 (pc := 136) hc dX3_goes_136 ?_
              refine wt_aload_0 (pc := 137) hc dX3_goes_137 ?_
              refine tw_getw (pc := 138) hc hE dX3_goes_138 q1630 ?_
              refine wt_iconst (pc := 141) (v := nI 5) hc dX3_goes_141 (by decide) ?_
              refine wt_lshl (pc := 142) hc dX3_goes_142 ?_
              refine wt_aload_0 (pc := 143) hc dX3_goes_143 ?_
              refine wt_aload_0 (pc := 144) hc dX3_goes_144 ?_
              refine tw_get (pc := 145) 20 (nI (q + k)) hc hE dX3_goes_145 q1624 (by decide) (fun _ _ _ => rfl) rfl (rfl) ?_
              refine wt_gofn (tw_inv (pc := 148) 1 hc hE (ct_byteN hE n (q + k) hn (by exact e19) (by omega) (M 14) (by rfl)) dX3_goes_148 rfl q1858 q1860 qs56 q116 q1861 (by decide +kernel) rfl (by decide) (by decide) (Nat.le_of_ble_eq_true rfl) rfl) ?_
              refine wt_bipush (pc := 151) (v := nI 96) hc dX3_goes_151 (by decide) ?_
              refine wt_isub (pc := 153) hc dX3_goes_153 ?_
              refine wt_i2l (pc := 154) hc dX3_goes_154 ?_
              refine wt_lor (pc := 155) hc dX3_goes_155 ?_
              refine tw_putw (pc := 156) hc hE dX3_goes_156 q1630 ?_
              refine wt_aload_0 (pc := 159) hc dX3_goes_159 ?_
              refine wt_dup (pc := 160) hc dX3_goes_160 rfl ?_
              refine tw_get (pc := 161) 20 (nI (q + k)) hc hE dX3_goes_161 q1624 (by decide) (fun _ _ _ => rfl) rfl (rfl) ?_
              refine wt_iconst (pc := 164) (v := nI 1) hc dX3_goes_164 (by decide) ?_
              refine wt_iadd (pc := 165) hc dX3_goes_165 ?_
              rw [nI_add (q + k) 1]
              refine tw_put (pc := 166) 20 hc hE dX3_goes_166 q1624 (by decide) (fun _ _ _ => rfl) rfl rfl (rfl) rfl ?_
              refine tw_eq (wt_up2_up2 _ _ _ _ _) ?_
              refine wt_goto (pc := 169) 108 hc dX3_goes_169 (by decide) ?_
              exact nxt
      have dl : ∀ (f k : Nat), q + k + f = n → tk_di (M 14) n (n - q) q = tk_di (M 14) n f (q + k) → wt_V G X 250 [some (.ref T.1), some (.int (tk_at (M 14) n q))] [] (tw_Z G T (wt_up2 (wt_up2 (rd_B M n q) 0 24 (tk_vl (M 14) n q (tk_di (M 14) n (n - q) q - q))) 0 20 (nI (tk_di (M 14) n (n - q) q))) 0) 0 0 → wt_V G X 187 [some (.ref T.1), some (.int (tk_at (M 14) n q))] [] (tw_Z G T (wt_up2 (wt_up2 (rd_B M n q) 0 24 (tk_vl (M 14) n q k)) 0 20 (nI (q + k))) 0) 0 0 := by
        intro f
        induction f with
        | zero =>
          intro k hk hv2 hend
          have e0 : ¬ tk_isD (tk_at (M 14) n (q + k)) := by
            rw [show tk_at (M 14) n (q + k) = 0 from if_neg (by omega)]
            decide
          rw [tk_di] at hv2
          refine wt_aload_0 (pc := 187) hc dX3_goes_187 ?_
          refine wt_aload_0 (pc := 188) hc dX3_goes_188 ?_
          refine tw_get (pc := 189) 20 (nI (q + k)) hc hE dX3_goes_189 q1624 (by decide) (fun _ _ _ => rfl) rfl (rfl) ?_
          refine wt_gofn (tw_inv (pc := 192) 1 hc hE (ct_byteN hE n (q + k) hn (by exact e19) (by omega) (M 14) (by rfl)) dX3_goes_192 rfl q1858 q1860 qs56 q116 q1861 (by decide +kernel) rfl (by decide) (by decide) (Nat.le_of_ble_eq_true rfl) rfl) ?_
          refine wt_gofn (wt_invS (pc := 195) 1 hc (ct_isDigit _) dX3_goes_195 rfl q1865 q1866 q116 q1867 (by decide +kernel) rfl (by decide) (by decide) (Nat.le_of_ble_eq_true rfl) rfl) ?_
          refine wt_if_eq (pc := 198) 250 hc dX3_goes_198 (by decide) (fun c_198 => ?_) (fun c_198 => ?_)
          · rw [hv2, Nat.add_sub_cancel_left] at hend
            exact hend
          · exact absurd (sp_b_n0 c_198) e0
        | succ f ih =>
          intro k hk hv2 hend
          rw [tk_di] at hv2
          refine wt_aload_0 (pc := 187) hc dX3_goes_187 ?_
          refine wt_aload_0 (pc := 188) hc dX3_goes_188 ?_
          refine tw_get (pc := 189) 20 (nI (q + k)) hc hE dX3_goes_189 q1624 (by decide) (fun _ _ _ => rfl) rfl (rfl) ?_
          refine wt_gofn (tw_inv (pc := 192) 1 hc hE (ct_byteN hE n (q + k) hn (by exact e19) (by omega) (M 14) (by rfl)) dX3_goes_192 rfl q1858 q1860 qs56 q116 q1861 (by decide +kernel) rfl (by decide) (by decide) (Nat.le_of_ble_eq_true rfl) rfl) ?_
          refine wt_gofn (wt_invS (pc := 195) 1 hc (ct_isDigit _) dX3_goes_195 rfl q1865 q1866 q116 q1867 (by decide +kernel) rfl (by decide) (by decide) (Nat.le_of_ble_eq_true rfl) rfl) ?_
          refine wt_if_eq (pc := 198) 250 hc dX3_goes_198 (by decide) (fun c_198 => ?_) (fun c_198 => ?_)
          · rw [if_neg (show ¬ tk_isD (tk_at (M 14) n (q + k)) from sp_b_0.mp c_198)] at hv2
            rw [hv2, Nat.add_sub_cancel_left] at hend
            exact hend
          · rw [if_pos (show tk_isD (tk_at (M 14) n (q + k)) from sp_b_n0 c_198)] at hv2
            have nxt := ih (k + 1) (by omega) hv2 hend
            rw [tk_vl] at nxt
            refine wt_aload_0 (pc := 201) hc dX3_goes_201 ?_
            refine tw_get (pc := 202) 20 (nI (q + k)) hc hE dX3_goes_202 q1624 (by decide) (fun _ _ _ => rfl) rfl (rfl) ?_
            refine wt_aload_0 (pc := 205) hc dX3_goes_205 ?_
            refine tw_get (pc := 206) 22 (nI q) hc hE dX3_goes_206 q1626 (by decide) (fun _ _ _ => rfl) rfl (rfl) ?_
            refine wt_isub (pc := 209) hc dX3_goes_209 ?_
            rw [show nI (q + k) - nI q = nI k from (pk_sub (by omega)).trans (by rw [Nat.add_sub_cancel_left])]
            refine wt_iconst (pc := 210) (v := nI 4) hc dX3_goes_210 (by decide) ?_
            refine wt_nicmp_ge (pc := 211) 237 (k) (4) hc dX3_goes_211 (by decide) (by omega) (by omega) (fun c_211 => ?_) (fun c_211 => ?_)
            · rw [if_neg (by omega)] at nxt
              refine wt_aload_0 (pc := 237) hc dX3_goes_237 ?_
              refine wt_dup (pc := 238) hc dX3_goes_238 rfl ?_
              refine tw_get (pc := 239) 20 (nI (q + k)) hc hE dX3_goes_239 q1624 (by decide) (fun _ _ _ => rfl) rfl (rfl) ?_
              refine wt_iconst (pc := 242) (v := nI 1) hc dX3_goes_242 (by decide) ?_
              refine wt_iadd (pc := 243) hc dX3_goes_243 ?_
              rw [nI_add (q + k) 1]
              refine tw_put (pc := 244) 20 hc hE dX3_goes_244 q1624 (by decide) (fun _ _ _ => rfl) rfl rfl (rfl) rfl ?_
              refine tw_eq (wt_up2_up2 _ _ _ _ _) ?_
              refine wt_goto (pc := 247) 187 hc dX3_goes_247 (by decide) ?_
              exact nxt
            · rw [if_pos (by omega)] at nxt
              refine wt_aload_0 (pc := 214) hc dX3_goes_214 ?_
              refine wt_bipush (pc := 215) (v := nI 10) hc dX3_goes_215 (by decide) ?_
              refine wt_aload_0 (pc := 217) hc dX3_goes_217 ?_
              refine tw_get (pc := 218) 24 (tk_vl (M 14) n q k) hc hE dX3_goes_218 q1628 (by decide) (fun _ _ _ => rfl) rfl (rfl) ?_
              refine wt_imul (pc := 221) hc dX3_goes_221 ?_
              refine wt_aload_0 (pc := 222) hc dX3_goes_222 ?_
              refine wt_aload_0 (pc := 223) hc dX3_goes_223 ?_
              refine tw_get (pc := 224) 20 (nI (q + k)) hc hE dX3_goes_224 q1624 (by decide) (fun _ _ _ => rfl) rfl (rfl) ?_
              refine wt_gofn (tw_inv (pc := 227) 1 hc hE (ct_byteN hE n (q + k) hn (by exact e19) (by omega) (M 14) (by rfl)) dX3_goes_227 rfl q1858 q1860 qs56 q116 q1861 (by decide +kernel) rfl (by decide) (by decide) (Nat.le_of_ble_eq_true rfl) rfl) ?_
              refine wt_iadd (pc := 230) hc dX3_goes_230 ?_
              refine wt_bipush (pc := 231) (v := nI 48) hc dX3_goes_231 (by decide) ?_
              refine wt_isub (pc := 233) hc dX3_goes_233 ?_
              refine tw_put (pc := 234) 24 hc hE dX3_goes_234 q1628 (by decide) (fun _ _ _ => rfl) rfl rfl (rfl) rfl ?_
              refine wt_aload_0 (pc := 237) hc dX3_goes_237 ?_
              refine wt_dup (pc := 238) hc dX3_goes_238 rfl ?_
              refine tw_get (pc := 239) 20 (nI (q + k)) hc hE dX3_goes_239 q1624 (by decide) (fun _ _ _ => rfl) rfl (rfl) ?_
              refine wt_iconst (pc := 242) (v := nI 1) hc dX3_goes_242 (by decide) ?_
              refine wt_iadd (pc := 243) hc dX3_goes_243 ?_
              rw [nI_add (q + k) 1]
              refine tw_put (pc := 244) 20 hc hE dX3_goes_244 q1624 (by decide) (fun _ _ _ => rfl) rfl rfl (rfl) rfl ?_
              refine tw_eq (rd_24 _ _ _ _ _) ?_
              refine wt_goto (pc := 247) 187 hc dX3_goes_247 (by decide) ?_
              exact nxt
      by_cases cL : tk_isL (tk_at (M 14) n q)
      · rw [if_pos cL] at hv
        have hle := tk_le_le (b := M 14) (n - q) q (show q + (n - q) ≤ n by omega)
        refine wt_iload_1 (pc := 101) hc dX3_goes_101 ?_
        refine wt_gofn (wt_invS (pc := 102) 1 hc (ct_isLetter _) dX3_goes_102 rfl q1862 q1863 q116 q1864 (by decide +kernel) rfl (by decide) (by decide) (Nat.le_of_ble_eq_true rfl) rfl) ?_
        rw [sp_b_t (show 97 ≤ tk_at (M 14) n q ∧ tk_at (M 14) n q ≤ 122 from cL)]
        refine wt_if_eq (pc := 105) 180 hc dX3_goes_105 (by decide) (fun c_105 => ?_) (fun c_105 => ?_)
        · exact absurd c_105 (by decide)
        · have l0 := ll (n - q) 0 (by omega) rfl (by
            refine wt_aload_0 (pc := 172) hc dX3_goes_172 ?_
            refine wt_iconst (pc := 173) (v := nI 1) hc dX3_goes_173 (by decide) ?_
            refine tw_put (pc := 174) 21 hc hE dX3_goes_174 q1625 (by decide) (fun _ _ _ => rfl) rfl rfl (rfl) rfl ?_
            refine wt_goto (pc := 177) 331 hc dX3_goes_177 (by decide) ?_
            exact fin q (tk_le (M 14) n (n - q) q) _ _ _ (by omega) (by omega) rfl rfl hv)
          exact tw_eq (wt_up2_id (rd_B M n q) 0 20).symm l0
      · rw [if_neg cL] at hv
        refine wt_iload_1 (pc := 101) hc dX3_goes_101 ?_
        refine wt_gofn (wt_invS (pc := 102) 1 hc (ct_isLetter _) dX3_goes_102 rfl q1862 q1863 q116 q1864 (by decide +kernel) rfl (by decide) (by decide) (Nat.le_of_ble_eq_true rfl) rfl) ?_
        rw [sp_b_f (show ¬ (97 ≤ tk_at (M 14) n q ∧ tk_at (M 14) n q ≤ 122) from cL)]
        refine wt_if_eq (pc := 105) 180 hc dX3_goes_105 (by decide) (fun c_105 => ?_) (fun c_105 => ?_)
        · by_cases cD : tk_isD (tk_at (M 14) n q)
          · rw [if_pos cD] at hv
            have hle := tk_di_le (b := M 14) (n - q) q (show q + (n - q) ≤ n by omega)
            refine wt_iload_1 (pc := 180) hc dX3_goes_180 ?_
            refine wt_gofn (wt_invS (pc := 181) 1 hc (ct_isDigit _) dX3_goes_181 rfl q1865 q1866 q116 q1867 (by decide +kernel) rfl (by decide) (by decide) (Nat.le_of_ble_eq_true rfl) rfl) ?_
            rw [sp_b_t (show 48 ≤ tk_at (M 14) n q ∧ tk_at (M 14) n q ≤ 57 from cD)]
            refine wt_if_eq (pc := 184) 258 hc dX3_goes_184 (by decide) (fun c_184 => ?_) (fun c_184 => ?_)
            · exact absurd c_184 (by decide)
            · have l0 := dl (n - q) 0 (by omega) rfl (by
                refine wt_aload_0 (pc := 250) hc dX3_goes_250 ?_
                refine wt_iconst (pc := 251) (v := nI 2) hc dX3_goes_251 (by decide) ?_
                refine tw_put (pc := 252) 21 hc hE dX3_goes_252 q1625 (by decide) (fun _ _ _ => rfl) rfl rfl (rfl) rfl ?_
                refine wt_goto (pc := 255) 331 hc dX3_goes_255 (by decide) ?_
                exact fin q (tk_di (M 14) n (n - q) q) _ _ _ (by omega) (by omega) rfl rfl hv)
              exact tw_eq (rd_240 M n q).symm l0
          · rw [if_neg cD] at hv
            refine wt_iload_1 (pc := 180) hc dX3_goes_180 ?_
            refine wt_gofn (wt_invS (pc := 181) 1 hc (ct_isDigit _) dX3_goes_181 rfl q1865 q1866 q116 q1867 (by decide +kernel) rfl (by decide) (by decide) (Nat.le_of_ble_eq_true rfl) rfl) ?_
            rw [sp_b_f (show ¬ (48 ≤ tk_at (M 14) n q ∧ tk_at (M 14) n q ≤ 57) from cD)]
            refine wt_if_eq (pc := 184) 258 hc dX3_goes_184 (by decide) (fun c_184 => ?_) (fun c_184 => ?_)
            · have key : ∀ so, so = (if tk_isS (tk_at (M 14) n q) then nI 3 else nI 4) → wt_V G X 328 [some (.ref T.1), some (.int (tk_at (M 14) n q))] [.int so, .ref T.1] (tw_Z G T (wt_up2 (rd_B M n q) 0 20 (nI (q + 1))) 0) 0 0 := by
                intro so es
                rw [← es] at hv
                refine tw_put (pc := 328) 21 hc hE dX3_goes_328 q1625 (by decide) (fun _ _ _ => rfl) rfl rfl (rfl) rfl ?_
                exact fin q (q + 1) _ _ _ (by omega) (by omega) rfl rfl hv
              refine wt_aload_0 (pc := 258) hc dX3_goes_258 ?_
              refine wt_dup (pc := 259) hc dX3_goes_259 rfl ?_
              refine tw_get (pc := 260) 20 (nI q) hc hE dX3_goes_260 q1624 (by decide) (fun _ _ _ => rfl) rfl (rfl) ?_
              refine wt_iconst (pc := 263) (v := nI 1) hc dX3_goes_263 (by decide) ?_
              refine wt_iadd (pc := 264) hc dX3_goes_264 ?_
              rw [nI_add q 1]
              refine tw_put (pc := 265) 20 hc hE dX3_goes_265 q1624 (by decide) (fun _ _ _ => rfl) rfl rfl (rfl) rfl ?_
              refine wt_aload_0 (pc := 268) hc dX3_goes_268 ?_
              refine wt_iload_1 (pc := 269) hc dX3_goes_269 ?_
              refine wt_bipush (pc := 270) (v := nI 59) hc dX3_goes_270 (by decide) ?_
              refine wt_icmp_eq (pc := 272) 323 hc dX3_goes_272 (by decide) (fun c_272 => ?_) (fun c_272 => ?_)
              · refine wt_iconst (pc := 323) (v := nI 3) hc dX3_goes_323 (by decide) ?_
                refine wt_goto (pc := 324) 328 hc dX3_goes_324 (by decide) ?_
                exact key _ (by unfold tk_isS; simp [c_272])
              · refine wt_iload_1 (pc := 275) hc dX3_goes_275 ?_
                refine wt_bipush (pc := 276) (v := nI 40) hc dX3_goes_276 (by decide) ?_
                refine wt_icmp_eq (pc := 278) 323 hc dX3_goes_278 (by decide) (fun c_278 => ?_) (fun c_278 => ?_)
                · refine wt_iconst (pc := 323) (v := nI 3) hc dX3_goes_323 (by decide) ?_
                  refine wt_goto (pc := 324) 328 hc dX3_goes_324 (by decide) ?_
                  exact key _ (by unfold tk_isS; simp [c_272, c_278])
                · refine wt_iload_1 (pc := 281) hc dX3_goes_281 ?_
                  refine wt_bipush (pc := 282) (v := nI 41) hc dX3_goes_282 (by decide) ?_
                  refine wt_icmp_eq (pc := 284) 323 hc dX3_goes_284 (by decide) (fun c_284 => ?_) (fun c_284 => ?_)
                  · refine wt_iconst (pc := 323) (v := nI 3) hc dX3_goes_323 (by decide) ?_
                    refine wt_goto (pc := 324) 328 hc dX3_goes_324 (by decide) ?_
                    exact key _ (by unfold tk_isS; simp [c_272, c_278, c_284])
                  · refine wt_iload_1 (pc := 287) hc dX3_goes_287 ?_
                    refine wt_bipush (pc := 288) (v := nI 43) hc dX3_goes_288 (by decide) ?_
                    refine wt_icmp_eq (pc := 290) 323 hc dX3_goes_290 (by decide) (fun c_290 => ?_) (fun c_290 => ?_)
                    · refine wt_iconst (pc := 323) (v := nI 3) hc dX3_goes_323 (by decide) ?_
                      refine wt_goto (pc := 324) 328 hc dX3_goes_324 (by decide) ?_
                      exact key _ (by unfold tk_isS; simp [c_272, c_278, c_284, c_290])
                    · refine wt_iload_1 (pc := 293) hc dX3_goes_293 ?_
                      refine wt_bipush (pc := 294) (v := nI 45) hc dX3_goes_294 (by decide) ?_
                      refine wt_icmp_eq (pc := 296) 323 hc dX3_goes_296 (by decide) (fun c_296 => ?_) (fun c_296 => ?_)
                      · refine wt_iconst (pc := 323) (v := nI 3) hc dX3_goes_323 (by decide) ?_
                        refine wt_goto (pc := 324) 328 hc dX3_goes_324 (by decide) ?_
                        exact key _ (by unfold tk_isS; simp [c_272, c_278, c_284, c_290, c_296])
                      · refine wt_iload_1 (pc := 299) hc dX3_goes_299 ?_
                        refine wt_bipush (pc := 300) (v := nI 42) hc dX3_goes_300 (by decide) ?_
                        refine wt_icmp_eq (pc := 302) 323 hc dX3_goes_302 (by decide) (fun c_302 => ?_) (fun c_302 => ?_)
                        · refine wt_iconst (pc := 323) (v := nI 3) hc dX3_goes_323 (by decide) ?_
                          refine wt_goto (pc := 324) 328 hc dX3_goes_324 (by decide) ?_
                          exact key _ (by unfold tk_isS; simp [c_272, c_278, c_284, c_290, c_296, c_302])
                        · refine wt_iload_1 (pc := 305) hc dX3_goes_305 ?_
                          refine wt_bipush (pc := 306) (v := nI 47) hc dX3_goes_306 (by decide) ?_
                          refine wt_icmp_eq (pc := 308) 323 hc dX3_goes_308 (by decide) (fun c_308 => ?_) (fun c_308 => ?_)
                          · refine wt_iconst (pc := 323) (v := nI 3) hc dX3_goes_323 (by decide) ?_
                            refine wt_goto (pc := 324) 328 hc dX3_goes_324 (by decide) ?_
                            exact key _ (by unfold tk_isS; simp [c_272, c_278, c_284, c_290, c_296, c_302, c_308])
                          · refine wt_iload_1 (pc := 311) hc dX3_goes_311 ?_
                            refine wt_bipush (pc := 312) (v := nI 60) hc dX3_goes_312 (by decide) ?_
                            refine wt_icmp_eq (pc := 314) 323 hc dX3_goes_314 (by decide) (fun c_314 => ?_) (fun c_314 => ?_)
                            · refine wt_iconst (pc := 323) (v := nI 3) hc dX3_goes_323 (by decide) ?_
                              refine wt_goto (pc := 324) 328 hc dX3_goes_324 (by decide) ?_
                              exact key _ (by unfold tk_isS; simp [c_272, c_278, c_284, c_290, c_296, c_302, c_308, c_314])
                            · refine wt_iload_1 (pc := 317) hc dX3_goes_317 ?_
                              refine wt_bipush (pc := 318) (v := nI 61) hc dX3_goes_318 (by decide) ?_
                              refine wt_icmp_ne (pc := 320) 327 hc dX3_goes_320 (by decide) (fun c_320 => ?_) (fun c_320 => ?_)
                              · refine wt_iconst (pc := 327) (v := nI 4) hc dX3_goes_327 (by decide) ?_
                                exact key _ (by unfold tk_isS; simp [c_272, c_278, c_284, c_290, c_296, c_302, c_308, c_314, c_320])
                              · refine wt_iconst (pc := 323) (v := nI 3) hc dX3_goes_323 (by decide) ?_
                                refine wt_goto (pc := 324) 328 hc dX3_goes_324 (by decide) ?_
                                exact key _ (by unfold tk_isS; simp [c_272, c_278, c_284, c_290, c_296, c_302, c_308, c_314, c_320])
            · exact absurd rfl c_184
        · exact absurd rfl c_105
    · rw [if_pos (by omega)] at hv
      refine wt_aload_0 (pc := 93) hc dX3_goes_93 ?_
      refine wt_iconst (pc := 94) (v := nI 0) hc dX3_goes_94 (by decide) ?_
      refine tw_put (pc := 95) 21 hc hE dX3_goes_95 q1625 (by decide) (fun _ _ _ => rfl) rfl rfl (rfl) rfl ?_
      refine wt_goto (pc := 98) 331 hc dX3_goes_98 (by decide) ?_
      refine tw_eq ?_ (fin q q _ (wt_up2 (wt_up2 (rd_B M n q) 0 20 (nI q)) 0 21 (nI 0)) 0 (by omega) (by omega) rfl rfl hv)
      exact congrArg (fun A => wt_up2 A 0 21 (nI 0)) (wt_up2_id (rd_B M n q) 0 20).symm
  have skip : ∀ (f q : Nat), q + f = n → tk_sk (M 14) n (n - p) p = tk_sk (M 14) n f q → wt_V G X 0 [some (.ref T.1), none] [] (tw_Z G T (wt_up2 M 0 20 (nI q)) w) 0 0 := by
    intro f
    induction f with
    | zero =>
      intro q hq hv
      refine wt_aload_0 (pc := 0) hc dX3_goes_0 ?_
      refine tw_get (pc := 1) 20 (nI q) hc hE dX3_goes_1 q1624 (by decide) (fun _ _ _ => rfl) rfl (rfl) ?_
      refine wt_aload_0 (pc := 4) hc dX3_goes_4 ?_
      refine tw_get (pc := 5) 19 (nI n) hc hE dX3_goes_5 q1623 (by decide) (fun _ _ _ => rfl) rfl (e19) ?_
      refine wt_nicmp_ge (pc := 8) 50 (q) (n) hc dX3_goes_8 (by decide) (by omega) (by omega) (fun c_8 => ?_) (fun c_8 => ?_)
      · exact tok q (by omega) (by unfold rd_goN; rw [hv]; rfl)
      · omega
    | succ f ih =>
      intro q hq hv
      rw [tk_sk] at hv
      refine wt_aload_0 (pc := 0) hc dX3_goes_0 ?_
      refine tw_get (pc := 1) 20 (nI q) hc hE dX3_goes_1 q1624 (by decide) (fun _ _ _ => rfl) rfl (rfl) ?_
      refine wt_aload_0 (pc := 4) hc dX3_goes_4 ?_
      refine tw_get (pc := 5) 19 (nI n) hc hE dX3_goes_5 q1623 (by decide) (fun _ _ _ => rfl) rfl (e19) ?_
      refine wt_nicmp_ge (pc := 8) 50 (q) (n) hc dX3_goes_8 (by decide) (by omega) (by omega) (fun c_8 => ?_) (fun c_8 => ?_)
      · omega
      · refine wt_aload_0 (pc := 11) hc dX3_goes_11 ?_
        refine wt_aload_0 (pc := 12) hc dX3_goes_12 ?_
        refine tw_get (pc := 13) 20 (nI q) hc hE dX3_goes_13 q1624 (by decide) (fun _ _ _ => rfl) rfl (rfl) ?_
        refine wt_gofn (tw_inv (pc := 16) 1 hc hE (ct_byteN hE n q hn (by exact e19) (by omega) (M 14) (by rfl)) dX3_goes_16 rfl q1858 q1860 qs56 q116 q1861 (by decide +kernel) rfl (by decide) (by decide) (Nat.le_of_ble_eq_true rfl) rfl) ?_
        refine wt_bipush (pc := 19) (v := nI 32) hc dX3_goes_19 (by decide) ?_
        refine wt_icmp_eq (pc := 21) 37 hc dX3_goes_21 (by decide) (fun c_21 => ?_) (fun c_21 => ?_)
        · refine wt_aload_0 (pc := 37) hc dX3_goes_37 ?_
          refine wt_dup (pc := 38) hc dX3_goes_38 rfl ?_
          refine tw_get (pc := 39) 20 (nI q) hc hE dX3_goes_39 q1624 (by decide) (fun _ _ _ => rfl) rfl (rfl) ?_
          refine wt_iconst (pc := 42) (v := nI 1) hc dX3_goes_42 (by decide) ?_
          refine wt_iadd (pc := 43) hc dX3_goes_43 ?_
          rw [nI_add q 1]
          refine tw_put (pc := 44) 20 hc hE dX3_goes_44 q1624 (by decide) (fun _ _ _ => rfl) rfl rfl (rfl) rfl ?_
          refine tw_eq (wt_up2_up2 _ _ _ _ _) ?_
          refine wt_goto (pc := 47) 0 hc dX3_goes_47 (by decide) ?_
          first | (rw [if_pos (Or.inl c_21)] at hv; exact ih (q + 1) (by omega) hv) | (rw [if_pos (Or.inr c_34)] at hv; exact ih (q + 1) (by omega) hv)
        · refine wt_aload_0 (pc := 24) hc dX3_goes_24 ?_
          refine wt_aload_0 (pc := 25) hc dX3_goes_25 ?_
          refine tw_get (pc := 26) 20 (nI q) hc hE dX3_goes_26 q1624 (by decide) (fun _ _ _ => rfl) rfl (rfl) ?_
          refine wt_gofn (tw_inv (pc := 29) 1 hc hE (ct_byteN hE n q hn (by exact e19) (by omega) (M 14) (by rfl)) dX3_goes_29 rfl q1858 q1860 qs56 q116 q1861 (by decide +kernel) rfl (by decide) (by decide) (Nat.le_of_ble_eq_true rfl) rfl) ?_
          refine wt_bipush (pc := 32) (v := nI 10) hc dX3_goes_32 (by decide) ?_
          refine wt_icmp_ne (pc := 34) 50 hc dX3_goes_34 (by decide) (fun c_34 => ?_) (fun c_34 => ?_)
          · exact tok q (by omega) (by unfold rd_goN; rw [hv, if_neg (fun z => z.elim c_21 c_34)])
          · refine wt_aload_0 (pc := 37) hc dX3_goes_37 ?_
            refine wt_dup (pc := 38) hc dX3_goes_38 rfl ?_
            refine tw_get (pc := 39) 20 (nI q) hc hE dX3_goes_39 q1624 (by decide) (fun _ _ _ => rfl) rfl (rfl) ?_
            refine wt_iconst (pc := 42) (v := nI 1) hc dX3_goes_42 (by decide) ?_
            refine wt_iadd (pc := 43) hc dX3_goes_43 ?_
            rw [nI_add q 1]
            refine tw_put (pc := 44) 20 hc hE dX3_goes_44 q1624 (by decide) (fun _ _ _ => rfl) rfl rfl (rfl) rfl ?_
            refine tw_eq (wt_up2_up2 _ _ _ _ _) ?_
            refine wt_goto (pc := 47) 0 hc dX3_goes_47 (by decide) ?_
            first | (rw [if_pos (Or.inl c_21)] at hv; exact ih (q + 1) (by omega) hv) | (rw [if_pos (Or.inr c_34)] at hv; exact ih (q + 1) (by omega) hv)
  have s0 := skip (n - p) p (by omega) rfl
  refine tw_eq ?_ s0
  rw [← e20, wt_up2_id]
end TQ
